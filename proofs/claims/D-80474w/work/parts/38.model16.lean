/-! MODEL 16: figure -/
theorem pDig_d {T : List Int32} {m : Bool} {q d : Nat} {v : Int} (hq : q < T.length) (h : hr T q = nI (48 + d)) (hd : d ≤ 9) : pDig T m (T.length + 1 - q) q v = if 10 * v - (d : Int) < (if m = true then -9223372036854775808 else -9223372036854775807) then (q, none) else pDig T m (T.length + 1 - (q + 1)) (q + 1) (10 * v - (d : Int)) := by
  have hD : isD (hr T q) = true := by
    rw [h]
    rcases (show d = 0 ∨ d = 1 ∨ d = 2 ∨ d = 3 ∨ d = 4 ∨ d = 5 ∨ d = 6 ∨ d = 7 ∨ d = 8 ∨ d = 9 by omega) with rfl | rfl | rfl | rfl | rfl | rfl | rfl | rfl | rfl | rfl <;> decide
  rw [show T.length + 1 - q = T.length + 1 - (q + 1) + 1 by omega, pDig, if_pos hD, h, nI_toInt (by omega)]
  rw [show 10 * v - (((48 + d : Nat) : Int) - 48) = 10 * v - (d : Int) by omega]
theorem pDig_n {T : List Int32} {m : Bool} {q : Nat} {v : Int} (hq : q ≤ T.length) (h : isD (hr T q) = false) : pDig T m (T.length + 1 - q) q v = (q, some (Int64.ofInt (if m = true then v else -v))) := by
  rw [show T.length + 1 - q = T.length - q + 1 by omega, pDig, if_neg (by rw [h]; decide)]
def fgS (T : List Int32) (q : Nat × Bool) : Nat × Option Int64 := if q.2 = true then (q.1, none) else pFg T q.1
/-- the place, whether it is stuck, and the number that was read, if it isn't -/
def RFg (G : gG) (a : Nat) (I : Nat → Int32) (P : Nat → Nat → Int32) (Q : Nat → Nat → Int64) (M0 : gM) (q : Nat × Option Int64) : gRes → gM → Prop := fun res M' => res = .inl none ∧ ∃ J : Nat → Int64, M' = mkM G a (iP I (nI q.1) (gB q.2.isNone)) J P Q M0 ∧ ∀ v, q.2 = some v → J 2 = v
theorem RFg_i {G : gG} {a : Nat} {I I' : Nat → Int32} {J : Nat → Int64} {P : Nat → Nat → Int32} {Q : Nat → Nat → Int64} {M0 : gM} {q : Nat × Option Int64} {p : Nat} {o : Option Int64} (h : q = (p, o)) (hI : I' = iP I (nI p) (gB o.isNone)) (hv : ∀ v, o = some v → J 2 = v) : RFg G a I P Q M0 q (.inl none) (mkM G a I' J P Q M0) := by
  subst h
  exact ⟨rfl, J, by rw [hI], hv⟩
theorem iP_9 {I : Nat → Int32} {p s : Int32} (h : I 10 = s) : va_up I 9 p = iP I p s := by
  funext q
  unfold iP
  by_cases a : q = 10
  · subst a; rw [va_up_self, va_up_ne _ _ (by decide), h]
  · rw [va_up_ne _ _ a]
theorem m_if {l : Launch} {G : gG} {a : Nat} {I : Nat → Int32} {J : Nat → Int64} {P : Nat → Nat → Int32} {Q : Nat → Nat → Int64} {M0 : gM} {T : List Int32} {p : Nat} (h : HT T I P) (hp : I 9 = nI p) (hb : p < 2 ^ 30) : gMet l yX4_isFigure (gWs yX4_isFigure cX4_isFigure 1 (some .boolean) []) ({ frames := 1, cells := 0, slots := 0, locals := 25 } : Room) G [.ref a] (mkM G a I J P Q M0) (gRv (.int (gB (isD (hr T p)))) (mkM G a I J P Q M0)) := by
  unfold isD
  rw [← h.hv p]
  exact m_isFigure hp h.1 h.2.1 hb
theorem HT.up9 {T : List Int32} {I : Nat → Int32} {P : Nat → Nat → Int32} (h : HT T I P) (p : Int32) : HT T (va_up I 9 p) P := ⟨h.1, h.2.1, h.2.2⟩
theorem sub48 (d : Nat) : nI (48 + d) - 48 = nI d := (pk_sub (a := 48 + d) (b := 48) (by omega)).trans (by rw [Nat.add_sub_cancel_left])
theorem neg_d {d : Nat} (h : d ≤ 9) : (-(nI d)).toInt64.toInt = -(d : Int) := by rw [z_i, sb_negT (by omega)]
theorem fg_m {T : List Int32} {p : Nat} (h1 : hr T p = 45) (h2 : isD (hr T (p + 1)) = true) (h3 : ¬ hr T (p + 1) = 48) : pFg T p = pDig T true (T.length + 1 - (p + 1)) (p + 1) 0 := by
  unfold pFg
  rw [if_pos h1, if_neg]
  rintro (q | q)
  · rw [h2] at q; cases q
  · exact h3 q
theorem fg_p {T : List Int32} {p : Nat} (h1 : ¬ hr T p = 45) (h2 : isD (hr T p) = true) (h3 : ¬ hr T p = 48) : pFg T p = pDig T false (T.length + 1 - p) p 0 := by
  unfold pFg
  rw [if_neg h1, if_neg (by rw [h2]; decide), if_neg h3]
theorem ofI (v : Int64) : Int64.ofInt v.toInt = v := Int64.ofInt_toInt v
set_option maxHeartbeats 4000000 in
theorem m_figure {l : Launch} {G : gG} {a : Nat} {I : Nat → Int32} {J : Nat → Int64} {P : Nat → Nat → Int32} {Q : Nat → Nat → Int64} {M0 : gM} {T : List Int32} (hT : HT T I P) {p : Nat} {s : Bool} (hp : I 9 = nI p) (hs : I 10 = gB s) (hb : p ≤ T.length) : gMet l yX4_figure (gWs yX4_figure cX4_figure 7 none []) ({ frames := 2, cells := 0, slots := 0, locals := 45 } : Room) G [.ref a] (mkM G a I J P Q M0) (RFg G a I P Q M0 (fgS T (p, s))) := by
  refine gMet.intro (by decide) (Nat.le_of_ble_eq_true rfl) (fun C hl hC hN => ?_)
  subst hl
  replace hC : Ck G C [] cX4_figure RX4 7 none ({ frames := 2, cells := 0, slots := 0, locals := 45 } : Room) (RFg G a I P Q M0 (fgS T (p, s))) := hC
  refine V.loc [some (.ref a)] ⟨rfl, trivial⟩ ?_
  have h300 := hT.2.1
  refine V_aload_n hC dX4_figure_0 rfl ?_
  refine mg_stuck hC dX4_figure_1 ?_
  rw [hs]
  refine V_ifb_eq (tgt := 8) hC dX4_figure_4 (by decide) (fun c4 => ?_) (fun c4 => ?_)
  · subst c4
    refine V_aload_n hC dX4_figure_8 rfl ?_
    refine mc0v hC (m_he hT hp (by omega)) rfl mw_here ⟨⟨(Nat.le_of_ble_eq_true rfl), (Nat.le_of_ble_eq_true rfl)⟩, rfl, rfl⟩ ⟨(Nat.le_of_ble_eq_true rfl), (Nat.le_of_ble_eq_true rfl)⟩ (Nat.le_of_ble_eq_true rfl) dX4_figure_9 ?_
    refine V_bipush (v := 45) hC dX4_figure_12 (by decide) ?_
    refine V_icmp_ne (tgt := 21) hC dX4_figure_14 (by decide) (fun c14 => ?_) (fun c14 => ?_)
    · refine V_iconst (v := 0) hC dX4_figure_21 (by decide) ?_
      refine V_istore_n hC dX4_figure_22 (Nat.le_of_ble_eq_true rfl) ?_
      have loop : ∀ (fuel : Nat) (q : Nat) (v : Int64) (K : Nat → Int64), T.length < q + fuel → q ≤ T.length → -9223372036854775807 ≤ v.toInt → v.toInt ≤ 0 → pDig T false (T.length + 1 - q) q v.toInt = pFg T p → V G C (mkM G a (va_up I 9 (nI q)) K P Q M0) 0 0 102 (gl [some (.ref a), some (.int 0), some (.int 0), some (.long v), none]) [] := by
        intro fuel
        induction fuel with
        | zero => intros; omega
        | succ fuel ih =>
          intro q v K h1 h2 h3 h4 h5
          refine V_aload_n hC dX4_figure_102 rfl ?_
          refine mc0v hC (m_if (hT.up9 _) (p := q) rfl (by omega)) rfl mw_isFigure ⟨⟨(Nat.le_of_ble_eq_true rfl), (Nat.le_of_ble_eq_true rfl)⟩, rfl, rfl⟩ ⟨(Nat.le_of_ble_eq_true rfl), (Nat.le_of_ble_eq_true rfl)⟩ (Nat.le_of_ble_eq_true rfl) dX4_figure_103 ?_
          refine V_ifb_eq (tgt := 202) hC dX4_figure_106 (by decide) (fun c106 => ?_) (fun c106 => ?_)
          · refine V_aload_n hC dX4_figure_202 rfl ?_
            refine V_iload_n hC dX4_figure_203 rfl ?_
            refine V_if_eq (tgt := 211) hC dX4_figure_204 (by decide) (fun _ => ?_) (fun c => absurd c (by decide))
            refine V_lload_n hC dX4_figure_211 rfl ?_
            refine V_lneg hC dX4_figure_212 ?_
            refine mp_read hC dX4_figure_213 ?_
            exact V_vret hC dX4_figure_216 (Nat.le_of_ble_eq_true rfl) (Nat.le_of_ble_eq_true rfl) (RFg_i (p := q) (o := some (Int64.ofInt (if false = true then v.toInt else -v.toInt))) (by
                  unfold fgS
                  rw [if_neg (by simp)]
                  show pFg T p = _
                  rw [← h5, pDig_n h2 c106]) (by
                  rw [iP_9 hs]
                  rfl) (fun z hz => by
                  cases hz
                  rw [va_up_self]
                  exact z_eq (z_neg (by omega))))
          · have hq := isD_hr c106
            obtain ⟨d, hd2, hd1⟩ := isD_d c106
            have hK : (-922337203685477580 : Int64).toInt = -922337203685477580 := by decide
            refine V_iload_n hC dX4_figure_109 rfl ?_
            refine V_if_ne (tgt := 202) hC dX4_figure_110 (by decide) (fun c => absurd c (by decide)) (fun _ => ?_)
            refine V_aload_n hC dX4_figure_113 rfl ?_
            refine mg_stuck hC dX4_figure_114 ?_
            refine V_seti (y := 0) hs ?_
            refine V_if_ne (tgt := 202) hC dX4_figure_117 (by decide) (fun c => absurd c (by decide)) (fun _ => ?_)
            refine V_aload_n hC dX4_figure_120 rfl ?_
            refine mc0v hC (m_he (hT.up9 _) (p := q) rfl (by omega)) rfl mw_here ⟨⟨(Nat.le_of_ble_eq_true rfl), (Nat.le_of_ble_eq_true rfl)⟩, rfl, rfl⟩ ⟨(Nat.le_of_ble_eq_true rfl), (Nat.le_of_ble_eq_true rfl)⟩ (Nat.le_of_ble_eq_true rfl) dX4_figure_121 ?_
            refine V_bipush (v := 48) hC dX4_figure_124 (by decide) ?_
            refine V_isub hC dX4_figure_126 ?_
            refine V_seti (y := nI d) (by rw [hd1, sub48]) ?_
            refine V_istore hC dX4_figure_127 (Nat.le_of_ble_eq_true rfl) ?_
            refine V_lload_n hC dX4_figure_129 rfl ?_
            refine V_ldc2 hC dX4_figure_130 q1038 ?_
            refine V_lc_lt (tgt := 161) hC dX4_figure_133 rfl dX4_figure_134 (by decide) (fun c134 => ?_) (fun c134 => ?_)
            · refine V_iconst (v := 1) hC dX4_figure_161 (by decide) ?_
              refine V_goto (tgt := 166) hC dX4_figure_162 (by decide) ?_
              refine V_istore hC dX4_figure_166 (Nat.le_of_ble_eq_true rfl) ?_
              have x1 := c134
              rw [Int64.lt_iff_toInt_lt, hK] at x1
              have hmore : 10 * v.toInt - (d : Int) < -9223372036854775807 := by omega
              refine V_aload_n hC dX4_figure_168 rfl ?_
              refine V_iload hC dX4_figure_169 rfl ?_
              refine mp_stuck hC dX4_figure_171 rfl rfl ?_
              refine V_iload hC dX4_figure_174 rfl ?_
              refine V_if_ne (tgt := 199) hC dX4_figure_176 (by decide) (fun _ => ?_) (fun c => absurd c (by decide))
              refine V_goto (tgt := 102) hC dX4_figure_199 (by decide) ?_
              refine V_aload_n hC dX4_figure_102 rfl ?_
              refine mc0v hC (m_if (T := T) (p := q) ⟨hT.1, hT.2.1, hT.2.2⟩ rfl (by omega)) rfl mw_isFigure ⟨⟨(Nat.le_of_ble_eq_true rfl), (Nat.le_of_ble_eq_true rfl)⟩, rfl, rfl⟩ ⟨(Nat.le_of_ble_eq_true rfl), (Nat.le_of_ble_eq_true rfl)⟩ (Nat.le_of_ble_eq_true rfl) dX4_figure_103 ?_
              refine V_ifb_eq (tgt := 202) hC dX4_figure_106 (by decide) (fun c106 => ?_) (fun c106 => ?_)
              · refine V_aload_n hC dX4_figure_202 rfl ?_
                refine V_iload_n hC dX4_figure_203 rfl ?_
                refine V_if_eq (tgt := 211) hC dX4_figure_204 (by decide) (fun _ => ?_) (fun c => absurd c (by decide))
                refine V_lload_n hC dX4_figure_211 rfl ?_
                refine V_lneg hC dX4_figure_212 ?_
                refine mp_read hC dX4_figure_213 ?_
                exact V_vret hC dX4_figure_216 (Nat.le_of_ble_eq_true rfl) (Nat.le_of_ble_eq_true rfl) (RFg_i (p := q) (o := none) (by
                      unfold fgS
                      rw [if_neg (by simp)]
                      show pFg T p = _
                      rw [← h5, pDig_d hq hd1 hd2, if_pos (by simp only [Bool.false_eq_true, if_false]; exact hmore)]) rfl (fun v h => by cases h))
              · refine V_iload_n hC dX4_figure_109 rfl ?_
                refine V_if_ne (tgt := 202) hC dX4_figure_110 (by decide) (fun c => absurd c (by decide)) (fun _ => ?_)
                refine V_aload_n hC dX4_figure_113 rfl ?_
                refine mg_stuck hC dX4_figure_114 ?_
                refine V_seti (y := 1) (va_up_self _ _ _) ?_
                refine V_if_ne (tgt := 202) hC dX4_figure_117 (by decide) (fun _ => ?_) (fun c => absurd c (by decide))
                refine V_aload_n hC dX4_figure_202 rfl ?_
                refine V_iload_n hC dX4_figure_203 rfl ?_
                refine V_if_eq (tgt := 211) hC dX4_figure_204 (by decide) (fun _ => ?_) (fun c => absurd c (by decide))
                refine V_lload_n hC dX4_figure_211 rfl ?_
                refine V_lneg hC dX4_figure_212 ?_
                refine mp_read hC dX4_figure_213 ?_
                exact V_vret hC dX4_figure_216 (Nat.le_of_ble_eq_true rfl) (Nat.le_of_ble_eq_true rfl) (RFg_i (p := q) (o := none) (by
                      unfold fgS
                      rw [if_neg (by simp)]
                      show pFg T p = _
                      rw [← h5, pDig_d hq hd1 hd2, if_pos (by simp only [Bool.false_eq_true, if_false]; exact hmore)]) rfl (fun v h => by cases h))
            · refine V_lload_n hC dX4_figure_137 rfl ?_
              refine V_ldc2 hC dX4_figure_138 q1038 ?_
              refine V_lc_ne (tgt := 165) hC dX4_figure_141 rfl dX4_figure_142 (by decide) (fun c142 => ?_) (fun c142 => ?_)
              · refine V_iconst (v := 0) hC dX4_figure_165 (by decide) ?_
                refine V_istore hC dX4_figure_166 (Nat.le_of_ble_eq_true rfl) ?_
                have x1 := c134
                rw [Int64.lt_iff_toInt_lt, hK] at x1
                have x2 : ¬ v.toInt = -922337203685477580 := fun q => c142 (Int64.toInt_inj.mp (q.trans hK.symm))
                have hless : -9223372036854775807 ≤ 10 * v.toInt - (d : Int) := by omega
                refine V_aload_n hC dX4_figure_168 rfl ?_
                refine V_iload hC dX4_figure_169 rfl ?_
                refine mp_stuck hC dX4_figure_171 rfl rfl ?_
                refine V_iload hC dX4_figure_174 rfl ?_
                refine V_if_ne (tgt := 199) hC dX4_figure_176 (by decide) (fun c => absurd c (by decide)) (fun _ => ?_)
                refine V_ldc2 hC dX4_figure_179 q1039 ?_
                refine V_lload_n hC dX4_figure_182 rfl ?_
                refine V_lmul hC dX4_figure_183 ?_
                refine V_iload hC dX4_figure_184 rfl ?_
                refine V_i2l hC dX4_figure_186 ?_
                refine V_lsub hC dX4_figure_187 ?_
                have hv9 : (10 * v - (nI d).toInt64).toInt = 10 * v.toInt - (d : Int) := by
                  have e10 : (10 : Int64).toInt = 10 := by decide
                  have f1 : (10 * v).toInt = 10 * v.toInt := by rw [z_mul (by rw [e10]; omega) (by rw [e10]; omega), e10]
                  have f2 : (nI d).toInt64.toInt = (d : Int) := by rw [z_i, nI_toInt (by omega)]
                  rw [z_sub (by rw [f1, f2]; omega) (by rw [f1, f2]; omega), f1, f2]
                refine V_lstore_n hC dX4_figure_188 (Nat.le_of_ble_eq_true rfl) ?_
                refine V_aload_n hC dX4_figure_189 rfl ?_
                refine V_dup hC dX4_figure_190 rfl ?_
                refine mg_place hC dX4_figure_191 ?_
                refine V_iconst (v := 1) hC dX4_figure_194 (by decide) ?_
                refine V_iadd hC dX4_figure_195 ?_
                refine mp_place hC dX4_figure_196 ?_
                refine V_goto (tgt := 102) hC dX4_figure_199 (by decide) ?_
                refine V.eqM (show mkM G a _ K P Q M0 = mkM G a (va_up I 9 (nI (q + 1))) K P Q M0 from ?_) (V.loc [some (.ref a), some (.int 0), some (.int 0), some (.long (10 * v - (nI d).toInt64)), none] ⟨rfl, rfl, rfl, rfl, trivial⟩ (ih (q + 1) (10 * v - (nI d).toInt64) K (by omega) (by omega) (by rw [hv9]; omega) (by rw [hv9]; omega) (by rw [hv9, ← h5, pDig_d hq hd1 hd2, if_neg (by simp only [Bool.false_eq_true, if_false]; omega)])))
                show mkM G a (va_up (va_up (va_up I 9 (nI q)) 10 0) 9 (nI q + 1)) K P Q M0 = _
                rw [nI_1]
                refine congrArg (fun z => mkM G a z K P Q M0) ?_
                funext z
                by_cases a1 : z = 9
                · subst a1; rw [va_up_self, va_up_self]
                · rw [va_up_ne _ _ a1, va_up_ne _ _ a1]
                  by_cases a2 : z = 10
                  · subst a2; rw [va_up_self, hs]; rfl
                  · rw [va_up_ne _ _ a2, va_up_ne _ _ a1]
              · refine V_iload hC dX4_figure_145 rfl ?_
                refine V_iload_n hC dX4_figure_147 rfl ?_
                refine V_if_eq (tgt := 156) hC dX4_figure_148 (by decide) (fun _ => ?_) (fun c => absurd c (by decide))
                refine V_bipush (v := 7) hC dX4_figure_156 (by decide) ?_
                refine V_icmp_le (tgt := 165) hC dX4_figure_158 (by decide) (fun c158 => ?_) (fun c158 => ?_)
                · refine V_iconst (v := 0) hC dX4_figure_165 (by decide) ?_
                  refine V_istore hC dX4_figure_166 (Nat.le_of_ble_eq_true rfl) ?_
                  have x1 := c134
                  rw [Int64.lt_iff_toInt_lt, hK] at x1
                  have x2 : v.toInt = -922337203685477580 := by rw [c142]; exact hK
                  have x3 := c158
                  rw [Int32.le_iff_toInt_le, nI_toInt (show d < 2 ^ 31 by omega), show (7 : Int32).toInt = 7 by decide] at x3
                  have hless : -9223372036854775807 ≤ 10 * v.toInt - (d : Int) := by omega
                  refine V_aload_n hC dX4_figure_168 rfl ?_
                  refine V_iload hC dX4_figure_169 rfl ?_
                  refine mp_stuck hC dX4_figure_171 rfl rfl ?_
                  refine V_iload hC dX4_figure_174 rfl ?_
                  refine V_if_ne (tgt := 199) hC dX4_figure_176 (by decide) (fun c => absurd c (by decide)) (fun _ => ?_)
                  refine V_ldc2 hC dX4_figure_179 q1039 ?_
                  refine V_lload_n hC dX4_figure_182 rfl ?_
                  refine V_lmul hC dX4_figure_183 ?_
                  refine V_iload hC dX4_figure_184 rfl ?_
                  refine V_i2l hC dX4_figure_186 ?_
                  refine V_lsub hC dX4_figure_187 ?_
                  have hv9 : (10 * v - (nI d).toInt64).toInt = 10 * v.toInt - (d : Int) := by
                    have e10 : (10 : Int64).toInt = 10 := by decide
                    have f1 : (10 * v).toInt = 10 * v.toInt := by rw [z_mul (by rw [e10]; omega) (by rw [e10]; omega), e10]
                    have f2 : (nI d).toInt64.toInt = (d : Int) := by rw [z_i, nI_toInt (by omega)]
                    rw [z_sub (by rw [f1, f2]; omega) (by rw [f1, f2]; omega), f1, f2]
                  refine V_lstore_n hC dX4_figure_188 (Nat.le_of_ble_eq_true rfl) ?_
                  refine V_aload_n hC dX4_figure_189 rfl ?_
                  refine V_dup hC dX4_figure_190 rfl ?_
                  refine mg_place hC dX4_figure_191 ?_
                  refine V_iconst (v := 1) hC dX4_figure_194 (by decide) ?_
                  refine V_iadd hC dX4_figure_195 ?_
                  refine mp_place hC dX4_figure_196 ?_
                  refine V_goto (tgt := 102) hC dX4_figure_199 (by decide) ?_
                  refine V.eqM (show mkM G a _ K P Q M0 = mkM G a (va_up I 9 (nI (q + 1))) K P Q M0 from ?_) (V.loc [some (.ref a), some (.int 0), some (.int 0), some (.long (10 * v - (nI d).toInt64)), none] ⟨rfl, rfl, rfl, rfl, trivial⟩ (ih (q + 1) (10 * v - (nI d).toInt64) K (by omega) (by omega) (by rw [hv9]; omega) (by rw [hv9]; omega) (by rw [hv9, ← h5, pDig_d hq hd1 hd2, if_neg (by simp only [Bool.false_eq_true, if_false]; omega)])))
                  show mkM G a (va_up (va_up (va_up I 9 (nI q)) 10 0) 9 (nI q + 1)) K P Q M0 = _
                  rw [nI_1]
                  refine congrArg (fun z => mkM G a z K P Q M0) ?_
                  funext z
                  by_cases a1 : z = 9
                  · subst a1; rw [va_up_self, va_up_self]
                  · rw [va_up_ne _ _ a1, va_up_ne _ _ a1]
                    by_cases a2 : z = 10
                    · subst a2; rw [va_up_self, hs]; rfl
                    · rw [va_up_ne _ _ a2, va_up_ne _ _ a1]
                · refine V_iconst (v := 1) hC dX4_figure_161 (by decide) ?_
                  refine V_goto (tgt := 166) hC dX4_figure_162 (by decide) ?_
                  refine V_istore hC dX4_figure_166 (Nat.le_of_ble_eq_true rfl) ?_
                  have x1 := c134
                  rw [Int64.lt_iff_toInt_lt, hK] at x1
                  have x2 : v.toInt = -922337203685477580 := by rw [c142]; exact hK
                  have x3 := c158
                  rw [Int32.le_iff_toInt_le, nI_toInt (show d < 2 ^ 31 by omega), show (7 : Int32).toInt = 7 by decide] at x3
                  have hmore : 10 * v.toInt - (d : Int) < -9223372036854775807 := by omega
                  refine V_aload_n hC dX4_figure_168 rfl ?_
                  refine V_iload hC dX4_figure_169 rfl ?_
                  refine mp_stuck hC dX4_figure_171 rfl rfl ?_
                  refine V_iload hC dX4_figure_174 rfl ?_
                  refine V_if_ne (tgt := 199) hC dX4_figure_176 (by decide) (fun _ => ?_) (fun c => absurd c (by decide))
                  refine V_goto (tgt := 102) hC dX4_figure_199 (by decide) ?_
                  refine V_aload_n hC dX4_figure_102 rfl ?_
                  refine mc0v hC (m_if (T := T) (p := q) ⟨hT.1, hT.2.1, hT.2.2⟩ rfl (by omega)) rfl mw_isFigure ⟨⟨(Nat.le_of_ble_eq_true rfl), (Nat.le_of_ble_eq_true rfl)⟩, rfl, rfl⟩ ⟨(Nat.le_of_ble_eq_true rfl), (Nat.le_of_ble_eq_true rfl)⟩ (Nat.le_of_ble_eq_true rfl) dX4_figure_103 ?_
                  refine V_ifb_eq (tgt := 202) hC dX4_figure_106 (by decide) (fun c106 => ?_) (fun c106 => ?_)
                  · refine V_aload_n hC dX4_figure_202 rfl ?_
                    refine V_iload_n hC dX4_figure_203 rfl ?_
                    refine V_if_eq (tgt := 211) hC dX4_figure_204 (by decide) (fun _ => ?_) (fun c => absurd c (by decide))
                    refine V_lload_n hC dX4_figure_211 rfl ?_
                    refine V_lneg hC dX4_figure_212 ?_
                    refine mp_read hC dX4_figure_213 ?_
                    exact V_vret hC dX4_figure_216 (Nat.le_of_ble_eq_true rfl) (Nat.le_of_ble_eq_true rfl) (RFg_i (p := q) (o := none) (by
                          unfold fgS
                          rw [if_neg (by simp)]
                          show pFg T p = _
                          rw [← h5, pDig_d hq hd1 hd2, if_pos (by simp only [Bool.false_eq_true, if_false]; exact hmore)]) rfl (fun v h => by cases h))
                  · refine V_iload_n hC dX4_figure_109 rfl ?_
                    refine V_if_ne (tgt := 202) hC dX4_figure_110 (by decide) (fun c => absurd c (by decide)) (fun _ => ?_)
                    refine V_aload_n hC dX4_figure_113 rfl ?_
                    refine mg_stuck hC dX4_figure_114 ?_
                    refine V_seti (y := 1) (va_up_self _ _ _) ?_
                    refine V_if_ne (tgt := 202) hC dX4_figure_117 (by decide) (fun _ => ?_) (fun c => absurd c (by decide))
                    refine V_aload_n hC dX4_figure_202 rfl ?_
                    refine V_iload_n hC dX4_figure_203 rfl ?_
                    refine V_if_eq (tgt := 211) hC dX4_figure_204 (by decide) (fun _ => ?_) (fun c => absurd c (by decide))
                    refine V_lload_n hC dX4_figure_211 rfl ?_
                    refine V_lneg hC dX4_figure_212 ?_
                    refine mp_read hC dX4_figure_213 ?_
                    exact V_vret hC dX4_figure_216 (Nat.le_of_ble_eq_true rfl) (Nat.le_of_ble_eq_true rfl) (RFg_i (p := q) (o := none) (by
                          unfold fgS
                          rw [if_neg (by simp)]
                          show pFg T p = _
                          rw [← h5, pDig_d hq hd1 hd2, if_pos (by simp only [Bool.false_eq_true, if_false]; exact hmore)]) rfl (fun v h => by cases h))
      refine V_aload_n hC dX4_figure_23 rfl ?_
      refine V_dup hC dX4_figure_24 rfl ?_
      refine mg_place hC dX4_figure_25 ?_
      refine V_iload_n hC dX4_figure_28 rfl ?_
      refine V_if_eq (tgt := 36) hC dX4_figure_29 (by decide) (fun _ => ?_) (fun c => absurd c (by decide))
      refine V_iconst (v := 0) hC dX4_figure_36 (by decide) ?_
      refine V_iadd hC dX4_figure_37 ?_
      refine mp_place hC dX4_figure_38 ?_
      refine V.eqM (show mkM G a (va_up I 9 (I 9 + 0)) J P Q M0 = mkM G a (va_up I 9 (nI p)) J P Q M0 by rw [hp, show nI p + 0 = nI p from (by have := nI_add p 0; exact this)]) ?_
      refine V_aload_n hC dX4_figure_41 rfl ?_
      refine mc0v hC (m_if (hT.up9 _) (p := p) rfl (by omega)) rfl mw_isFigure ⟨⟨(Nat.le_of_ble_eq_true rfl), (Nat.le_of_ble_eq_true rfl)⟩, rfl, rfl⟩ ⟨(Nat.le_of_ble_eq_true rfl), (Nat.le_of_ble_eq_true rfl)⟩ (Nat.le_of_ble_eq_true rfl) dX4_figure_42 ?_
      refine V_ifb_eq (tgt := 61) hC dX4_figure_45 (by decide) (fun c45 => ?_) (fun c45 => ?_)
      · refine V_aload_n hC dX4_figure_61 rfl ?_
        refine V_iconst (v := 1) hC dX4_figure_62 (by decide) ?_
        refine mp_stuck hC dX4_figure_63 rfl rfl ?_
        exact V_vret hC dX4_figure_66 (Nat.le_of_ble_eq_true rfl) (Nat.le_of_ble_eq_true rfl) (RFg_i (p := p) (o := none) (by unfold fgS pFg; rw [if_neg (by simp), if_neg c14, if_pos c45]) rfl (fun v h => by cases h))
      · refine V_iload_n hC dX4_figure_48 rfl ?_
        refine V_if_eq (tgt := 67) hC dX4_figure_49 (by decide) (fun _ => ?_) (fun c => absurd c (by decide))
        refine V_aload_n hC dX4_figure_67 rfl ?_
        refine mc0v hC (m_he (hT.up9 _) (p := p) rfl (by omega)) rfl mw_here ⟨⟨(Nat.le_of_ble_eq_true rfl), (Nat.le_of_ble_eq_true rfl)⟩, rfl, rfl⟩ ⟨(Nat.le_of_ble_eq_true rfl), (Nat.le_of_ble_eq_true rfl)⟩ (Nat.le_of_ble_eq_true rfl) dX4_figure_68 ?_
        refine V_bipush (v := 48) hC dX4_figure_71 (by decide) ?_
        refine V_icmp_ne (tgt := 80) hC dX4_figure_73 (by decide) (fun c73 => ?_) (fun c73 => ?_)
        · refine V_iconst (v := 0) hC dX4_figure_80 (by decide) ?_
          refine V_istore_n hC dX4_figure_81 (Nat.le_of_ble_eq_true rfl) ?_
          refine V_aload_n hC dX4_figure_82 rfl ?_
          refine mc0v hC (m_he (hT.up9 _) (p := p) rfl (by omega)) rfl mw_here ⟨⟨(Nat.le_of_ble_eq_true rfl), (Nat.le_of_ble_eq_true rfl)⟩, rfl, rfl⟩ ⟨(Nat.le_of_ble_eq_true rfl), (Nat.le_of_ble_eq_true rfl)⟩ (Nat.le_of_ble_eq_true rfl) dX4_figure_83 ?_
          refine V_bipush (v := 48) hC dX4_figure_86 (by decide) ?_
          refine V_isub hC dX4_figure_88 ?_
          refine V_ineg hC dX4_figure_89 ?_
          refine V_i2l hC dX4_figure_90 ?_
          refine V_lstore_n hC dX4_figure_91 (Nat.le_of_ble_eq_true rfl) ?_
          refine V_aload_n hC dX4_figure_92 rfl ?_
          refine V_dup hC dX4_figure_93 rfl ?_
          refine mg_place hC dX4_figure_94 ?_
          refine V_iconst (v := 1) hC dX4_figure_97 (by decide) ?_
          refine V_iadd hC dX4_figure_98 ?_
          refine mp_place hC dX4_figure_99 ?_
          refine V.eqM (show mkM G a (va_up (va_up I 9 (nI p)) 9 (nI p + 1)) J P Q M0 = mkM G a (va_up I 9 (nI (p + 1))) J P Q M0 by rw [gUU, nI_1]) ?_
          obtain ⟨d, hd2, hd1⟩ := isD_d c45
          refine V.loc [some (.ref a), some (.int 0), some (.int 0), some (.long ((-(hr T p - 48)).toInt64)), none] ⟨rfl, rfl, rfl, rfl, trivial⟩ (loop (T.length + 1) (p + 1) _ J (by omega) (isD_hr c45) ?_ ?_ ?_)
          · rw [hd1, sub48, neg_d hd2]; omega
          · rw [hd1, sub48, neg_d hd2]; omega
          · rw [hd1, sub48, neg_d hd2]
            rw [fg_p c14 c45 c73, pDig_d (isD_hr c45) hd1 hd2, if_neg (by simp only [Bool.false_eq_true, if_false]; omega)]
            rw [show (10 : Int) * 0 - (d : Int) = -(d : Int) by omega]
        · refine V_iconst (v := 1) hC dX4_figure_76 (by decide) ?_
          refine V_goto (tgt := 81) hC dX4_figure_77 (by decide) ?_
          refine V_istore_n hC dX4_figure_81 (Nat.le_of_ble_eq_true rfl) ?_
          refine V_aload_n hC dX4_figure_82 rfl ?_
          refine mc0v hC (m_he (hT.up9 _) (p := p) rfl (by omega)) rfl mw_here ⟨⟨(Nat.le_of_ble_eq_true rfl), (Nat.le_of_ble_eq_true rfl)⟩, rfl, rfl⟩ ⟨(Nat.le_of_ble_eq_true rfl), (Nat.le_of_ble_eq_true rfl)⟩ (Nat.le_of_ble_eq_true rfl) dX4_figure_83 ?_
          refine V_bipush (v := 48) hC dX4_figure_86 (by decide) ?_
          refine V_isub hC dX4_figure_88 ?_
          refine V_ineg hC dX4_figure_89 ?_
          refine V_i2l hC dX4_figure_90 ?_
          refine V_lstore_n hC dX4_figure_91 (Nat.le_of_ble_eq_true rfl) ?_
          refine V_aload_n hC dX4_figure_92 rfl ?_
          refine V_dup hC dX4_figure_93 rfl ?_
          refine mg_place hC dX4_figure_94 ?_
          refine V_iconst (v := 1) hC dX4_figure_97 (by decide) ?_
          refine V_iadd hC dX4_figure_98 ?_
          refine mp_place hC dX4_figure_99 ?_
          refine V.eqM (show mkM G a (va_up (va_up I 9 (nI p)) 9 (nI p + 1)) J P Q M0 = mkM G a (va_up I 9 (nI (p + 1))) J P Q M0 by rw [gUU, nI_1]) ?_
          refine V_aload_n hC dX4_figure_102 rfl ?_
          refine mc0v hC (m_if (hT.up9 _) (p := p + 1) rfl (by omega)) rfl mw_isFigure ⟨⟨(Nat.le_of_ble_eq_true rfl), (Nat.le_of_ble_eq_true rfl)⟩, rfl, rfl⟩ ⟨(Nat.le_of_ble_eq_true rfl), (Nat.le_of_ble_eq_true rfl)⟩ (Nat.le_of_ble_eq_true rfl) dX4_figure_103 ?_
          refine V_ifb_eq (tgt := 202) hC dX4_figure_106 (by decide) (fun c106 => ?_) (fun c106 => ?_)
          · refine V_aload_n hC dX4_figure_202 rfl ?_
            refine V_iload_n hC dX4_figure_203 rfl ?_
            refine V_if_eq (tgt := 211) hC dX4_figure_204 (by decide) (fun _ => ?_) (fun c => absurd c (by decide))
            refine V_lload_n hC dX4_figure_211 rfl ?_
            refine V_lneg hC dX4_figure_212 ?_
            refine mp_read hC dX4_figure_213 ?_
            exact V_vret hC dX4_figure_216 (Nat.le_of_ble_eq_true rfl) (Nat.le_of_ble_eq_true rfl) (RFg_i (p := p + 1) (o := some 0) (by unfold fgS pFg; rw [if_neg (by simp), if_neg c14, if_neg (by rw [c45]; decide), if_pos c73]) (by rw [iP_9 hs]; rfl) (fun v h => by cases h; rw [va_up_self, c73]; decide))
          · refine V_iload_n hC dX4_figure_109 rfl ?_
            refine V_if_ne (tgt := 202) hC dX4_figure_110 (by decide) (fun _ => ?_) (fun c => absurd c (by decide))
            refine V_aload_n hC dX4_figure_202 rfl ?_
            refine V_iload_n hC dX4_figure_203 rfl ?_
            refine V_if_eq (tgt := 211) hC dX4_figure_204 (by decide) (fun _ => ?_) (fun c => absurd c (by decide))
            refine V_lload_n hC dX4_figure_211 rfl ?_
            refine V_lneg hC dX4_figure_212 ?_
            refine mp_read hC dX4_figure_213 ?_
            exact V_vret hC dX4_figure_216 (Nat.le_of_ble_eq_true rfl) (Nat.le_of_ble_eq_true rfl) (RFg_i (p := p + 1) (o := some 0) (by unfold fgS pFg; rw [if_neg (by simp), if_neg c14, if_neg (by rw [c45]; decide), if_pos c73]) (by rw [iP_9 hs]; rfl) (fun v h => by cases h; rw [va_up_self, c73]; decide))
    · refine V_iconst (v := 1) hC dX4_figure_17 (by decide) ?_
      refine V_goto (tgt := 22) hC dX4_figure_18 (by decide) ?_
      refine V_istore_n hC dX4_figure_22 (Nat.le_of_ble_eq_true rfl) ?_
      have loop : ∀ (fuel : Nat) (q : Nat) (v : Int64) (K : Nat → Int64), T.length < q + fuel → q ≤ T.length → -9223372036854775808 ≤ v.toInt → v.toInt ≤ 0 → pDig T true (T.length + 1 - q) q v.toInt = pFg T p → V G C (mkM G a (va_up I 9 (nI q)) K P Q M0) 0 0 102 (gl [some (.ref a), some (.int 1), some (.int 0), some (.long v), none]) [] := by
        intro fuel
        induction fuel with
        | zero => intros; omega
        | succ fuel ih =>
          intro q v K h1 h2 h3 h4 h5
          refine V_aload_n hC dX4_figure_102 rfl ?_
          refine mc0v hC (m_if (hT.up9 _) (p := q) rfl (by omega)) rfl mw_isFigure ⟨⟨(Nat.le_of_ble_eq_true rfl), (Nat.le_of_ble_eq_true rfl)⟩, rfl, rfl⟩ ⟨(Nat.le_of_ble_eq_true rfl), (Nat.le_of_ble_eq_true rfl)⟩ (Nat.le_of_ble_eq_true rfl) dX4_figure_103 ?_
          refine V_ifb_eq (tgt := 202) hC dX4_figure_106 (by decide) (fun c106 => ?_) (fun c106 => ?_)
          · refine V_aload_n hC dX4_figure_202 rfl ?_
            refine V_iload_n hC dX4_figure_203 rfl ?_
            refine V_if_eq (tgt := 211) hC dX4_figure_204 (by decide) (fun c => absurd c (by decide)) (fun _ => ?_)
            refine V_lload_n hC dX4_figure_207 rfl ?_
            refine V_goto (tgt := 213) hC dX4_figure_208 (by decide) ?_
            refine mp_read hC dX4_figure_213 ?_
            exact V_vret hC dX4_figure_216 (Nat.le_of_ble_eq_true rfl) (Nat.le_of_ble_eq_true rfl) (RFg_i (p := q) (o := some (Int64.ofInt (if true = true then v.toInt else -v.toInt))) (by
                  unfold fgS
                  rw [if_neg (by simp)]
                  show pFg T p = _
                  rw [← h5, pDig_n h2 c106]) (by
                  rw [iP_9 hs]
                  rfl) (fun z hz => by
                  cases hz
                  rw [va_up_self]
                  exact (ofI v).symm))
          · have hq := isD_hr c106
            obtain ⟨d, hd2, hd1⟩ := isD_d c106
            have hK : (-922337203685477580 : Int64).toInt = -922337203685477580 := by decide
            refine V_iload_n hC dX4_figure_109 rfl ?_
            refine V_if_ne (tgt := 202) hC dX4_figure_110 (by decide) (fun c => absurd c (by decide)) (fun _ => ?_)
            refine V_aload_n hC dX4_figure_113 rfl ?_
            refine mg_stuck hC dX4_figure_114 ?_
            refine V_seti (y := 0) hs ?_
            refine V_if_ne (tgt := 202) hC dX4_figure_117 (by decide) (fun c => absurd c (by decide)) (fun _ => ?_)
            refine V_aload_n hC dX4_figure_120 rfl ?_
            refine mc0v hC (m_he (hT.up9 _) (p := q) rfl (by omega)) rfl mw_here ⟨⟨(Nat.le_of_ble_eq_true rfl), (Nat.le_of_ble_eq_true rfl)⟩, rfl, rfl⟩ ⟨(Nat.le_of_ble_eq_true rfl), (Nat.le_of_ble_eq_true rfl)⟩ (Nat.le_of_ble_eq_true rfl) dX4_figure_121 ?_
            refine V_bipush (v := 48) hC dX4_figure_124 (by decide) ?_
            refine V_isub hC dX4_figure_126 ?_
            refine V_seti (y := nI d) (by rw [hd1, sub48]) ?_
            refine V_istore hC dX4_figure_127 (Nat.le_of_ble_eq_true rfl) ?_
            refine V_lload_n hC dX4_figure_129 rfl ?_
            refine V_ldc2 hC dX4_figure_130 q1038 ?_
            refine V_lc_lt (tgt := 161) hC dX4_figure_133 rfl dX4_figure_134 (by decide) (fun c134 => ?_) (fun c134 => ?_)
            · refine V_iconst (v := 1) hC dX4_figure_161 (by decide) ?_
              refine V_goto (tgt := 166) hC dX4_figure_162 (by decide) ?_
              refine V_istore hC dX4_figure_166 (Nat.le_of_ble_eq_true rfl) ?_
              have x1 := c134
              rw [Int64.lt_iff_toInt_lt, hK] at x1
              have hmore : 10 * v.toInt - (d : Int) < -9223372036854775808 := by omega
              refine V_aload_n hC dX4_figure_168 rfl ?_
              refine V_iload hC dX4_figure_169 rfl ?_
              refine mp_stuck hC dX4_figure_171 rfl rfl ?_
              refine V_iload hC dX4_figure_174 rfl ?_
              refine V_if_ne (tgt := 199) hC dX4_figure_176 (by decide) (fun _ => ?_) (fun c => absurd c (by decide))
              refine V_goto (tgt := 102) hC dX4_figure_199 (by decide) ?_
              refine V_aload_n hC dX4_figure_102 rfl ?_
              refine mc0v hC (m_if (T := T) (p := q) ⟨hT.1, hT.2.1, hT.2.2⟩ rfl (by omega)) rfl mw_isFigure ⟨⟨(Nat.le_of_ble_eq_true rfl), (Nat.le_of_ble_eq_true rfl)⟩, rfl, rfl⟩ ⟨(Nat.le_of_ble_eq_true rfl), (Nat.le_of_ble_eq_true rfl)⟩ (Nat.le_of_ble_eq_true rfl) dX4_figure_103 ?_
              refine V_ifb_eq (tgt := 202) hC dX4_figure_106 (by decide) (fun c106 => ?_) (fun c106 => ?_)
              · refine V_aload_n hC dX4_figure_202 rfl ?_
                refine V_iload_n hC dX4_figure_203 rfl ?_
                refine V_if_eq (tgt := 211) hC dX4_figure_204 (by decide) (fun c => absurd c (by decide)) (fun _ => ?_)
                refine V_lload_n hC dX4_figure_207 rfl ?_
                refine V_goto (tgt := 213) hC dX4_figure_208 (by decide) ?_
                refine mp_read hC dX4_figure_213 ?_
                exact V_vret hC dX4_figure_216 (Nat.le_of_ble_eq_true rfl) (Nat.le_of_ble_eq_true rfl) (RFg_i (p := q) (o := none) (by
                      unfold fgS
                      rw [if_neg (by simp)]
                      show pFg T p = _
                      rw [← h5, pDig_d hq hd1 hd2, if_pos (by simp only [if_true]; exact hmore)]) rfl (fun v h => by cases h))
              · refine V_iload_n hC dX4_figure_109 rfl ?_
                refine V_if_ne (tgt := 202) hC dX4_figure_110 (by decide) (fun c => absurd c (by decide)) (fun _ => ?_)
                refine V_aload_n hC dX4_figure_113 rfl ?_
                refine mg_stuck hC dX4_figure_114 ?_
                refine V_seti (y := 1) (va_up_self _ _ _) ?_
                refine V_if_ne (tgt := 202) hC dX4_figure_117 (by decide) (fun _ => ?_) (fun c => absurd c (by decide))
                refine V_aload_n hC dX4_figure_202 rfl ?_
                refine V_iload_n hC dX4_figure_203 rfl ?_
                refine V_if_eq (tgt := 211) hC dX4_figure_204 (by decide) (fun c => absurd c (by decide)) (fun _ => ?_)
                refine V_lload_n hC dX4_figure_207 rfl ?_
                refine V_goto (tgt := 213) hC dX4_figure_208 (by decide) ?_
                refine mp_read hC dX4_figure_213 ?_
                exact V_vret hC dX4_figure_216 (Nat.le_of_ble_eq_true rfl) (Nat.le_of_ble_eq_true rfl) (RFg_i (p := q) (o := none) (by
                      unfold fgS
                      rw [if_neg (by simp)]
                      show pFg T p = _
                      rw [← h5, pDig_d hq hd1 hd2, if_pos (by simp only [if_true]; exact hmore)]) rfl (fun v h => by cases h))
            · refine V_lload_n hC dX4_figure_137 rfl ?_
              refine V_ldc2 hC dX4_figure_138 q1038 ?_
              refine V_lc_ne (tgt := 165) hC dX4_figure_141 rfl dX4_figure_142 (by decide) (fun c142 => ?_) (fun c142 => ?_)
              · refine V_iconst (v := 0) hC dX4_figure_165 (by decide) ?_
                refine V_istore hC dX4_figure_166 (Nat.le_of_ble_eq_true rfl) ?_
                have x1 := c134
                rw [Int64.lt_iff_toInt_lt, hK] at x1
                have x2 : ¬ v.toInt = -922337203685477580 := fun q => c142 (Int64.toInt_inj.mp (q.trans hK.symm))
                have hless : -9223372036854775808 ≤ 10 * v.toInt - (d : Int) := by omega
                refine V_aload_n hC dX4_figure_168 rfl ?_
                refine V_iload hC dX4_figure_169 rfl ?_
                refine mp_stuck hC dX4_figure_171 rfl rfl ?_
                refine V_iload hC dX4_figure_174 rfl ?_
                refine V_if_ne (tgt := 199) hC dX4_figure_176 (by decide) (fun c => absurd c (by decide)) (fun _ => ?_)
                refine V_ldc2 hC dX4_figure_179 q1039 ?_
                refine V_lload_n hC dX4_figure_182 rfl ?_
                refine V_lmul hC dX4_figure_183 ?_
                refine V_iload hC dX4_figure_184 rfl ?_
                refine V_i2l hC dX4_figure_186 ?_
                refine V_lsub hC dX4_figure_187 ?_
                have hv9 : (10 * v - (nI d).toInt64).toInt = 10 * v.toInt - (d : Int) := by
                  have e10 : (10 : Int64).toInt = 10 := by decide
                  have f1 : (10 * v).toInt = 10 * v.toInt := by rw [z_mul (by rw [e10]; omega) (by rw [e10]; omega), e10]
                  have f2 : (nI d).toInt64.toInt = (d : Int) := by rw [z_i, nI_toInt (by omega)]
                  rw [z_sub (by rw [f1, f2]; omega) (by rw [f1, f2]; omega), f1, f2]
                refine V_lstore_n hC dX4_figure_188 (Nat.le_of_ble_eq_true rfl) ?_
                refine V_aload_n hC dX4_figure_189 rfl ?_
                refine V_dup hC dX4_figure_190 rfl ?_
                refine mg_place hC dX4_figure_191 ?_
                refine V_iconst (v := 1) hC dX4_figure_194 (by decide) ?_
                refine V_iadd hC dX4_figure_195 ?_
                refine mp_place hC dX4_figure_196 ?_
                refine V_goto (tgt := 102) hC dX4_figure_199 (by decide) ?_
                refine V.eqM (show mkM G a _ K P Q M0 = mkM G a (va_up I 9 (nI (q + 1))) K P Q M0 from ?_) (V.loc [some (.ref a), some (.int 1), some (.int 0), some (.long (10 * v - (nI d).toInt64)), none] ⟨rfl, rfl, rfl, rfl, trivial⟩ (ih (q + 1) (10 * v - (nI d).toInt64) K (by omega) (by omega) (by rw [hv9]; omega) (by rw [hv9]; omega) (by rw [hv9, ← h5, pDig_d hq hd1 hd2, if_neg (by simp only [if_true]; omega)])))
                show mkM G a (va_up (va_up (va_up I 9 (nI q)) 10 0) 9 (nI q + 1)) K P Q M0 = _
                rw [nI_1]
                refine congrArg (fun z => mkM G a z K P Q M0) ?_
                funext z
                by_cases a1 : z = 9
                · subst a1; rw [va_up_self, va_up_self]
                · rw [va_up_ne _ _ a1, va_up_ne _ _ a1]
                  by_cases a2 : z = 10
                  · subst a2; rw [va_up_self, hs]; rfl
                  · rw [va_up_ne _ _ a2, va_up_ne _ _ a1]
              · refine V_iload hC dX4_figure_145 rfl ?_
                refine V_iload_n hC dX4_figure_147 rfl ?_
                refine V_if_eq (tgt := 156) hC dX4_figure_148 (by decide) (fun c => absurd c (by decide)) (fun _ => ?_)
                refine V_bipush (v := 8) hC dX4_figure_151 (by decide) ?_
                refine V_goto (tgt := 158) hC dX4_figure_153 (by decide) ?_
                refine V_icmp_le (tgt := 165) hC dX4_figure_158 (by decide) (fun c158 => ?_) (fun c158 => ?_)
                · refine V_iconst (v := 0) hC dX4_figure_165 (by decide) ?_
                  refine V_istore hC dX4_figure_166 (Nat.le_of_ble_eq_true rfl) ?_
                  have x1 := c134
                  rw [Int64.lt_iff_toInt_lt, hK] at x1
                  have x2 : v.toInt = -922337203685477580 := by rw [c142]; exact hK
                  have x3 := c158
                  rw [Int32.le_iff_toInt_le, nI_toInt (show d < 2 ^ 31 by omega), show (8 : Int32).toInt = 8 by decide] at x3
                  have hless : -9223372036854775808 ≤ 10 * v.toInt - (d : Int) := by omega
                  refine V_aload_n hC dX4_figure_168 rfl ?_
                  refine V_iload hC dX4_figure_169 rfl ?_
                  refine mp_stuck hC dX4_figure_171 rfl rfl ?_
                  refine V_iload hC dX4_figure_174 rfl ?_
                  refine V_if_ne (tgt := 199) hC dX4_figure_176 (by decide) (fun c => absurd c (by decide)) (fun _ => ?_)
                  refine V_ldc2 hC dX4_figure_179 q1039 ?_
                  refine V_lload_n hC dX4_figure_182 rfl ?_
                  refine V_lmul hC dX4_figure_183 ?_
                  refine V_iload hC dX4_figure_184 rfl ?_
                  refine V_i2l hC dX4_figure_186 ?_
                  refine V_lsub hC dX4_figure_187 ?_
                  have hv9 : (10 * v - (nI d).toInt64).toInt = 10 * v.toInt - (d : Int) := by
                    have e10 : (10 : Int64).toInt = 10 := by decide
                    have f1 : (10 * v).toInt = 10 * v.toInt := by rw [z_mul (by rw [e10]; omega) (by rw [e10]; omega), e10]
                    have f2 : (nI d).toInt64.toInt = (d : Int) := by rw [z_i, nI_toInt (by omega)]
                    rw [z_sub (by rw [f1, f2]; omega) (by rw [f1, f2]; omega), f1, f2]
                  refine V_lstore_n hC dX4_figure_188 (Nat.le_of_ble_eq_true rfl) ?_
                  refine V_aload_n hC dX4_figure_189 rfl ?_
                  refine V_dup hC dX4_figure_190 rfl ?_
                  refine mg_place hC dX4_figure_191 ?_
                  refine V_iconst (v := 1) hC dX4_figure_194 (by decide) ?_
                  refine V_iadd hC dX4_figure_195 ?_
                  refine mp_place hC dX4_figure_196 ?_
                  refine V_goto (tgt := 102) hC dX4_figure_199 (by decide) ?_
                  refine V.eqM (show mkM G a _ K P Q M0 = mkM G a (va_up I 9 (nI (q + 1))) K P Q M0 from ?_) (V.loc [some (.ref a), some (.int 1), some (.int 0), some (.long (10 * v - (nI d).toInt64)), none] ⟨rfl, rfl, rfl, rfl, trivial⟩ (ih (q + 1) (10 * v - (nI d).toInt64) K (by omega) (by omega) (by rw [hv9]; omega) (by rw [hv9]; omega) (by rw [hv9, ← h5, pDig_d hq hd1 hd2, if_neg (by simp only [if_true]; omega)])))
                  show mkM G a (va_up (va_up (va_up I 9 (nI q)) 10 0) 9 (nI q + 1)) K P Q M0 = _
                  rw [nI_1]
                  refine congrArg (fun z => mkM G a z K P Q M0) ?_
                  funext z
                  by_cases a1 : z = 9
                  · subst a1; rw [va_up_self, va_up_self]
                  · rw [va_up_ne _ _ a1, va_up_ne _ _ a1]
                    by_cases a2 : z = 10
                    · subst a2; rw [va_up_self, hs]; rfl
                    · rw [va_up_ne _ _ a2, va_up_ne _ _ a1]
                · refine V_iconst (v := 1) hC dX4_figure_161 (by decide) ?_
                  refine V_goto (tgt := 166) hC dX4_figure_162 (by decide) ?_
                  refine V_istore hC dX4_figure_166 (Nat.le_of_ble_eq_true rfl) ?_
                  have x1 := c134
                  rw [Int64.lt_iff_toInt_lt, hK] at x1
                  have x2 : v.toInt = -922337203685477580 := by rw [c142]; exact hK
                  have x3 := c158
                  rw [Int32.le_iff_toInt_le, nI_toInt (show d < 2 ^ 31 by omega), show (8 : Int32).toInt = 8 by decide] at x3
                  have hmore : 10 * v.toInt - (d : Int) < -9223372036854775808 := by omega
                  refine V_aload_n hC dX4_figure_168 rfl ?_
                  refine V_iload hC dX4_figure_169 rfl ?_
                  refine mp_stuck hC dX4_figure_171 rfl rfl ?_
                  refine V_iload hC dX4_figure_174 rfl ?_
                  refine V_if_ne (tgt := 199) hC dX4_figure_176 (by decide) (fun _ => ?_) (fun c => absurd c (by decide))
                  refine V_goto (tgt := 102) hC dX4_figure_199 (by decide) ?_
                  refine V_aload_n hC dX4_figure_102 rfl ?_
                  refine mc0v hC (m_if (T := T) (p := q) ⟨hT.1, hT.2.1, hT.2.2⟩ rfl (by omega)) rfl mw_isFigure ⟨⟨(Nat.le_of_ble_eq_true rfl), (Nat.le_of_ble_eq_true rfl)⟩, rfl, rfl⟩ ⟨(Nat.le_of_ble_eq_true rfl), (Nat.le_of_ble_eq_true rfl)⟩ (Nat.le_of_ble_eq_true rfl) dX4_figure_103 ?_
                  refine V_ifb_eq (tgt := 202) hC dX4_figure_106 (by decide) (fun c106 => ?_) (fun c106 => ?_)
                  · refine V_aload_n hC dX4_figure_202 rfl ?_
                    refine V_iload_n hC dX4_figure_203 rfl ?_
                    refine V_if_eq (tgt := 211) hC dX4_figure_204 (by decide) (fun c => absurd c (by decide)) (fun _ => ?_)
                    refine V_lload_n hC dX4_figure_207 rfl ?_
                    refine V_goto (tgt := 213) hC dX4_figure_208 (by decide) ?_
                    refine mp_read hC dX4_figure_213 ?_
                    exact V_vret hC dX4_figure_216 (Nat.le_of_ble_eq_true rfl) (Nat.le_of_ble_eq_true rfl) (RFg_i (p := q) (o := none) (by
                          unfold fgS
                          rw [if_neg (by simp)]
                          show pFg T p = _
                          rw [← h5, pDig_d hq hd1 hd2, if_pos (by simp only [if_true]; exact hmore)]) rfl (fun v h => by cases h))
                  · refine V_iload_n hC dX4_figure_109 rfl ?_
                    refine V_if_ne (tgt := 202) hC dX4_figure_110 (by decide) (fun c => absurd c (by decide)) (fun _ => ?_)
                    refine V_aload_n hC dX4_figure_113 rfl ?_
                    refine mg_stuck hC dX4_figure_114 ?_
                    refine V_seti (y := 1) (va_up_self _ _ _) ?_
                    refine V_if_ne (tgt := 202) hC dX4_figure_117 (by decide) (fun _ => ?_) (fun c => absurd c (by decide))
                    refine V_aload_n hC dX4_figure_202 rfl ?_
                    refine V_iload_n hC dX4_figure_203 rfl ?_
                    refine V_if_eq (tgt := 211) hC dX4_figure_204 (by decide) (fun c => absurd c (by decide)) (fun _ => ?_)
                    refine V_lload_n hC dX4_figure_207 rfl ?_
                    refine V_goto (tgt := 213) hC dX4_figure_208 (by decide) ?_
                    refine mp_read hC dX4_figure_213 ?_
                    exact V_vret hC dX4_figure_216 (Nat.le_of_ble_eq_true rfl) (Nat.le_of_ble_eq_true rfl) (RFg_i (p := q) (o := none) (by
                          unfold fgS
                          rw [if_neg (by simp)]
                          show pFg T p = _
                          rw [← h5, pDig_d hq hd1 hd2, if_pos (by simp only [if_true]; exact hmore)]) rfl (fun v h => by cases h))
      refine V_aload_n hC dX4_figure_23 rfl ?_
      refine V_dup hC dX4_figure_24 rfl ?_
      refine mg_place hC dX4_figure_25 ?_
      refine V_iload_n hC dX4_figure_28 rfl ?_
      refine V_if_eq (tgt := 36) hC dX4_figure_29 (by decide) (fun c => absurd c (by decide)) (fun _ => ?_)
      refine V_iconst (v := 1) hC dX4_figure_32 (by decide) ?_
      refine V_goto (tgt := 37) hC dX4_figure_33 (by decide) ?_
      refine V_iadd hC dX4_figure_37 ?_
      refine mp_place hC dX4_figure_38 ?_
      refine V.eqM (show mkM G a (va_up I 9 (I 9 + 1)) J P Q M0 = mkM G a (va_up I 9 (nI (p + 1))) J P Q M0 by rw [hp, nI_1]) ?_
      refine V_aload_n hC dX4_figure_41 rfl ?_
      refine mc0v hC (m_if (hT.up9 _) (p := (p + 1)) rfl (by omega)) rfl mw_isFigure ⟨⟨(Nat.le_of_ble_eq_true rfl), (Nat.le_of_ble_eq_true rfl)⟩, rfl, rfl⟩ ⟨(Nat.le_of_ble_eq_true rfl), (Nat.le_of_ble_eq_true rfl)⟩ (Nat.le_of_ble_eq_true rfl) dX4_figure_42 ?_
      refine V_ifb_eq (tgt := 61) hC dX4_figure_45 (by decide) (fun c45 => ?_) (fun c45 => ?_)
      · refine V_aload_n hC dX4_figure_61 rfl ?_
        refine V_iconst (v := 1) hC dX4_figure_62 (by decide) ?_
        refine mp_stuck hC dX4_figure_63 rfl rfl ?_
        exact V_vret hC dX4_figure_66 (Nat.le_of_ble_eq_true rfl) (Nat.le_of_ble_eq_true rfl) (RFg_i (p := p + 1) (o := none) (by unfold fgS pFg; rw [if_neg (by simp), if_pos c14, if_pos]; first | exact Or.inl c45 | exact Or.inr c58) rfl (fun v h => by cases h))
      · refine V_iload_n hC dX4_figure_48 rfl ?_
        refine V_if_eq (tgt := 67) hC dX4_figure_49 (by decide) (fun c => absurd c (by decide)) (fun _ => ?_)
        refine V_aload_n hC dX4_figure_52 rfl ?_
        refine mc0v hC (m_he (hT.up9 _) (p := (p + 1)) rfl (by omega)) rfl mw_here ⟨⟨(Nat.le_of_ble_eq_true rfl), (Nat.le_of_ble_eq_true rfl)⟩, rfl, rfl⟩ ⟨(Nat.le_of_ble_eq_true rfl), (Nat.le_of_ble_eq_true rfl)⟩ (Nat.le_of_ble_eq_true rfl) dX4_figure_53 ?_
        refine V_bipush (v := 48) hC dX4_figure_56 (by decide) ?_
        refine V_icmp_ne (tgt := 67) hC dX4_figure_58 (by decide) (fun c58 => ?_) (fun c58 => ?_)
        · refine V_aload_n hC dX4_figure_67 rfl ?_
          refine mc0v hC (m_he (hT.up9 _) (p := (p + 1)) rfl (by omega)) rfl mw_here ⟨⟨(Nat.le_of_ble_eq_true rfl), (Nat.le_of_ble_eq_true rfl)⟩, rfl, rfl⟩ ⟨(Nat.le_of_ble_eq_true rfl), (Nat.le_of_ble_eq_true rfl)⟩ (Nat.le_of_ble_eq_true rfl) dX4_figure_68 ?_
          refine V_bipush (v := 48) hC dX4_figure_71 (by decide) ?_
          refine V_icmp_ne (tgt := 80) hC dX4_figure_73 (by decide) (fun c73 => ?_) (fun c73 => ?_)
          · refine V_iconst (v := 0) hC dX4_figure_80 (by decide) ?_
            refine V_istore_n hC dX4_figure_81 (Nat.le_of_ble_eq_true rfl) ?_
            refine V_aload_n hC dX4_figure_82 rfl ?_
            refine mc0v hC (m_he (hT.up9 _) (p := (p + 1)) rfl (by omega)) rfl mw_here ⟨⟨(Nat.le_of_ble_eq_true rfl), (Nat.le_of_ble_eq_true rfl)⟩, rfl, rfl⟩ ⟨(Nat.le_of_ble_eq_true rfl), (Nat.le_of_ble_eq_true rfl)⟩ (Nat.le_of_ble_eq_true rfl) dX4_figure_83 ?_
            refine V_bipush (v := 48) hC dX4_figure_86 (by decide) ?_
            refine V_isub hC dX4_figure_88 ?_
            refine V_ineg hC dX4_figure_89 ?_
            refine V_i2l hC dX4_figure_90 ?_
            refine V_lstore_n hC dX4_figure_91 (Nat.le_of_ble_eq_true rfl) ?_
            refine V_aload_n hC dX4_figure_92 rfl ?_
            refine V_dup hC dX4_figure_93 rfl ?_
            refine mg_place hC dX4_figure_94 ?_
            refine V_iconst (v := 1) hC dX4_figure_97 (by decide) ?_
            refine V_iadd hC dX4_figure_98 ?_
            refine mp_place hC dX4_figure_99 ?_
            refine V.eqM (show mkM G a (va_up (va_up I 9 (nI (p + 1))) 9 (nI (p + 1) + 1)) J P Q M0 = mkM G a (va_up I 9 (nI ((p + 1) + 1))) J P Q M0 by rw [gUU, nI_1]) ?_
            obtain ⟨d, hd2, hd1⟩ := isD_d c45
            refine V.loc [some (.ref a), some (.int 1), some (.int 0), some (.long ((-(hr T (p + 1) - 48)).toInt64)), none] ⟨rfl, rfl, rfl, rfl, trivial⟩ (loop (T.length + 1) ((p + 1) + 1) _ J (by omega) (isD_hr c45) ?_ ?_ ?_)
            · rw [hd1, sub48, neg_d hd2]; omega
            · rw [hd1, sub48, neg_d hd2]; omega
            · rw [hd1, sub48, neg_d hd2]
              rw [fg_m c14 c45 c58, pDig_d (isD_hr c45) hd1 hd2, if_neg (by simp only [if_true]; omega)]
              rw [show (10 : Int) * 0 - (d : Int) = -(d : Int) by omega]
          · exact absurd c73 c58
        · refine V_aload_n hC dX4_figure_61 rfl ?_
          refine V_iconst (v := 1) hC dX4_figure_62 (by decide) ?_
          refine mp_stuck hC dX4_figure_63 rfl rfl ?_
          exact V_vret hC dX4_figure_66 (Nat.le_of_ble_eq_true rfl) (Nat.le_of_ble_eq_true rfl) (RFg_i (p := p + 1) (o := none) (by unfold fgS pFg; rw [if_neg (by simp), if_pos c14, if_pos]; first | exact Or.inl c45 | exact Or.inr c58) rfl (fun v h => by cases h))
  · exact V_vret hC dX4_figure_7 (Nat.le_of_ble_eq_true rfl) (Nat.le_of_ble_eq_true rfl) (RFg_i (p := p) (o := none) (by unfold fgS; rw [if_pos c4]) (by rw [show gB (none : Option Int64).isNone = gB s by rw [c4]; rfl, iP_self hp hs]) (fun v h => by cases h))
