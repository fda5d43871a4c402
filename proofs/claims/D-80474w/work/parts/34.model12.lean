/-! MODEL 12: safe, keep -/
/-- one summand of a safe sum -/
def spart (q : List Int64 × Nat) (up : Bool) (n k : Nat) : Int := if decide ((0 : Int64) < q.1.getD k 0) = up then (q.1.getD k 0).toInt * (n : Int) else 0
theorem ssum_s {ru : List (List Int64 × Nat)} {up : Bool} {n r k : Nat} {q : List Int64 × Nat} (h : ru[r]? = some q) : ssum (ru.take (r + 1)) up n k = ssum (ru.take r) up n k + spart q up n k := by
  unfold ssum
  rw [List.take_succ, h, List.map_append, List.sum_append]
  simp [spart]
theorem spart_b (q : List Int64 × Nat) (up : Bool) {n : Nat} (k : Nat) (hn : n ≤ 1000000) : -9223372036854775808000000 ≤ spart q up n k ∧ spart q up n k ≤ 9223372036854775808000000 := by
  have := z_rng (q.1.getD k 0)
  obtain ⟨p1, p2⟩ := z_pd (a := (q.1.getD k 0).toInt) (b := (n : Int)) (A := 9223372036854775808) (c := 1000000) (by omega) (by omega) (by decide) (by omega) (by omega) (by decide)
  unfold spart
  split <;> omega
theorem ssum_b {ru : List (List Int64 × Nat)} (up : Bool) {n : Nat} (k : Nat) (hn : n ≤ 1000000) : ∀ r, r ≤ ru.length → -(9223372036854775808000000 * (r : Int)) ≤ ssum (ru.take r) up n k ∧ ssum (ru.take r) up n k ≤ 9223372036854775808000000 * (r : Int)
  | 0, _ => by simp [ssum]
  | r + 1, hr => by
    have ih := ssum_b (ru := ru) up k hn r (by omega)
    have e := List.getElem?_eq_getElem (show r < ru.length by omega)
    rw [ssum_s e]
    have := spart_b ru[r] up k hn
    omega
def sgood (ru : List (List Int64 × Nat)) (n k : Nat) : Prop := zfit (ssum ru true n k) ∧ zfit (ssum ru false n k)
def sd (s : Nat) : Bool := decide (s = 0)
theorem safe_1 {σ : Sy} {n : Nat} (hn : n ≤ 1000000) (h : ∀ k, k < σ.pl.2.2 → sgood σ.ru n k) : o_safe σ (nI n) = 1 := by
  unfold o_safe
  rw [gIx_nI (by omega), decide_eq_true (by omega), if_neg (by decide)]
  rw [if_pos (by rw [nI_clamp (by omega)]; exact h)]
theorem safe_0 {σ : Sy} {n : Nat} (hn : n ≤ 1000000) (h : ¬ ∀ k, k < σ.pl.2.2 → sgood σ.ru n k) : o_safe σ (nI n) = 0 := by
  unfold o_safe
  rw [gIx_nI (by omega), decide_eq_true (by omega), if_neg (by decide)]
  rw [if_neg (by rw [nI_clamp (by omega)]; exact h)]
set_option maxHeartbeats 4000000 in
theorem m_safe {l : Launch} {G : gG} {a : Nat} {I : Nat → Int32} {J : Nat → Int64} {P : Nat → Nat → Int32} {Q : Nat → Nat → Int64} {M0 : gM} {σ : Sy} (hw : Sw σ) (hr : RM σ I P Q) {n : Int32} : gMet l yX4_safe (gWs yX4_safe cX4_safe 8 (some .int) []) ({ frames := 2, cells := 0, slots := 0, locals := 45 } : Room) G [.ref a, .int n] (mkM G a I J P Q M0) (RMp G a M0 (o_safe σ n, σ)) := by
  refine gMet.intro (by decide) (Nat.le_of_ble_eq_true rfl) (fun C hl hC hN => ?_)
  subst hl
  replace hC : Ck G C [] cX4_safe RX4 8 (some .int) ({ frames := 2, cells := 0, slots := 0, locals := 45 } : Room) (RMp G a M0 (o_safe σ n, σ)) := hC
  refine V.loc [some (.ref a), some (.int n)] ⟨rfl, rfl, trivial⟩ ?_
  refine V_iload_n hC dX4_safe_0 rfl ?_
  refine V_i2l hC dX4_safe_1 ?_
  refine V_lconst (v := 0) hC dX4_safe_2 (by decide) ?_
  refine V_ldc2 hC dX4_safe_3 q1097 ?_
  refine mt3v hC m_in mw_in ⟨⟨(Nat.le_of_ble_eq_true rfl), (Nat.le_of_ble_eq_true rfl)⟩, rfl, rfl⟩ ⟨(Nat.le_of_ble_eq_true rfl), (Nat.le_of_ble_eq_true rfl)⟩ (Nat.le_of_ble_eq_true rfl) dX4_safe_6 ?_
  rw [gIn_c n 1000001 (by decide) (by decide)]
  refine V_ifb_ne (tgt := 15) hC dX4_safe_9 (by decide) (fun c9 => ?_) (fun c9 => ?_)
  · obtain ⟨z, hz0, rfl⟩ := gIx_of c9 (by decide)
    have hz : z ≤ 1000000 := by omega
    have hpl := hw.pl
    have hrl := hw.rul
    have hR := hr.rr hw
    have loopk : ∀ (fk : Nat) (k : Nat) (b : Bool) (K : Nat → Int64), σ.pl.2.2 < k + fk → k ≤ σ.pl.2.2 → (b = true ↔ ∀ k', k' < k → sgood σ.ru z k') → V G C (mkM G a I K P Q M0) 0 0 19 (gl [some (.ref a), some (.int (nI z)), some (.int (gB b)), some (.int (nI k))]) [] := by
      intro fk
      induction fk with
      | zero => intros; omega
      | succ fk ihk =>
        intro k b K d1 d2 d3
        refine V_iload_n hC dX4_safe_19 rfl ?_
        refine V_aload_n hC dX4_safe_20 rfl ?_
        refine mg_planSize hC dX4_safe_21 ?_
        refine V_seti (y := nI σ.pl.2.2) hr.2.2.2.1.2.2 ?_
        refine V_icmp_ge (tgt := 138) hC dX4_safe_24 (by decide) (fun c24 => ?_) (fun c24 => ?_)
        · refine V_iload_n hC dX4_safe_138 rfl ?_
          refine V_ifb_eq (tgt := 146) hC dX4_safe_139 (by decide) (fun c139 => ?_) (fun c139 => ?_)
          · refine V_iconst (v := 0) hC dX4_safe_146 (by decide) ?_
            exact V_iret hC dX4_safe_147 (Nat.le_of_ble_eq_true rfl) (Nat.le_of_ble_eq_true rfl) (RMp_i (by
                  have hk : k = σ.pl.2.2 := Nat.le_antisymm d2 (Nat.le_of_not_lt fun q => nI_ge q (by omega) c24)
                  subst hk
                  rw [safe_0 hz (fun h => absurd (c139.symm.trans (d3.mpr h)) (by decide))]) hr)
          · refine V_iconst (v := 1) hC dX4_safe_142 (by decide) ?_
            refine V_goto (tgt := 147) hC dX4_safe_143 (by decide) ?_
            exact V_iret hC dX4_safe_147 (Nat.le_of_ble_eq_true rfl) (Nat.le_of_ble_eq_true rfl) (RMp_i (by
                  have hk : k = σ.pl.2.2 := Nat.le_antisymm d2 (Nat.le_of_not_lt fun q => nI_ge q (by omega) c24)
                  subst hk
                  rw [safe_1 hz (d3.mp c139)]) hr)
        · have hk : k < σ.pl.2.2 := Nat.lt_of_not_le fun q => c24 (nI_le q (by omega))
          have loops : ∀ (fs : Nat) (s : Nat) (b1 : Bool) (K1 : Nat → Int64), 2 < s + fs → s ≤ 2 → (b1 = true ↔ (∀ k', k' < k → sgood σ.ru z k') ∧ ∀ s', s' < s → zfit (ssum σ.ru (sd s') z k)) → V G C (mkM G a I K1 P Q M0) 0 0 30 (gl [some (.ref a), some (.int (nI z)), some (.int (gB b1)), some (.int (nI k)), some (.int (nI s))]) [] := by
            intro fs
            induction fs with
            | zero => intros; omega
            | succ fs ihs =>
              intro s b1 K1 e1 e2 e3
              refine V_iload hC dX4_safe_30 rfl ?_
              refine V_iconst (v := 2) hC dX4_safe_32 (by decide) ?_
              refine V_icmp_ge (tgt := 132) hC dX4_safe_33 (by decide) (fun c33 => ?_) (fun c33 => ?_)
              · have es2 : s = 2 := Nat.le_antisymm e2 (Nat.le_of_not_lt fun q => nI_ge q (by omega) c33)
                refine V_iinc (v := nI (k + 1)) hC dX4_safe_132 rfl (gI_inc k) (Nat.le_of_ble_eq_true rfl) ?_
                refine V_goto (tgt := 19) hC dX4_safe_135 (by decide) ?_
                exact V.loc [some (.ref a), some (.int (nI z)), some (.int (gB b1)), some (.int (nI (k + 1)))] ⟨rfl, rfl, rfl, rfl, trivial⟩ (ihk (k + 1) b1 _ (by omega) (by omega) (e3.trans ⟨fun h k' hk' => (by
                    rcases (show k' < k ∨ k' = k by omega) with q | q
                    · exact h.1 k' q
                    · subst q
                      exact ⟨h.2 0 (by omega), h.2 1 (by omega)⟩), fun h => ⟨fun k' hk' => h k' (by omega), fun s' hs' => (by
                    rcases (show s' = 0 ∨ s' = 1 by omega) with q | q
                    · rw [q]; exact (h k (by omega)).1
                    · rw [q]; exact (h k (by omega)).2)⟩⟩))
              · have hs : s < 2 := Nat.lt_of_not_le fun q => c33 (nI_le q (by omega))
                refine V_aload_n hC dX4_safe_36 rfl ?_
                refine mc0n hC m_zero rfl mw_zero ⟨⟨(Nat.le_of_ble_eq_true rfl), (Nat.le_of_ble_eq_true rfl)⟩, rfl, rfl⟩ ⟨(Nat.le_of_ble_eq_true rfl), (Nat.le_of_ble_eq_true rfl)⟩ (Nat.le_of_ble_eq_true rfl) dX4_safe_37 ?_
                have loopr : ∀ (fr : Nat) (r : Nat) (K2 : Nat → Int64), σ.ru.length < r + fr → r ≤ σ.ru.length → wok (K2 0) (K2 1) → wv (K2 0) (K2 1) = ssum (σ.ru.take r) (sd s) z k → V G C (mkM G a I K2 P Q M0) 0 0 43 (gl [some (.ref a), some (.int (nI z)), some (.int (gB b1)), some (.int (nI k)), some (.int (nI s)), some (.int (nI r))]) [] := by
                  intro fr
                  induction fr with
                  | zero => intros; omega
                  | succ fr ihr =>
                    intro r K2 g1 g2 g3 g4
                    refine V_iload hC dX4_safe_43 rfl ?_
                    refine V_aload_n hC dX4_safe_45 rfl ?_
                    refine mg_rules hC dX4_safe_46 ?_
                    refine V_seti (y := nI σ.ru.length) hr.2.2.2.2.1 ?_
                    refine V_icmp_ge (tgt := 109) hC dX4_safe_49 (by decide) (fun c49 => ?_) (fun c49 => ?_)
                    · have er1 : r = σ.ru.length := Nat.le_antisymm g2 (Nat.le_of_not_lt fun q => nI_ge q (by omega) c49)
                      rw [er1, List.take_length] at g4
                      refine V_iload_n hC dX4_safe_109 rfl ?_
                      refine V_ifb_eq (tgt := 124) hC dX4_safe_110 (by decide) (fun c110 => ?_) (fun c110 => ?_)
                      · refine V_iconst (v := 0) hC dX4_safe_124 (by decide) ?_
                        refine V_istore_n hC dX4_safe_125 (Nat.le_of_ble_eq_true rfl) ?_
                        refine V_iinc (v := nI (s + 1)) hC dX4_safe_126 rfl (gI_inc s) (Nat.le_of_ble_eq_true rfl) ?_
                        refine V_goto (tgt := 30) hC dX4_safe_129 (by decide) ?_
                        exact V.loc [some (.ref a), some (.int (nI z)), some (.int (gB false)), some (.int (nI k)), some (.int (nI (s + 1)))] ⟨rfl, rfl, rfl, rfl, rfl, trivial⟩ (ihs (s + 1) false _ (by omega) (by omega) ⟨fun q => (by cases q), fun h9 => (by
                            have := e3.mpr ⟨h9.1, fun s' hs' => h9.2 s' (by omega)⟩
                            rw [c110] at this
                            exact this)⟩)
                      · refine V_aload_n hC dX4_safe_113 rfl ?_
                        refine mc0v hC m_fits rfl mw_fits ⟨⟨(Nat.le_of_ble_eq_true rfl), (Nat.le_of_ble_eq_true rfl)⟩, rfl, rfl⟩ ⟨(Nat.le_of_ble_eq_true rfl), (Nat.le_of_ble_eq_true rfl)⟩ (Nat.le_of_ble_eq_true rfl) dX4_safe_114 ?_
                        refine V_ifb_eq (tgt := 124) hC dX4_safe_117 (by decide) (fun c117 => ?_) (fun c117 => ?_)
                        · refine V_iconst (v := 0) hC dX4_safe_124 (by decide) ?_
                          refine V_istore_n hC dX4_safe_125 (Nat.le_of_ble_eq_true rfl) ?_
                          refine V_iinc (v := nI (s + 1)) hC dX4_safe_126 rfl (gI_inc s) (Nat.le_of_ble_eq_true rfl) ?_
                          refine V_goto (tgt := 30) hC dX4_safe_129 (by decide) ?_
                          exact V.loc [some (.ref a), some (.int (nI z)), some (.int (gB false)), some (.int (nI k)), some (.int (nI (s + 1)))] ⟨rfl, rfl, rfl, rfl, rfl, trivial⟩ (ihs (s + 1) false _ (by omega) (by omega) ⟨fun q => (by cases q), fun h9 => (by
                              have h8 := h9.2 s (by omega)
                              rw [← g4] at h8
                              exact absurd (c117.symm.trans ((wfit g3).mpr h8)) (by decide))⟩)
                        · refine V_iconst (v := 1) hC dX4_safe_120 (by decide) ?_
                          refine V_goto (tgt := 125) hC dX4_safe_121 (by decide) ?_
                          refine V_istore_n hC dX4_safe_125 (Nat.le_of_ble_eq_true rfl) ?_
                          refine V_iinc (v := nI (s + 1)) hC dX4_safe_126 rfl (gI_inc s) (Nat.le_of_ble_eq_true rfl) ?_
                          refine V_goto (tgt := 30) hC dX4_safe_129 (by decide) ?_
                          exact V.loc [some (.ref a), some (.int (nI z)), some (.int (gB true)), some (.int (nI k)), some (.int (nI (s + 1)))] ⟨rfl, rfl, rfl, rfl, rfl, trivial⟩ (ihs (s + 1) true _ (by omega) (by omega) ⟨fun _ => ⟨e3.mp c110 |>.1, fun s' hs' => (by
                              rcases (show s' < s ∨ s' = s by omega) with q | q
                              · exact (e3.mp c110).2 s' q
                              · subst q
                                rw [← g4]
                                exact (wfit g3).mp c117)⟩, fun _ => rfl⟩)
                    · have hr1 : r < σ.ru.length := Nat.lt_of_not_le fun q => c49 (nI_le q (by omega))
                      have er := List.getElem?_eq_getElem hr1
                      obtain ⟨v1, v2, v3, v4⟩ := hR.2.2.2.2 r _ er
                      have bb := ssum_b (ru := σ.ru) (sd s) k hz r (by omega)
                      refine V_aload_n hC dX4_safe_52 rfl ?_
                      refine mg_weights hC dX4_safe_53 ?_
                      refine V_bipush (v := 12) hC dX4_safe_56 (by decide) ?_
                      refine V_iload hC dX4_safe_58 rfl ?_
                      refine V_imul hC dX4_safe_60 ?_
                      refine V_iload_n hC dX4_safe_61 rfl ?_
                      refine V_iadd hC dX4_safe_62 ?_
                      refine ml_weights hC (12 * r + k) (g12 r k) (by omega) dX4_safe_63 ?_
                      refine V_lstore hC dX4_safe_64 (Nat.le_of_ble_eq_true rfl) ?_
                      refine V_aload_n hC dX4_safe_66 rfl ?_
                      refine V_iload hC dX4_safe_67 rfl ?_
                      refine V_if_ne (tgt := 76) hC dX4_safe_69 (by decide) (fun c69 => ?_) (fun c69 => ?_)
                      · refine V_iconst (v := 0) hC dX4_safe_76 (by decide) ?_
                        refine V_lload hC dX4_safe_77 rfl ?_
                        refine V_lconst (v := 0) hC dX4_safe_79 (by decide) ?_
                        refine V_lc_le (tgt := 88) hC dX4_safe_80 rfl dX4_safe_81 (by decide) (fun c81 => ?_) (fun c81 => ?_)
                        · refine V_iconst (v := 0) hC dX4_safe_88 (by decide) ?_
                          refine V_icmp_ne (tgt := 97) hC dX4_safe_89 (by decide) (fun c => absurd c (by decide)) (fun _ => ?_)
                          refine V_lload hC dX4_safe_92 rfl ?_
                          refine V_goto (tgt := 98) hC dX4_safe_94 (by decide) ?_
                          refine V_iload_n hC dX4_safe_98 rfl ?_
                          refine V_i2l hC dX4_safe_99 ?_
                          refine mc2n hC m_add rfl mw_add ⟨⟨(Nat.le_of_ble_eq_true rfl), (Nat.le_of_ble_eq_true rfl)⟩, rfl, rfl⟩ ⟨(Nat.le_of_ble_eq_true rfl), (Nat.le_of_ble_eq_true rfl)⟩ (Nat.le_of_ble_eq_true rfl) dX4_safe_100 ?_
                          refine V_iinc (v := nI (r + 1)) hC dX4_safe_103 rfl (gI_inc r) (Nat.le_of_ble_eq_true rfl) ?_
                          refine V_goto (tgt := 43) hC dX4_safe_106 (by decide) ?_
                          have es : ¬ s = 0 := fun q => c69 (by rw [q]; rfl)
                          have ew := v4 k _ (getD_of (by omega))
                          have st := wstep (Q 1 (12 * r + k)) (c := z) (r := r) hz (by omega) g3 (by rw [g4]; exact bb.1) (by rw [g4]; exact bb.2)
                          refine V.loc [some (.ref a), some (.int (nI z)), some (.int (gB b1)), some (.int (nI k)), some (.int (nI s)), some (.int (nI (r + 1)))] ⟨rfl, rfl, rfl, rfl, rfl, rfl, trivial⟩ (ihr (r + 1) _ (by omega) (by omega) st.1 ?_)
                          rw [ssum_s er, ← g4]
                          have e9 : spart σ.ru[r] (sd s) z k = (Q 1 (12 * r + k)).toInt * (z : Int) := by
                            unfold spart sd
                            rw [decide_eq_false es, decide_eq_false (show ¬ (0 : Int64) < _ by rw [← ew]; rw [Int64.lt_iff_toInt_lt]; rw [Int64.le_iff_toInt_le] at c81; omega)]
                            rw [if_pos rfl, ← ew]
                            
                          rw [e9]
                          exact st.2
                        · refine V_iconst (v := 1) hC dX4_safe_84 (by decide) ?_
                          refine V_goto (tgt := 89) hC dX4_safe_85 (by decide) ?_
                          refine V_icmp_ne (tgt := 97) hC dX4_safe_89 (by decide) (fun _ => ?_) (fun c => absurd c (by decide))
                          refine V_lconst (v := 0) hC dX4_safe_97 (by decide) ?_
                          refine V_iload_n hC dX4_safe_98 rfl ?_
                          refine V_i2l hC dX4_safe_99 ?_
                          refine mc2n hC m_add rfl mw_add ⟨⟨(Nat.le_of_ble_eq_true rfl), (Nat.le_of_ble_eq_true rfl)⟩, rfl, rfl⟩ ⟨(Nat.le_of_ble_eq_true rfl), (Nat.le_of_ble_eq_true rfl)⟩ (Nat.le_of_ble_eq_true rfl) dX4_safe_100 ?_
                          refine V_iinc (v := nI (r + 1)) hC dX4_safe_103 rfl (gI_inc r) (Nat.le_of_ble_eq_true rfl) ?_
                          refine V_goto (tgt := 43) hC dX4_safe_106 (by decide) ?_
                          have es : ¬ s = 0 := fun q => c69 (by rw [q]; rfl)
                          have ew := v4 k _ (getD_of (by omega))
                          have st := wstep ((0 : Int64)) (c := z) (r := r) hz (by omega) g3 (by rw [g4]; exact bb.1) (by rw [g4]; exact bb.2)
                          refine V.loc [some (.ref a), some (.int (nI z)), some (.int (gB b1)), some (.int (nI k)), some (.int (nI s)), some (.int (nI (r + 1)))] ⟨rfl, rfl, rfl, rfl, rfl, rfl, trivial⟩ (ihr (r + 1) _ (by omega) (by omega) st.1 ?_)
                          rw [ssum_s er, ← g4]
                          have e9 : spart σ.ru[r] (sd s) z k = ((0 : Int64)).toInt * (z : Int) := by
                            unfold spart sd
                            rw [decide_eq_false es, decide_eq_true (show (0 : Int64) < _ by rw [← ew]; rw [Int64.lt_iff_toInt_lt]; rw [Int64.le_iff_toInt_le] at c81; omega)]
                            rw [if_neg (by decide)]
                            rw [z_0, Int.zero_mul]
                          rw [e9]
                          exact st.2
                      · refine V_iconst (v := 1) hC dX4_safe_72 (by decide) ?_
                        refine V_goto (tgt := 77) hC dX4_safe_73 (by decide) ?_
                        refine V_lload hC dX4_safe_77 rfl ?_
                        refine V_lconst (v := 0) hC dX4_safe_79 (by decide) ?_
                        refine V_lc_le (tgt := 88) hC dX4_safe_80 rfl dX4_safe_81 (by decide) (fun c81 => ?_) (fun c81 => ?_)
                        · refine V_iconst (v := 0) hC dX4_safe_88 (by decide) ?_
                          refine V_icmp_ne (tgt := 97) hC dX4_safe_89 (by decide) (fun _ => ?_) (fun c => absurd c (by decide))
                          refine V_lconst (v := 0) hC dX4_safe_97 (by decide) ?_
                          refine V_iload_n hC dX4_safe_98 rfl ?_
                          refine V_i2l hC dX4_safe_99 ?_
                          refine mc2n hC m_add rfl mw_add ⟨⟨(Nat.le_of_ble_eq_true rfl), (Nat.le_of_ble_eq_true rfl)⟩, rfl, rfl⟩ ⟨(Nat.le_of_ble_eq_true rfl), (Nat.le_of_ble_eq_true rfl)⟩ (Nat.le_of_ble_eq_true rfl) dX4_safe_100 ?_
                          refine V_iinc (v := nI (r + 1)) hC dX4_safe_103 rfl (gI_inc r) (Nat.le_of_ble_eq_true rfl) ?_
                          refine V_goto (tgt := 43) hC dX4_safe_106 (by decide) ?_
                          have es : s = 0 := (nI_eq (by omega) (by decide)).mp c69
                          have ew := v4 k _ (getD_of (by omega))
                          have st := wstep ((0 : Int64)) (c := z) (r := r) hz (by omega) g3 (by rw [g4]; exact bb.1) (by rw [g4]; exact bb.2)
                          refine V.loc [some (.ref a), some (.int (nI z)), some (.int (gB b1)), some (.int (nI k)), some (.int (nI s)), some (.int (nI (r + 1)))] ⟨rfl, rfl, rfl, rfl, rfl, rfl, trivial⟩ (ihr (r + 1) _ (by omega) (by omega) st.1 ?_)
                          rw [ssum_s er, ← g4]
                          have e9 : spart σ.ru[r] (sd s) z k = ((0 : Int64)).toInt * (z : Int) := by
                            unfold spart sd
                            rw [decide_eq_true es, decide_eq_false (show ¬ (0 : Int64) < _ by rw [← ew]; rw [Int64.lt_iff_toInt_lt]; rw [Int64.le_iff_toInt_le] at c81; omega)]
                            rw [if_neg (by decide)]
                            rw [z_0, Int.zero_mul]
                          rw [e9]
                          exact st.2
                        · refine V_iconst (v := 1) hC dX4_safe_84 (by decide) ?_
                          refine V_goto (tgt := 89) hC dX4_safe_85 (by decide) ?_
                          refine V_icmp_ne (tgt := 97) hC dX4_safe_89 (by decide) (fun c => absurd c (by decide)) (fun _ => ?_)
                          refine V_lload hC dX4_safe_92 rfl ?_
                          refine V_goto (tgt := 98) hC dX4_safe_94 (by decide) ?_
                          refine V_iload_n hC dX4_safe_98 rfl ?_
                          refine V_i2l hC dX4_safe_99 ?_
                          refine mc2n hC m_add rfl mw_add ⟨⟨(Nat.le_of_ble_eq_true rfl), (Nat.le_of_ble_eq_true rfl)⟩, rfl, rfl⟩ ⟨(Nat.le_of_ble_eq_true rfl), (Nat.le_of_ble_eq_true rfl)⟩ (Nat.le_of_ble_eq_true rfl) dX4_safe_100 ?_
                          refine V_iinc (v := nI (r + 1)) hC dX4_safe_103 rfl (gI_inc r) (Nat.le_of_ble_eq_true rfl) ?_
                          refine V_goto (tgt := 43) hC dX4_safe_106 (by decide) ?_
                          have es : s = 0 := (nI_eq (by omega) (by decide)).mp c69
                          have ew := v4 k _ (getD_of (by omega))
                          have st := wstep (Q 1 (12 * r + k)) (c := z) (r := r) hz (by omega) g3 (by rw [g4]; exact bb.1) (by rw [g4]; exact bb.2)
                          refine V.loc [some (.ref a), some (.int (nI z)), some (.int (gB b1)), some (.int (nI k)), some (.int (nI s)), some (.int (nI (r + 1)))] ⟨rfl, rfl, rfl, rfl, rfl, rfl, trivial⟩ (ihr (r + 1) _ (by omega) (by omega) st.1 ?_)
                          rw [ssum_s er, ← g4]
                          have e9 : spart σ.ru[r] (sd s) z k = (Q 1 (12 * r + k)).toInt * (z : Int) := by
                            unfold spart sd
                            rw [decide_eq_true es, decide_eq_true (show (0 : Int64) < _ by rw [← ew]; rw [Int64.lt_iff_toInt_lt]; rw [Int64.le_iff_toInt_le] at c81; omega)]
                            rw [if_pos rfl, ← ew]
                            
                          rw [e9]
                          exact st.2
                refine V_iconst (v := 0) hC dX4_safe_40 (by decide) ?_
                refine V_istore hC dX4_safe_41 (Nat.le_of_ble_eq_true rfl) ?_
                refine V.loc [some (.ref a), some (.int (nI z)), some (.int (gB b1)), some (.int (nI k)), some (.int (nI s)), some (.int (nI 0))] ⟨rfl, rfl, rfl, rfl, rfl, rfl, trivial⟩ (loopr (σ.ru.length + 1) 0 _ (by omega) (by omega) w00.1 (by rw [List.take_zero]; exact w00.2))
          refine V_iconst (v := 0) hC dX4_safe_27 (by decide) ?_
          refine V_istore hC dX4_safe_28 (Nat.le_of_ble_eq_true rfl) ?_
          refine V.loc [some (.ref a), some (.int (nI z)), some (.int (gB b)), some (.int (nI k)), some (.int (nI 0))] ⟨rfl, rfl, rfl, rfl, rfl, trivial⟩ (loops 3 0 b _ (by omega) (by omega) ⟨fun h => ⟨d3.mp h, fun s h => absurd h (Nat.not_lt_zero s)⟩, fun h => d3.mpr h.1⟩)
    refine V_iconst (v := 1) hC dX4_safe_15 (by decide) ?_
    refine V_istore_n hC dX4_safe_16 (Nat.le_of_ble_eq_true rfl) ?_
    refine V_iconst (v := 0) hC dX4_safe_17 (by decide) ?_
    refine V_istore_n hC dX4_safe_18 (Nat.le_of_ble_eq_true rfl) ?_
    refine V.loc [some (.ref a), some (.int (nI z)), some (.int (gB true)), some (.int (nI 0))] ⟨rfl, rfl, rfl, rfl, trivial⟩ (loopk (σ.pl.2.2 + 1) 0 true _ (by omega) (by omega) ⟨fun _ k h => absurd h (Nat.not_lt_zero k), fun _ => rfl⟩)
  · refine V_bipush (v := (-3)) hC dX4_safe_12 (by decide) ?_
    exact V_iret hC dX4_safe_14 (Nat.le_of_ble_eq_true rfl) (Nat.le_of_ble_eq_true rfl) (RMp_i (by unfold o_safe; rw [c9, if_pos rfl]) hr)
/-- the bests, by their first m places beside lv -/
theorem place_le (lv : List Int64) : ∀ be : List (List Int64), place lv be ≤ be.length
  | [] => Nat.le_refl _
  | b :: r => by
    unfold place
    have := place_le lv r
    split
    · rw [List.length_cons]; omega
    · omega
theorem place_s {lv : List Int64} {be : List (List Int64)} {p : Nat} {b : List Int64} (hb : be[p]? = some b) : place lv (be.drop p) = if 0 ≤ cmpL b lv then place lv (be.drop (p + 1)) + 1 else 0 := by
  obtain ⟨h1, h2⟩ := List.getElem?_eq_some_iff.mp hb
  rw [List.drop_eq_getElem_cons h1, h2]
  rfl
/-- places from s to e come from 12 below -/
def gShf (f : Nat → Int64) (s e : Nat) : Nat → Int64 := fun j => if s ≤ j ∧ j < e then f (j - 12) else f j
theorem gShf_0 (f : Nat → Int64) (e : Nat) : gShf f e e = f := by
  funext j
  unfold gShf
  rw [if_neg (by omega)]
theorem gShf_s (f : Nat → Int64) {s e : Nat} (h12 : 12 ≤ s) (hs : s < e) : va_up (gShf f (s + 1) e) s (gShf f (s + 1) e (s - 12)) = gShf f s e := by
  funext j
  unfold gShf va_up
  by_cases h : j = s
  · rw [if_pos h, if_neg (by omega), if_pos (by omega), h]
  · rw [if_neg h]
    show (if s + 1 ≤ j ∧ j < e then f (j - 12) else f j) = _
    by_cases h2 : s + 1 ≤ j ∧ j < e
    · rw [if_pos h2, if_pos (by omega)]
    · rw [if_neg h2, if_neg (by omega)]
theorem keep_be {be : List (List Int64)} {lv : List Int64} {p r : Nat} {q : List Int64} (hp : p ≤ be.length) (h : ((be.take p ++ lv :: be.drop p).take 5)[r]? = some q) : r < 5 ∧ ((r < p ∧ be[r]? = some q) ∨ (r = p ∧ q = lv) ∨ (p < r ∧ be[r - 1]? = some q)) := by
  rw [List.getElem?_take] at h
  split at h
  · rename_i hr
    refine ⟨hr, ?_⟩
    have hl : (be.take p).length = p := by rw [List.length_take]; omega
    by_cases h1 : r < p
    · rw [List.getElem?_append_left (by omega), List.getElem?_take, if_pos h1] at h
      exact Or.inl ⟨h1, h⟩
    · rw [List.getElem?_append_right (by omega), hl] at h
      by_cases h2 : r = p
      · subst h2
        rw [Nat.sub_self] at h
        exact Or.inr (Or.inl ⟨rfl, (Option.some.inj h).symm⟩)
      · rw [show r - p = (r - 1 - p) + 1 by omega, List.getElem?_cons_succ, List.getElem?_drop, show p + (r - 1 - p) = r - 1 by omega] at h
        exact Or.inr (Or.inr ⟨by omega, h⟩)
  · cases h
set_option maxHeartbeats 4000000 in
theorem m_keep {l : Launch} {G : gG} {a : Nat} {I : Nat → Int32} {J : Nat → Int64} {P : Nat → Nat → Int32} {Q : Nat → Nat → Int64} {M0 : gM} {σ : Sy} (hw : Sw σ) (hr : RM σ I P Q) {x : Int32} : gMet l yX4_keep (gWs yX4_keep cX4_keep 4 (some .int) []) ({ frames := 2, cells := 0, slots := 0, locals := 46 } : Room) G [.ref a, .int x] (mkM G a I J P Q M0) (RMp G a M0 (o_keep σ x)) := by
  refine gMet.intro (by decide) (Nat.le_of_ble_eq_true rfl) (fun C hl hC hN => ?_)
  subst hl
  replace hC : Ck G C [] cX4_keep RX4 4 (some .int) ({ frames := 2, cells := 0, slots := 0, locals := 46 } : Room) (RMp G a M0 (o_keep σ x)) := hC
  refine V.loc [some (.ref a), some (.int x)] ⟨rfl, rfl, trivial⟩ ?_
  refine V_aload_n hC dX4_keep_0 rfl ?_
  refine V_iload_n hC dX4_keep_1 rfl ?_
  refine mc1v hC (m_isNumber hr.1 (by have := hw.1; omega)) rfl mw_isNumber ⟨⟨(Nat.le_of_ble_eq_true rfl), (Nat.le_of_ble_eq_true rfl)⟩, rfl, rfl⟩ ⟨(Nat.le_of_ble_eq_true rfl), (Nat.le_of_ble_eq_true rfl)⟩ (Nat.le_of_ble_eq_true rfl) dX4_keep_2 ?_
  refine V_ifb_ne (tgt := 11) hC dX4_keep_5 (by decide) (fun c5 => ?_) (fun c5 => ?_)
  · obtain ⟨i, hi, rfl⟩ := gIx_of c5 (by have := hw.1; omega)
    have hb := hw.1
    have ei := scAt_nI hi hb
    refine V_aload_n hC dX4_keep_11 rfl ?_
    refine V_iload_n hC dX4_keep_12 rfl ?_
    refine mc1v hC (m_isNothing (j := i) (by omega)) rfl mw_isNothing ⟨⟨(Nat.le_of_ble_eq_true rfl), (Nat.le_of_ble_eq_true rfl)⟩, rfl, rfl⟩ ⟨(Nat.le_of_ble_eq_true rfl), (Nat.le_of_ble_eq_true rfl)⟩ (Nat.le_of_ble_eq_true rfl) dX4_keep_13 ?_
    refine V_ifb_eq (tgt := 22) hC dX4_keep_16 (by decide) (fun c16 => ?_) (fun c16 => ?_)
    · obtain ⟨s, hs1, hs2⟩ := hr.yes hw hi c16
      obtain ⟨p1, p2, p3, p4⟩ := hr.2.2.1 i s hs2
      have hl := hw.len hs2
      refine V_aload_n hC dX4_keep_22 rfl ?_
      refine V_iload_n hC dX4_keep_23 rfl ?_
      refine mc1v hC (m_isLikePlan (i := i) (by omega)) rfl mw_isLikePlan ⟨⟨(Nat.le_of_ble_eq_true rfl), (Nat.le_of_ble_eq_true rfl)⟩, rfl, rfl⟩ ⟨(Nat.le_of_ble_eq_true rfl), (Nat.le_of_ble_eq_true rfl)⟩ (Nat.le_of_ble_eq_true rfl) dX4_keep_24 ?_
      rw [hr.lkP hw hs2]
      refine V_ifb_ne (tgt := 33) hC dX4_keep_27 (by decide) (fun c27 => ?_) (fun c27 => ?_)
      · have hlp := (of_decide_eq_true c27).2.2
        have hpl := hw.pl
        have hbl := hw.bel
        have hb5 := hr.2.2.2.2.2.2.1
        have loopP : ∀ (fp : Nat) (p : Nat), σ.be.length < p + fp → p ≤ σ.be.length → place s.2.2 σ.be = p + place s.2.2 (σ.be.drop p) → V G C (mkM G a I J P Q M0) 0 0 35 (gl [some (.ref a), some (.int (nI i)), some (.int (nI p))]) [] := by
          intro fp
          induction fp with
          | zero => intros; omega
          | succ fp ihp =>
            intro p h1 h2 h3
            refine V_iload_n hC dX4_keep_35 rfl ?_
            refine V_aload_n hC dX4_keep_36 rfl ?_
            refine mg_kept hC dX4_keep_37 ?_
            refine V_seti (y := nI σ.be.length) hr.2.2.2.2.2.2.1 ?_
            refine V_icmp_ge (tgt := 76) hC dX4_keep_40 (by decide) (fun c40 => ?_) (fun c40 => ?_)
            · have hpl2 : place s.2.2 σ.be = p := by
                have ep2 : p = σ.be.length := Nat.le_antisymm h2 (Nat.le_of_not_lt fun q => nI_ge q (by omega) c40)
                rw [h3, ep2, List.drop_length]
                rfl
              refine V_iload_n hC dX4_keep_76 rfl ?_
              refine V_iconst (v := 5) hC dX4_keep_77 (by decide) ?_
              refine V_icmp_ne (tgt := 83) hC dX4_keep_78 (by decide) (fun c78 => ?_) (fun c78 => ?_)
              · have key : ∀ (m : Nat), m = (if σ.be.length < 5 then σ.be.length + 1 else 5) → V G C (mkM G a (va_up I 5 (nI m)) J P Q M0) 0 0 105 (gl [some (.ref a), some (.int (nI i)), some (.int (nI p))]) [] := by
                  intro m m1
                  have m2 : p + 1 ≤ m ∧ m ≤ 5 ∧ m ≤ σ.be.length + 1 := by
                    have : ¬ p = 5 := fun q => c78 (by rw [q]; rfl)
                    split at m1 <;> omega
                  refine V_bipush (v := 12) hC dX4_keep_105 (by decide) ?_
                  refine V_aload_n hC dX4_keep_107 rfl ?_
                  refine mg_kept hC dX4_keep_108 ?_
                  refine V_seti (y := nI m) rfl ?_
                  refine V_imul hC dX4_keep_111 ?_
                  refine V_iconst (v := 1) hC dX4_keep_112 (by decide) ?_
                  refine V_isub hC dX4_keep_113 ?_
                  refine V_seti (y := nI (12 * m - 1)) (by rw [g12' m, show 12 * m = 12 * m - 1 + 1 by omega]; exact nI_pred _) ?_
                  refine V_istore_n hC dX4_keep_114 (Nat.le_of_ble_eq_true rfl) ?_
                  have loopS : ∀ (fs : Nat) (k : Nat), k + 1 < 12 * (p + 1) + fs → 12 * (p + 1) ≤ k + 1 → k + 1 ≤ 12 * m → V G C (mkM G a (va_up I 5 (nI m)) J P (va_up Q 2 (gShf (Q 2) (k + 1) (12 * m))) M0) 0 0 115 (gl [some (.ref a), some (.int (nI i)), some (.int (nI p)), some (.int (nI k))]) [] := by
                    intro fs
                    induction fs with
                    | zero => intros; omega
                    | succ fs ihs =>
                      intro k y1 y2 y3
                      refine V_iload_n hC dX4_keep_115 rfl ?_
                      refine V_bipush (v := 12) hC dX4_keep_116 (by decide) ?_
                      refine V_iload_n hC dX4_keep_118 rfl ?_
                      refine V_iconst (v := 1) hC dX4_keep_119 (by decide) ?_
                      refine V_iadd hC dX4_keep_120 ?_
                      refine V_imul hC dX4_keep_121 ?_
                      rw [nI_1, g12' (p + 1)]
                      refine V_icmp_lt (tgt := 146) hC dX4_keep_122 (by decide) (fun c122 => ?_) (fun c122 => ?_)
                      · have y5 : k + 1 = 12 * (p + 1) := by
                          have : k < 12 * (p + 1) := Nat.lt_of_not_le fun q => nI_nlt q (by omega) c122
                          omega
                        rw [y5]
                        have loopC : ∀ (fc : Nat) (k : Nat), 12 < k + fc → k ≤ 12 → V G C (mkM G a (va_up I 5 (nI m)) J P (va_up Q 2 (gCpy (gShf (Q 2) (12 * (p + 1)) (12 * m)) (12 * p) (Q 0) (12 * i) k)) M0) 0 0 148 (gl [some (.ref a), some (.int (nI i)), some (.int (nI p)), some (.int (nI k))]) [] := by
                          intro fc
                          induction fc with
                          | zero => intros; omega
                          | succ fc ihc =>
                            intro k x1 x2
                            refine V_iload_n hC dX4_keep_148 rfl ?_
                            refine V_bipush (v := 12) hC dX4_keep_149 (by decide) ?_
                            refine V_icmp_ge (tgt := 182) hC dX4_keep_151 (by decide) (fun c151 => ?_) (fun c151 => ?_)
                            · refine V_iload_n hC dX4_keep_182 rfl ?_
                              exact V_iret hC dX4_keep_183 (Nat.le_of_ble_eq_true rfl) (Nat.le_of_ble_eq_true rfl) (by
                                    have hk : k = 12 := Nat.le_antisymm x2 (Nat.le_of_not_lt fun q => nI_ge q (by omega) c151)
                                    subst hk
                                    have hp5 : ¬ p = 5 := fun q => c78 (by rw [q]; rfl)
                                    refine RMp_i (by unfold o_keep; rw [hs1]; simp only [c27, hpl2]; rw [if_neg (by decide), if_neg hp5]) ?_
                                    obtain ⟨h0, h1', h2', h3', h6, h7, h8, h9, h10, h11, h12, h13⟩ := hr
                                    refine ⟨h0, h1', h2', h3', h6, h7, ?_, fun r q hq k v hv => ?_, h10, h11, h12, h13⟩
                                    · show nI m = nI ((σ.be.take p ++ s.2.2 :: σ.be.drop p).take 5).length
                                      congr 1
                                      rw [List.length_take, List.length_append, List.length_cons, List.length_take, List.length_drop, m1]
                                      split <;> omega
                                    · show gCpy (gShf (Q 2) (12 * (p + 1)) (12 * m)) (12 * p) (Q 0) (12 * i) 12 (12 * r + k) = v
                                      have hkl := (List.getElem?_eq_some_iff.mp hv).1
                                      obtain ⟨r5, hc⟩ := keep_be h2 hq
                                      rcases hc with ⟨g1, g2⟩ | ⟨g1, g2⟩ | ⟨g1, g2⟩
                                      · have := hw.be g2
                                        rw [gCpy_out _ (by omega)]
                                        unfold gShf
                                        rw [if_neg (by omega)]
                                        exact h9 r q g2 k v hv
                                      · subst g1
                                        subst g2
                                        rw [gCpy_in _ (by omega)]
                                        exact p4 k v hv
                                      · have := hw.be g2
                                        have hr1 := (List.getElem?_eq_some_iff.mp g2).1
                                        rw [gCpy_out _ (by omega)]
                                        unfold gShf
                                        rw [if_pos (by split at m1 <;> omega), show 12 * r + k - 12 = 12 * (r - 1) + k by omega]
                                        exact h9 (r - 1) q g2 k v hv)
                            · have x3 : k < 12 := Nat.lt_of_not_le fun q => c151 (nI_le q (by omega))
                              refine V_aload_n hC dX4_keep_154 rfl ?_
                              refine mg_keeps hC dX4_keep_155 ?_
                              refine V_bipush (v := 12) hC dX4_keep_158 (by decide) ?_
                              refine V_iload_n hC dX4_keep_160 rfl ?_
                              refine V_imul hC dX4_keep_161 ?_
                              refine V_iload_n hC dX4_keep_162 rfl ?_
                              refine V_iadd hC dX4_keep_163 ?_
                              refine V_aload_n hC dX4_keep_164 rfl ?_
                              refine mg_levels hC dX4_keep_165 ?_
                              refine V_bipush (v := 12) hC dX4_keep_168 (by decide) ?_
                              refine V_iload_n hC dX4_keep_170 rfl ?_
                              refine V_imul hC dX4_keep_171 ?_
                              refine V_iload_n hC dX4_keep_172 rfl ?_
                              refine V_iadd hC dX4_keep_173 ?_
                              refine ml_levels hC (12 * i + k) (g12 i k) (by omega) dX4_keep_174 ?_
                              refine ms_keeps hC (12 * p + k) (g12 p k) (by omega) dX4_keep_175 ?_
                              refine V_iinc (v := nI (k + 1)) hC dX4_keep_176 rfl (gI_inc k) (Nat.le_of_ble_eq_true rfl) ?_
                              refine V_goto (tgt := 148) hC dX4_keep_179 (by decide) ?_
                              refine V.eqM (mkM_Q ((gUU Q 2 _ _).trans (congrArg (va_up Q 2) (gCpy_s _ (12 * p) (Q 0) (12 * i) k)))) (V.loc [some (.ref a), some (.int (nI i)), some (.int (nI p)), some (.int (nI (k + 1)))] ⟨rfl, rfl, rfl, rfl, trivial⟩ (ihc (k + 1) (by omega) (by omega)))
                        refine V_iconst (v := 0) hC dX4_keep_146 (by decide) ?_
                        refine V_istore_n hC dX4_keep_147 (Nat.le_of_ble_eq_true rfl) ?_
                        refine V.eqM (mkM_Q (show (va_up Q 2 (gShf (Q 2) (12 * (p + 1)) (12 * m))) = (va_up Q 2 (gCpy (gShf (Q 2) (12 * (p + 1)) (12 * m)) (12 * p) (Q 0) (12 * i) 0)) by rw [gCpy_0])) (V.loc [some (.ref a), some (.int (nI i)), some (.int (nI p)), some (.int (nI 0))] ⟨rfl, rfl, rfl, rfl, trivial⟩ (loopC 13 0 (by omega) (by omega)))
                      · have y4 : 12 * (p + 1) ≤ k := Nat.le_of_not_lt fun q => c122 (nI_lt q (by omega))
                        obtain ⟨k, rfl⟩ : ∃ z, k = z + 1 := ⟨k - 1, by omega⟩
                        refine V_aload_n hC dX4_keep_125 rfl ?_
                        refine mg_keeps hC dX4_keep_126 ?_
                        refine V_iload_n hC dX4_keep_129 rfl ?_
                        refine V_aload_n hC dX4_keep_130 rfl ?_
                        refine mg_keeps hC dX4_keep_131 ?_
                        refine V_iload_n hC dX4_keep_134 rfl ?_
                        refine V_bipush (v := 12) hC dX4_keep_135 (by decide) ?_
                        refine V_isub hC dX4_keep_137 ?_
                        refine V_seti (y := nI (k + 1 - 12)) (show nI (k + 1) - nI 12 = _ from pk_sub (by omega)) ?_
                        refine ml_keeps hC (k + 1 - 12) rfl (by omega) dX4_keep_138 ?_
                        refine ms_keeps hC (k + 1) rfl (by omega) dX4_keep_139 ?_
                        refine V_iinc (v := nI k) hC dX4_keep_140 rfl (pk_m1 k) (Nat.le_of_ble_eq_true rfl) ?_
                        refine V_goto (tgt := 115) hC dX4_keep_143 (by decide) ?_
                        refine V.eqM (mkM_Q ?_) (V.loc [some (.ref a), some (.int (nI i)), some (.int (nI p)), some (.int (nI k))] ⟨rfl, rfl, rfl, rfl, trivial⟩ (ihs k (by omega) (by omega) (by omega)))
                        exact (gUU Q 2 _ _).trans (congrArg (va_up Q 2) (gShf_s (Q 2) (s := k + 1) (e := 12 * m) (by omega) (by omega)))
                  refine V.eqM (show mkM G a _ J P Q M0 = mkM G a (va_up I 5 (nI m)) J P (va_up Q 2 (gShf (Q 2) (12 * m - 1 + 1) (12 * m))) M0 by rw [show 12 * m - 1 + 1 = 12 * m by omega, gShf_0, gup_self]) (V.loc [some (.ref a), some (.int (nI i)), some (.int (nI p)), some (.int (nI (12 * m - 1)))] ⟨rfl, rfl, rfl, rfl, trivial⟩ (loopS (12 * m + 1) (12 * m - 1) (by omega) (by omega) (by omega)))
                refine V_aload_n hC dX4_keep_83 rfl ?_
                refine V_aload_n hC dX4_keep_84 rfl ?_
                refine mg_kept hC dX4_keep_85 ?_
                refine V_iconst (v := 5) hC dX4_keep_88 (by decide) ?_
                refine V_icmp_ge (tgt := 101) hC dX4_keep_89 (by decide) (fun c89 => ?_) (fun c89 => ?_)
                · refine V_iconst (v := 5) hC dX4_keep_101 (by decide) ?_
                  refine mp_kept hC dX4_keep_102 ?_
                  exact V.loc [some (.ref a), some (.int (nI i)), some (.int (nI p))] ⟨rfl, rfl, rfl, trivial⟩ (key 5 (by rw [if_neg (fun q => nI_ge q (by omega) (by rw [hb5] at c89; exact c89))]))
                · refine V_aload_n hC dX4_keep_92 rfl ?_
                  refine mg_kept hC dX4_keep_93 ?_
                  refine V_iconst (v := 1) hC dX4_keep_96 (by decide) ?_
                  refine V_iadd hC dX4_keep_97 ?_
                  refine V_goto (tgt := 102) hC dX4_keep_98 (by decide) ?_
                  refine mp_kept hC dX4_keep_102 ?_
                  refine V.eqM (show mkM G a _ J P Q M0 = mkM G a (va_up I 5 (nI (σ.be.length + 1))) J P Q M0 by rw [hb5, nI_1]) (V.loc [some (.ref a), some (.int (nI i)), some (.int (nI p))] ⟨rfl, rfl, rfl, trivial⟩ (key (σ.be.length + 1) (by rw [if_pos (Nat.lt_of_not_le fun q => c89 (by rw [hb5]; exact nI_le q (by omega)))])))
              · refine V_iconst (v := (-1)) hC dX4_keep_81 (by decide) ?_
                exact V_iret hC dX4_keep_82 (Nat.le_of_ble_eq_true rfl) (Nat.le_of_ble_eq_true rfl) (RMp_i (by unfold o_keep; rw [hs1]; simp only [c27, hpl2]; rw [if_neg (by decide), if_pos ((nI_eq (b := 5) (by omega) (by decide)).mp c78)]) hr)
            · have hp : p < σ.be.length := Nat.lt_of_not_le fun q => c40 (nI_le q (by omega))
              have ep := List.getElem?_eq_getElem hp
              have hln := hw.be ep
              have hps := place_s (lv := s.2.2) ep
              refine V_aload_n hC dX4_keep_43 rfl ?_
              refine V_aload_n hC dX4_keep_44 rfl ?_
              refine mg_keeps hC dX4_keep_45 ?_
              refine V_bipush (v := 12) hC dX4_keep_48 (by decide) ?_
              refine V_iload_n hC dX4_keep_50 rfl ?_
              refine V_imul hC dX4_keep_51 ?_
              rw [g12' p]
              refine V_aload_n hC dX4_keep_52 rfl ?_
              refine mg_levels hC dX4_keep_53 ?_
              refine V_bipush (v := 12) hC dX4_keep_56 (by decide) ?_
              refine V_iload_n hC dX4_keep_58 rfl ?_
              refine V_imul hC dX4_keep_59 ?_
              rw [g12' i]
              refine V_aload_n hC dX4_keep_60 rfl ?_
              refine mg_planSize hC dX4_keep_61 ?_
              refine V_seti (y := nI σ.pl.2.2) hr.2.2.2.1.2.2 ?_
              refine mc5v hC (m_compare (s := 12 * p) (t := 12 * i) (n := σ.pl.2.2) (mkM_at 7 (by decide)) (mkM_at 4 (by decide)) (by omega) (by omega) (by decide) (by decide)) rfl mw_compare ⟨⟨(Nat.le_of_ble_eq_true rfl), (Nat.le_of_ble_eq_true rfl)⟩, rfl, rfl⟩ ⟨(Nat.le_of_ble_eq_true rfl), (Nat.le_of_ble_eq_true rfl)⟩ (Nat.le_of_ble_eq_true rfl) dX4_keep_64 ?_
              refine V_seti (y := cmpL σ.be[p] s.2.2) ?_ ?_
              · rw [← hln]
                exact cmpN_L _ (12 * p) _ (12 * i) σ.be[p] s.2.2 0 (by omega) (fun k v hv => by rw [Nat.zero_add]; exact hr.2.2.2.2.2.2.2.1 p _ ep k v hv) (fun k v hv => by rw [Nat.zero_add]; exact p4 k v hv)
              refine V_if_lt (tgt := 76) hC dX4_keep_67 (by decide) (fun c67 => ?_) (fun c67 => ?_)
              · have hpl2 : place s.2.2 σ.be = p := by
                  rw [h3, hps, if_neg (by rw [Int32.le_iff_toInt_le]; rw [Int32.lt_iff_toInt_lt] at c67; omega)]
                  omega
                refine V_iload_n hC dX4_keep_76 rfl ?_
                refine V_iconst (v := 5) hC dX4_keep_77 (by decide) ?_
                refine V_icmp_ne (tgt := 83) hC dX4_keep_78 (by decide) (fun c78 => ?_) (fun c78 => ?_)
                · have key : ∀ (m : Nat), m = (if σ.be.length < 5 then σ.be.length + 1 else 5) → V G C (mkM G a (va_up I 5 (nI m)) J P Q M0) 0 0 105 (gl [some (.ref a), some (.int (nI i)), some (.int (nI p))]) [] := by
                    intro m m1
                    have m2 : p + 1 ≤ m ∧ m ≤ 5 ∧ m ≤ σ.be.length + 1 := by
                      have : ¬ p = 5 := fun q => c78 (by rw [q]; rfl)
                      split at m1 <;> omega
                    refine V_bipush (v := 12) hC dX4_keep_105 (by decide) ?_
                    refine V_aload_n hC dX4_keep_107 rfl ?_
                    refine mg_kept hC dX4_keep_108 ?_
                    refine V_seti (y := nI m) rfl ?_
                    refine V_imul hC dX4_keep_111 ?_
                    refine V_iconst (v := 1) hC dX4_keep_112 (by decide) ?_
                    refine V_isub hC dX4_keep_113 ?_
                    refine V_seti (y := nI (12 * m - 1)) (by rw [g12' m, show 12 * m = 12 * m - 1 + 1 by omega]; exact nI_pred _) ?_
                    refine V_istore_n hC dX4_keep_114 (Nat.le_of_ble_eq_true rfl) ?_
                    have loopS : ∀ (fs : Nat) (k : Nat), k + 1 < 12 * (p + 1) + fs → 12 * (p + 1) ≤ k + 1 → k + 1 ≤ 12 * m → V G C (mkM G a (va_up I 5 (nI m)) J P (va_up Q 2 (gShf (Q 2) (k + 1) (12 * m))) M0) 0 0 115 (gl [some (.ref a), some (.int (nI i)), some (.int (nI p)), some (.int (nI k))]) [] := by
                      intro fs
                      induction fs with
                      | zero => intros; omega
                      | succ fs ihs =>
                        intro k y1 y2 y3
                        refine V_iload_n hC dX4_keep_115 rfl ?_
                        refine V_bipush (v := 12) hC dX4_keep_116 (by decide) ?_
                        refine V_iload_n hC dX4_keep_118 rfl ?_
                        refine V_iconst (v := 1) hC dX4_keep_119 (by decide) ?_
                        refine V_iadd hC dX4_keep_120 ?_
                        refine V_imul hC dX4_keep_121 ?_
                        rw [nI_1, g12' (p + 1)]
                        refine V_icmp_lt (tgt := 146) hC dX4_keep_122 (by decide) (fun c122 => ?_) (fun c122 => ?_)
                        · have y5 : k + 1 = 12 * (p + 1) := by
                            have : k < 12 * (p + 1) := Nat.lt_of_not_le fun q => nI_nlt q (by omega) c122
                            omega
                          rw [y5]
                          have loopC : ∀ (fc : Nat) (k : Nat), 12 < k + fc → k ≤ 12 → V G C (mkM G a (va_up I 5 (nI m)) J P (va_up Q 2 (gCpy (gShf (Q 2) (12 * (p + 1)) (12 * m)) (12 * p) (Q 0) (12 * i) k)) M0) 0 0 148 (gl [some (.ref a), some (.int (nI i)), some (.int (nI p)), some (.int (nI k))]) [] := by
                            intro fc
                            induction fc with
                            | zero => intros; omega
                            | succ fc ihc =>
                              intro k x1 x2
                              refine V_iload_n hC dX4_keep_148 rfl ?_
                              refine V_bipush (v := 12) hC dX4_keep_149 (by decide) ?_
                              refine V_icmp_ge (tgt := 182) hC dX4_keep_151 (by decide) (fun c151 => ?_) (fun c151 => ?_)
                              · refine V_iload_n hC dX4_keep_182 rfl ?_
                                exact V_iret hC dX4_keep_183 (Nat.le_of_ble_eq_true rfl) (Nat.le_of_ble_eq_true rfl) (by
                                      have hk : k = 12 := Nat.le_antisymm x2 (Nat.le_of_not_lt fun q => nI_ge q (by omega) c151)
                                      subst hk
                                      have hp5 : ¬ p = 5 := fun q => c78 (by rw [q]; rfl)
                                      refine RMp_i (by unfold o_keep; rw [hs1]; simp only [c27, hpl2]; rw [if_neg (by decide), if_neg hp5]) ?_
                                      obtain ⟨h0, h1', h2', h3', h6, h7, h8, h9, h10, h11, h12, h13⟩ := hr
                                      refine ⟨h0, h1', h2', h3', h6, h7, ?_, fun r q hq k v hv => ?_, h10, h11, h12, h13⟩
                                      · show nI m = nI ((σ.be.take p ++ s.2.2 :: σ.be.drop p).take 5).length
                                        congr 1
                                        rw [List.length_take, List.length_append, List.length_cons, List.length_take, List.length_drop, m1]
                                        split <;> omega
                                      · show gCpy (gShf (Q 2) (12 * (p + 1)) (12 * m)) (12 * p) (Q 0) (12 * i) 12 (12 * r + k) = v
                                        have hkl := (List.getElem?_eq_some_iff.mp hv).1
                                        obtain ⟨r5, hc⟩ := keep_be h2 hq
                                        rcases hc with ⟨g1, g2⟩ | ⟨g1, g2⟩ | ⟨g1, g2⟩
                                        · have := hw.be g2
                                          rw [gCpy_out _ (by omega)]
                                          unfold gShf
                                          rw [if_neg (by omega)]
                                          exact h9 r q g2 k v hv
                                        · subst g1
                                          subst g2
                                          rw [gCpy_in _ (by omega)]
                                          exact p4 k v hv
                                        · have := hw.be g2
                                          have hr1 := (List.getElem?_eq_some_iff.mp g2).1
                                          rw [gCpy_out _ (by omega)]
                                          unfold gShf
                                          rw [if_pos (by split at m1 <;> omega), show 12 * r + k - 12 = 12 * (r - 1) + k by omega]
                                          exact h9 (r - 1) q g2 k v hv)
                              · have x3 : k < 12 := Nat.lt_of_not_le fun q => c151 (nI_le q (by omega))
                                refine V_aload_n hC dX4_keep_154 rfl ?_
                                refine mg_keeps hC dX4_keep_155 ?_
                                refine V_bipush (v := 12) hC dX4_keep_158 (by decide) ?_
                                refine V_iload_n hC dX4_keep_160 rfl ?_
                                refine V_imul hC dX4_keep_161 ?_
                                refine V_iload_n hC dX4_keep_162 rfl ?_
                                refine V_iadd hC dX4_keep_163 ?_
                                refine V_aload_n hC dX4_keep_164 rfl ?_
                                refine mg_levels hC dX4_keep_165 ?_
                                refine V_bipush (v := 12) hC dX4_keep_168 (by decide) ?_
                                refine V_iload_n hC dX4_keep_170 rfl ?_
                                refine V_imul hC dX4_keep_171 ?_
                                refine V_iload_n hC dX4_keep_172 rfl ?_
                                refine V_iadd hC dX4_keep_173 ?_
                                refine ml_levels hC (12 * i + k) (g12 i k) (by omega) dX4_keep_174 ?_
                                refine ms_keeps hC (12 * p + k) (g12 p k) (by omega) dX4_keep_175 ?_
                                refine V_iinc (v := nI (k + 1)) hC dX4_keep_176 rfl (gI_inc k) (Nat.le_of_ble_eq_true rfl) ?_
                                refine V_goto (tgt := 148) hC dX4_keep_179 (by decide) ?_
                                refine V.eqM (mkM_Q ((gUU Q 2 _ _).trans (congrArg (va_up Q 2) (gCpy_s _ (12 * p) (Q 0) (12 * i) k)))) (V.loc [some (.ref a), some (.int (nI i)), some (.int (nI p)), some (.int (nI (k + 1)))] ⟨rfl, rfl, rfl, rfl, trivial⟩ (ihc (k + 1) (by omega) (by omega)))
                          refine V_iconst (v := 0) hC dX4_keep_146 (by decide) ?_
                          refine V_istore_n hC dX4_keep_147 (Nat.le_of_ble_eq_true rfl) ?_
                          refine V.eqM (mkM_Q (show (va_up Q 2 (gShf (Q 2) (12 * (p + 1)) (12 * m))) = (va_up Q 2 (gCpy (gShf (Q 2) (12 * (p + 1)) (12 * m)) (12 * p) (Q 0) (12 * i) 0)) by rw [gCpy_0])) (V.loc [some (.ref a), some (.int (nI i)), some (.int (nI p)), some (.int (nI 0))] ⟨rfl, rfl, rfl, rfl, trivial⟩ (loopC 13 0 (by omega) (by omega)))
                        · have y4 : 12 * (p + 1) ≤ k := Nat.le_of_not_lt fun q => c122 (nI_lt q (by omega))
                          obtain ⟨k, rfl⟩ : ∃ z, k = z + 1 := ⟨k - 1, by omega⟩
                          refine V_aload_n hC dX4_keep_125 rfl ?_
                          refine mg_keeps hC dX4_keep_126 ?_
                          refine V_iload_n hC dX4_keep_129 rfl ?_
                          refine V_aload_n hC dX4_keep_130 rfl ?_
                          refine mg_keeps hC dX4_keep_131 ?_
                          refine V_iload_n hC dX4_keep_134 rfl ?_
                          refine V_bipush (v := 12) hC dX4_keep_135 (by decide) ?_
                          refine V_isub hC dX4_keep_137 ?_
                          refine V_seti (y := nI (k + 1 - 12)) (show nI (k + 1) - nI 12 = _ from pk_sub (by omega)) ?_
                          refine ml_keeps hC (k + 1 - 12) rfl (by omega) dX4_keep_138 ?_
                          refine ms_keeps hC (k + 1) rfl (by omega) dX4_keep_139 ?_
                          refine V_iinc (v := nI k) hC dX4_keep_140 rfl (pk_m1 k) (Nat.le_of_ble_eq_true rfl) ?_
                          refine V_goto (tgt := 115) hC dX4_keep_143 (by decide) ?_
                          refine V.eqM (mkM_Q ?_) (V.loc [some (.ref a), some (.int (nI i)), some (.int (nI p)), some (.int (nI k))] ⟨rfl, rfl, rfl, rfl, trivial⟩ (ihs k (by omega) (by omega) (by omega)))
                          exact (gUU Q 2 _ _).trans (congrArg (va_up Q 2) (gShf_s (Q 2) (s := k + 1) (e := 12 * m) (by omega) (by omega)))
                    refine V.eqM (show mkM G a _ J P Q M0 = mkM G a (va_up I 5 (nI m)) J P (va_up Q 2 (gShf (Q 2) (12 * m - 1 + 1) (12 * m))) M0 by rw [show 12 * m - 1 + 1 = 12 * m by omega, gShf_0, gup_self]) (V.loc [some (.ref a), some (.int (nI i)), some (.int (nI p)), some (.int (nI (12 * m - 1)))] ⟨rfl, rfl, rfl, rfl, trivial⟩ (loopS (12 * m + 1) (12 * m - 1) (by omega) (by omega) (by omega)))
                  refine V_aload_n hC dX4_keep_83 rfl ?_
                  refine V_aload_n hC dX4_keep_84 rfl ?_
                  refine mg_kept hC dX4_keep_85 ?_
                  refine V_iconst (v := 5) hC dX4_keep_88 (by decide) ?_
                  refine V_icmp_ge (tgt := 101) hC dX4_keep_89 (by decide) (fun c89 => ?_) (fun c89 => ?_)
                  · refine V_iconst (v := 5) hC dX4_keep_101 (by decide) ?_
                    refine mp_kept hC dX4_keep_102 ?_
                    exact V.loc [some (.ref a), some (.int (nI i)), some (.int (nI p))] ⟨rfl, rfl, rfl, trivial⟩ (key 5 (by rw [if_neg (fun q => nI_ge q (by omega) (by rw [hb5] at c89; exact c89))]))
                  · refine V_aload_n hC dX4_keep_92 rfl ?_
                    refine mg_kept hC dX4_keep_93 ?_
                    refine V_iconst (v := 1) hC dX4_keep_96 (by decide) ?_
                    refine V_iadd hC dX4_keep_97 ?_
                    refine V_goto (tgt := 102) hC dX4_keep_98 (by decide) ?_
                    refine mp_kept hC dX4_keep_102 ?_
                    refine V.eqM (show mkM G a _ J P Q M0 = mkM G a (va_up I 5 (nI (σ.be.length + 1))) J P Q M0 by rw [hb5, nI_1]) (V.loc [some (.ref a), some (.int (nI i)), some (.int (nI p))] ⟨rfl, rfl, rfl, trivial⟩ (key (σ.be.length + 1) (by rw [if_pos (Nat.lt_of_not_le fun q => c89 (by rw [hb5]; exact nI_le q (by omega)))])))
                · refine V_iconst (v := (-1)) hC dX4_keep_81 (by decide) ?_
                  exact V_iret hC dX4_keep_82 (Nat.le_of_ble_eq_true rfl) (Nat.le_of_ble_eq_true rfl) (RMp_i (by unfold o_keep; rw [hs1]; simp only [c27, hpl2]; rw [if_neg (by decide), if_pos ((nI_eq (b := 5) (by omega) (by decide)).mp c78)]) hr)
              · refine V_iinc (v := nI (p + 1)) hC dX4_keep_70 rfl (gI_inc p) (Nat.le_of_ble_eq_true rfl) ?_
                refine V_goto (tgt := 35) hC dX4_keep_73 (by decide) ?_
                refine V.loc [some (.ref a), some (.int (nI i)), some (.int (nI (p + 1)))] ⟨rfl, rfl, rfl, trivial⟩ (ihp (p + 1) (by omega) (by omega) (by rw [h3, hps, if_pos (by rw [Int32.le_iff_toInt_le]; rw [Int32.lt_iff_toInt_lt] at c67; omega)]; omega))
        refine V_iconst (v := 0) hC dX4_keep_33 (by decide) ?_
        refine V_istore_n hC dX4_keep_34 (Nat.le_of_ble_eq_true rfl) ?_
        refine V.loc [some (.ref a), some (.int (nI i)), some (.int (nI 0))] ⟨rfl, rfl, rfl, trivial⟩ (loopP (σ.be.length + 1) 0 (by omega) (by omega) (by rw [Nat.zero_add, List.drop_zero]))
      · refine V_bipush (v := (-12)) hC dX4_keep_30 (by decide) ?_
        exact V_iret hC dX4_keep_32 (Nat.le_of_ble_eq_true rfl) (Nat.le_of_ble_eq_true rfl) (RMp_i (by unfold o_keep; rw [hs1]; simp only [c27, if_true]) hr)
    · refine V_bipush (v := (-11)) hC dX4_keep_19 (by decide) ?_
      exact V_iret hC dX4_keep_21 (Nat.le_of_ble_eq_true rfl) (Nat.le_of_ble_eq_true rfl) (RMp_i (by unfold o_keep; rw [hr.no hw hi c16]) hr)
  · refine V_bipush (v := (-2)) hC dX4_keep_8 (by decide) ?_
    exact V_iret hC dX4_keep_10 (Nat.le_of_ble_eq_true rfl) (Nat.le_of_ble_eq_true rfl) (RMp_i (by unfold o_keep; rw [scAt_no c5]) hr)
