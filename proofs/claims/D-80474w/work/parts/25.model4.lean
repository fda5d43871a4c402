/-! MODEL 4: set, at, put, out, many, drop, plan -/
theorem scAt_nI {σ : Sy} {j : Nat} (hj : j < σ.sc.length) (hb : σ.sc.length ≤ 60) : scAt σ (nI j) = σ.sc[j]? := by
  unfold scAt
  rw [gIx_nI (by omega), decide_eq_true hj, if_pos rfl, nI_clamp (by omega)]
theorem scAt_no {σ : Sy} {x : Int32} (h : gIx x σ.sc.length = false) : scAt σ x = none := by
  unfold scAt
  rw [h, if_neg (by decide)]
theorem RM.get {σ : Sy} {I : Nat → Int32} {P : Nat → Nat → Int32} {Q : Nat → Nat → Int64} (h : RM σ I P Q) (hw : Sw σ) {j : Nat} (hj : j < σ.sc.length) : (σ.sc[j]? = some none ∧ P 0 j = -1) ∨ ∃ s : Sc, σ.sc[j]? = some (some s) ∧ P 0 j = nI s.1 ∧ ¬ P 0 j = -1 := by
  have e := List.getElem?_eq_getElem hj
  cases hx : σ.sc[j] with
  | none =>
    rw [hx] at e
    exact Or.inl ⟨e, h.2.1 j e⟩
  | some s =>
    rw [hx] at e
    have h1 := (h.2.2.1 j s e).1
    refine Or.inr ⟨s, e, h1, ?_⟩
    rw [h1]
    intro q
    have h2 := (hw.len e).2.2.1
    have h3 := nI_toInt (n := s.1) (by omega)
    rw [q] at h3
    have : (-1 : Int32).toInt = -1 := by decide
    omega
theorem RM.no {σ : Sy} {I : Nat → Int32} {P : Nat → Nat → Int32} {Q : Nat → Nat → Int64} (h : RM σ I P Q) (hw : Sw σ) {j : Nat} (hj : j < σ.sc.length) (c : decide (P 0 j = -1) = true) : scAt σ (nI j) = some none := by
  rw [scAt_nI hj hw.1]
  rcases h.get hw hj with q | ⟨s, -, -, q⟩
  · exact q.1
  · exact absurd (of_decide_eq_true c) q
theorem RM.yes {σ : Sy} {I : Nat → Int32} {P : Nat → Nat → Int32} {Q : Nat → Nat → Int64} (h : RM σ I P Q) (hw : Sw σ) {j : Nat} (hj : j < σ.sc.length) (c : decide (P 0 j = -1) = false) : ∃ s : Sc, scAt σ (nI j) = some (some s) ∧ σ.sc[j]? = some (some s) := by
  rw [scAt_nI hj hw.1]
  rcases h.get hw hj with q | ⟨s, q, -, -⟩
  · exact absurd q.2 (of_decide_eq_false c)
  · exact ⟨s, q, q⟩
/-- a level is set -/
theorem RM.setL {σ : Sy} {I : Nat → Int32} {P : Nat → Nat → Int32} {Q : Nat → Nat → Int64} (h : RM σ I P Q) (hw : Sw σ) {j i : Nat} {s : Sc} {v : Int64} (hs : σ.sc[j]? = some (some s)) (hi : i < s.2.2.length) : RM (σ.sc.set j (some (s.1, s.2.1, s.2.2.set i v)), σ.2) I P (va_up Q 0 (va_up (Q 0) (12 * j + i) v)) := by
  obtain ⟨h0, h1, h2, h3, h6, h7, h8, h9, h10⟩ := h
  have hj : j < σ.sc.length := (List.getElem?_eq_some_iff.mp hs).1
  refine ⟨by rw [h0]; show _ = nI (σ.sc.set j _).length; rw [List.length_set], ?_, ?_, h3, h6, h7, h8, h9, h10⟩
  · intro i' hi'
    by_cases q : i' = j
    · subst q
      replace hi' : (σ.sc.set i' (some (s.1, s.2.1, s.2.2.set i v)))[i']? = some none := hi'
      rw [List.getElem?_set_self hj] at hi'
      cases hi'
    · replace hi' : (σ.sc.set j (some (s.1, s.2.1, s.2.2.set i v)))[i']? = some none := hi'
      rw [List.getElem?_set_ne (fun z => q z.symm)] at hi'
      exact h1 i' hi'
  · intro i' t hi'
    have hl := (hw.len hs).1
    by_cases q : i' = j
    · subst q
      replace hi' : (σ.sc.set i' (some (s.1, s.2.1, s.2.2.set i v)))[i']? = some (some t) := hi'
      rw [List.getElem?_set_self hj] at hi'
      cases hi'
      obtain ⟨r1, r2, r3, r4⟩ := h2 i' s hs
      refine ⟨r1, r2, by rw [r3, List.length_set], fun k w hk => ?_⟩
      show va_up (Q 0) (12 * i' + i) v (12 * i' + k) = w
      by_cases q2 : k = i
      · subst q2
        rw [va_up_self]
        rw [List.getElem?_set_self hi] at hk
        exact Option.some.inj hk
      · rw [va_up_ne _ _ (by omega)]
        rw [List.getElem?_set_ne (fun z => q2 z.symm)] at hk
        exact r4 k w hk
    · replace hi' : (σ.sc.set j (some (s.1, s.2.1, s.2.2.set i v)))[i']? = some (some t) := hi'
      rw [List.getElem?_set_ne (fun z => q z.symm)] at hi'
      obtain ⟨r1, r2, r3, r4⟩ := h2 i' t hi'
      refine ⟨r1, r2, r3, fun k w hk => ?_⟩
      have hl2 := (hw.len hi').1
      have hk2 : k < t.2.2.length := (List.getElem?_eq_some_iff.mp hk).1
      show va_up (Q 0) (12 * j + i) v (12 * i' + k) = w
      rw [va_up_ne _ _ (by omega)]
      exact r4 k w hk
set_option maxHeartbeats 2000000 in
theorem m_set {l : Launch} {G : gG} {a : Nat} {I : Nat → Int32} {J : Nat → Int64} {P : Nat → Nat → Int32} {Q : Nat → Nat → Int64} {M0 : gM} {σ : Sy} (hw : Sw σ) (hr : RM σ I P Q) {x lev : Int32} {v : Int64} : gMet l yX4_set (gWs yX4_set cX4_set 5 (some .int) []) ({ frames := 2, cells := 0, slots := 0, locals := 46 } : Room) G [.ref a, .int x, .int lev, .long v] (mkM G a I J P Q M0) (RMp G a M0 (o_set σ x lev v)) := by
  refine gMet.intro (by decide) (Nat.le_of_ble_eq_true rfl) (fun C hl hC hN => ?_)
  subst hl
  replace hC : Ck G C [] cX4_set RX4 5 (some .int) ({ frames := 2, cells := 0, slots := 0, locals := 46 } : Room) (RMp G a M0 (o_set σ x lev v)) := hC
  refine V.loc [some (.ref a), some (.int x), some (.int lev), some (.long v), none] ⟨rfl, rfl, rfl, rfl, trivial⟩ ?_
  refine V_aload_n hC dX4_set_0 rfl ?_
  refine V_iload_n hC dX4_set_1 rfl ?_
  refine mc1v hC (m_isNumber hr.1 (by have := hw.1; omega)) rfl mw_isNumber ⟨⟨(Nat.le_of_ble_eq_true rfl), (Nat.le_of_ble_eq_true rfl)⟩, rfl, rfl⟩ ⟨(Nat.le_of_ble_eq_true rfl), (Nat.le_of_ble_eq_true rfl)⟩ (Nat.le_of_ble_eq_true rfl) dX4_set_2 ?_
  refine V_ifb_ne (tgt := 11) hC dX4_set_5 (by decide) (fun c5 => ?_) (fun c5 => ?_)
  · obtain ⟨j, hj, rfl⟩ := gIx_of c5 (by have := hw.1; omega)
    have hj60 := hw.1
    refine V_aload_n hC dX4_set_11 rfl ?_
    refine V_iload_n hC dX4_set_12 rfl ?_
    refine mc1v hC (m_isNothing (j := j) (by omega)) rfl mw_isNothing ⟨⟨(Nat.le_of_ble_eq_true rfl), (Nat.le_of_ble_eq_true rfl)⟩, rfl, rfl⟩ ⟨(Nat.le_of_ble_eq_true rfl), (Nat.le_of_ble_eq_true rfl)⟩ (Nat.le_of_ble_eq_true rfl) dX4_set_13 ?_
    refine V_ifb_eq (tgt := 22) hC dX4_set_16 (by decide) (fun c16 => ?_) (fun c16 => ?_)
    · obtain ⟨s, hs1, hs2⟩ := hr.yes hw hj c16
      obtain ⟨p1, p2, p3, p4⟩ := hr.2.2.1 j s hs2
      have hl := hw.len hs2
      refine V_iload_n hC dX4_set_22 rfl ?_
      refine V_i2l hC dX4_set_23 ?_
      refine V_lconst (v := 0) hC dX4_set_24 (by decide) ?_
      refine V_aload_n hC dX4_set_25 rfl ?_
      refine mg_sizes hC dX4_set_26 ?_
      refine V_iload_n hC dX4_set_29 rfl ?_
      refine ml_sizes hC j rfl (by omega) dX4_set_30 ?_
      rw [p3]
      refine V_iconst (v := 1) hC dX4_set_31 (by decide) ?_
      refine V_isub hC dX4_set_32 ?_
      refine V_i2l hC dX4_set_33 ?_
      refine mt3v hC m_in mw_in ⟨⟨(Nat.le_of_ble_eq_true rfl), (Nat.le_of_ble_eq_true rfl)⟩, rfl, rfl⟩ ⟨(Nat.le_of_ble_eq_true rfl), (Nat.le_of_ble_eq_true rfl)⟩ (Nat.le_of_ble_eq_true rfl) dX4_set_34 ?_
      rw [gIn_ix lev (by omega)]
      refine V_ifb_ne (tgt := 43) hC dX4_set_37 (by decide) (fun c37 => ?_) (fun c37 => ?_)
      · obtain ⟨i, hi, rfl⟩ := gIx_of c37 (by omega)
        refine V_aload_n hC dX4_set_43 rfl ?_
        refine mg_levels hC dX4_set_44 ?_
        refine V_bipush (v := 12) hC dX4_set_47 (by decide) ?_
        refine V_iload_n hC dX4_set_49 rfl ?_
        refine V_imul hC dX4_set_50 ?_
        refine V_iload_n hC dX4_set_51 rfl ?_
        refine V_iadd hC dX4_set_52 ?_
        refine V_lload_n hC dX4_set_53 rfl ?_
        refine ms_levels hC (12 * j + i) (g12 j i) (by omega) dX4_set_54 ?_
        refine V_iconst (v := 1) hC dX4_set_55 (by decide) ?_
        exact V_iret hC dX4_set_56 (Nat.le_of_ble_eq_true rfl) (Nat.le_of_ble_eq_true rfl) (RMp_i (by unfold o_set; rw [hs1]; simp only [c37]; rw [if_pos trivial, nI_clamp (by omega), nI_clamp (by omega)]) (hr.setL hw hs2 hi))
      · refine V_bipush (v := (-13)) hC dX4_set_40 (by decide) ?_
        exact V_iret hC dX4_set_42 (Nat.le_of_ble_eq_true rfl) (Nat.le_of_ble_eq_true rfl) (RMp_i (by unfold o_set; rw [hs1]; simp only [c37]; rfl) hr)
    · refine V_bipush (v := (-11)) hC dX4_set_19 (by decide) ?_
      exact V_iret hC dX4_set_21 (Nat.le_of_ble_eq_true rfl) (Nat.le_of_ble_eq_true rfl) (RMp_i (by unfold o_set; rw [hr.no hw hj c16]) hr)
  · refine V_bipush (v := (-2)) hC dX4_set_8 (by decide) ?_
    exact V_iret hC dX4_set_10 (Nat.le_of_ble_eq_true rfl) (Nat.le_of_ble_eq_true rfl) (RMp_i (by unfold o_set; rw [scAt_no c5]) hr)
set_option maxHeartbeats 2000000 in
theorem m_put {l : Launch} {G : gG} {a : Nat} {I : Nat → Int32} {J : Nat → Int64} {P : Nat → Nat → Int32} {Q : Nat → Nat → Int64} {M0 : gM} {σ : Sy} (hw : Sw σ) (hr : RM σ I P Q) {c : Int32} : gMet l yX4_put (gWs yX4_put cX4_put 2 (some .int) []) ({ frames := 1, cells := 0, slots := 0, locals := 25 } : Room) G [.ref a, .int c] (mkM G a I J P Q M0) (RMp G a M0 (o_put σ c)) := by
  refine gMet.intro (by decide) (Nat.le_of_ble_eq_true rfl) (fun C hl hC hN => ?_)
  subst hl
  replace hC : Ck G C [] cX4_put RX4 2 (some .int) ({ frames := 1, cells := 0, slots := 0, locals := 25 } : Room) (RMp G a M0 (o_put σ c)) := hC
  refine V.loc [some (.ref a), some (.int c)] ⟨rfl, rfl, trivial⟩ ?_
  refine V_iload_n hC dX4_put_0 rfl ?_
  refine V_i2l hC dX4_put_1 ?_
  refine V_lconst (v := 0) hC dX4_put_2 (by decide) ?_
  refine V_ldc2 hC dX4_put_3 q1007 ?_
  refine mt3v hC m_in mw_in ⟨⟨(Nat.le_of_ble_eq_true rfl), (Nat.le_of_ble_eq_true rfl)⟩, rfl, rfl⟩ ⟨(Nat.le_of_ble_eq_true rfl), (Nat.le_of_ble_eq_true rfl)⟩ (Nat.le_of_ble_eq_true rfl) dX4_put_6 ?_
  rw [gIn_c c 128 (by decide) (by decide)]
  refine V_ifb_ne (tgt := 15) hC dX4_put_9 (by decide) (fun c9 => ?_) (fun c9 => ?_)
  · refine V_aload_n hC dX4_put_15 rfl ?_
    refine mg_tapeSize hC dX4_put_16 ?_
    refine V_sipush (v := 300) hC dX4_put_19 (by decide) ?_
    rw [hr.2.2.2.2.2.2.2.2.1]
    refine V_icmp_ne (tgt := 28) hC dX4_put_22 (by decide) (fun c22 => ?_) (fun c22 => ?_)
    · refine V_aload_n hC dX4_put_28 rfl ?_
      refine mg_tape hC dX4_put_29 ?_
      refine V_aload_n hC dX4_put_32 rfl ?_
      refine mg_tapeSize hC dX4_put_33 ?_
      refine V_iload_n hC dX4_put_36 rfl ?_
      have ht := hr.2.2.2.2.2.2.2.2.1
      have hlt : σ.tp.length < 300 := by
        have h1 := hw.2.2.1
        have h2 : ¬ σ.tp.length = 300 := fun q => c22 (by rw [q]; rfl)
        omega
      rw [ht]
      refine ms_tape hC σ.tp.length rfl hlt dX4_put_37 ?_
      refine V_aload_n hC dX4_put_38 rfl ?_
      refine V_dup hC dX4_put_39 rfl ?_
      refine mg_tapeSize hC dX4_put_40 ?_
      refine V_iconst (v := 1) hC dX4_put_43 (by decide) ?_
      refine V_iadd hC dX4_put_44 ?_
      refine mp_tapeSize hC dX4_put_45 ?_
      refine V_aload_n hC dX4_put_48 rfl ?_
      refine mg_tapeSize hC dX4_put_49 ?_
      exact V_iret hC dX4_put_52 (Nat.le_of_ble_eq_true rfl) (Nat.le_of_ble_eq_true rfl) (by
            obtain ⟨h0, h1, h2, h3, h6, h7, h8, h9, h10, h11, h12, h13⟩ := hr
            have hne : ¬ σ.tp.length = 300 := by omega
            show RMp G a M0 (o_put σ c) (.inl (some (.int (I 6 + 1)))) _
            rw [show I 6 + 1 = nI (σ.tp.length + 1) by rw [ht, nI_1]]
            refine RMp_i (by unfold o_put; rw [c9, if_neg (by decide), if_neg hne]) ?_
            refine ⟨h0, h1, h2, h3, h6, h7, h8, h9, ?_, ?_, h12, h13⟩
            · show nI (σ.tp.length + 1) = nI (σ.tp ++ [c]).length
              rw [List.length_append]
              rfl
            · intro j d hd
              show va_up (P 4) σ.tp.length c j = d
              rcases gAppAt hd with ⟨q1, q2⟩ | ⟨q1, q2⟩
              · rw [va_up_ne _ _ (by omega)]
                exact h11 j d q2
              · rw [q1, va_up_self]
                exact q2)
    · refine V_bipush (v := (-4)) hC dX4_put_25 (by decide) ?_
      exact V_iret hC dX4_put_27 (Nat.le_of_ble_eq_true rfl) (Nat.le_of_ble_eq_true rfl) (RMp_i (by unfold o_put; rw [c9, if_neg (by decide), if_pos ((nI_eq (b := 300) (by have := hw.2.2.1; omega) (by decide)).mp c22)]) hr)
  · refine V_bipush (v := (-3)) hC dX4_put_12 (by decide) ?_
    exact V_iret hC dX4_put_14 (Nat.le_of_ble_eq_true rfl) (Nat.le_of_ble_eq_true rfl) (RMp_i (by unfold o_put; rw [c9, if_pos rfl]) hr)
set_option maxHeartbeats 2000000 in
theorem m_out {l : Launch} {G : gG} {a : Nat} {I : Nat → Int32} {J : Nat → Int64} {P : Nat → Nat → Int32} {Q : Nat → Nat → Int64} {M0 : gM} {σ : Sy} (hw : Sw σ) (hr : RM σ I P Q) {i : Int32} : gMet l yX4_out (gWs yX4_out cX4_out 2 (some .int) []) ({ frames := 1, cells := 0, slots := 0, locals := 25 } : Room) G [.ref a, .int i] (mkM G a I J P Q M0) (RMp G a M0 (o_out σ i, σ)) := by
  refine gMet.intro (by decide) (Nat.le_of_ble_eq_true rfl) (fun C hl hC hN => ?_)
  subst hl
  replace hC : Ck G C [] cX4_out RX4 2 (some .int) ({ frames := 1, cells := 0, slots := 0, locals := 25 } : Room) (RMp G a M0 (o_out σ i, σ)) := hC
  refine V.loc [some (.ref a), some (.int i)] ⟨rfl, rfl, trivial⟩ ?_
  refine V_iload_n hC dX4_out_0 rfl ?_
  refine V_i2l hC dX4_out_1 ?_
  refine V_lconst (v := 0) hC dX4_out_2 (by decide) ?_
  refine V_aload_n hC dX4_out_3 rfl ?_
  refine mg_outSize hC dX4_out_4 ?_
  refine V_iconst (v := 1) hC dX4_out_7 (by decide) ?_
  refine V_isub hC dX4_out_8 ?_
  refine V_i2l hC dX4_out_9 ?_
  refine mt3v hC m_in mw_in ⟨⟨(Nat.le_of_ble_eq_true rfl), (Nat.le_of_ble_eq_true rfl)⟩, rfl, rfl⟩ ⟨(Nat.le_of_ble_eq_true rfl), (Nat.le_of_ble_eq_true rfl)⟩ (Nat.le_of_ble_eq_true rfl) dX4_out_10 ?_
  rw [show I 7 = nI σ.ou.length from hr.2.2.2.2.2.2.2.2.2.2.1, gIn_ix i (by have := hw.2.2.2.2.1; omega)]
  refine V_ifb_eq (tgt := 25) hC dX4_out_13 (by decide) (fun c13 => ?_) (fun c13 => ?_)
  · refine V_iconst (v := (-1)) hC dX4_out_25 (by decide) ?_
    exact V_iret hC dX4_out_26 (Nat.le_of_ble_eq_true rfl) (Nat.le_of_ble_eq_true rfl) (RMp_i (by unfold o_out; rw [c13, if_neg (by decide)]) hr)
  · obtain ⟨j, hj, rfl⟩ := gIx_of c13 (by have := hw.2.2.2.2.1; omega)
    have hb := hw.2.2.2.2.1
    refine V_aload_n hC dX4_out_16 rfl ?_
    refine mg_out hC dX4_out_17 ?_
    refine V_iload_n hC dX4_out_20 rfl ?_
    refine ml_out hC j rfl (by omega) dX4_out_21 ?_
    refine V_goto (tgt := 26) hC dX4_out_22 (by decide) ?_
    exact V_iret hC dX4_out_26 (Nat.le_of_ble_eq_true rfl) (Nat.le_of_ble_eq_true rfl) (RMp_i (by unfold o_out; rw [c13, if_pos rfl, nI_clamp (by omega), hr.2.2.2.2.2.2.2.2.2.2.2 j _ (List.getElem?_eq_getElem hj), List.getD_eq_getElem?_getD, List.getElem?_eq_getElem hj]; rfl) hr)
set_option maxHeartbeats 2000000 in
theorem m_drop {l : Launch} {G : gG} {a : Nat} {I : Nat → Int32} {J : Nat → Int64} {P : Nat → Nat → Int32} {Q : Nat → Nat → Int64} {M0 : gM} {σ : Sy} (hw : Sw σ) (hr : RM σ I P Q)  : gMet l yX4_drop (gWs yX4_drop cX4_drop 1 (some .int) []) ({ frames := 0, cells := 0, slots := 0, locals := 0 } : Room) G [.ref a] (mkM G a I J P Q M0) (RMp G a M0 (o_drop σ)) := by
  refine gMet.intro (by decide) (Nat.le_of_ble_eq_true rfl) (fun C hl hC hN => ?_)
  subst hl
  replace hC : Ck G C [] cX4_drop RX4 1 (some .int) ({ frames := 0, cells := 0, slots := 0, locals := 0 } : Room) (RMp G a M0 (o_drop σ)) := hC
  refine V.loc [some (.ref a)] ⟨rfl, trivial⟩ ?_
  refine V_aload_n hC dX4_drop_0 rfl ?_
  refine mg_scores hC dX4_drop_1 ?_
  rw [hr.1]
  refine V_if_ne (tgt := 10) hC dX4_drop_4 (by decide) (fun c4 => ?_) (fun c4 => ?_)
  · refine V_aload_n hC dX4_drop_10 rfl ?_
    refine V_dup hC dX4_drop_11 rfl ?_
    refine mg_scores hC dX4_drop_12 ?_
    refine V_iconst (v := 1) hC dX4_drop_15 (by decide) ?_
    refine V_isub hC dX4_drop_16 ?_
    refine mp_scores hC dX4_drop_17 ?_
    refine V_aload_n hC dX4_drop_20 rfl ?_
    refine mg_scores hC dX4_drop_21 ?_
    exact V_iret hC dX4_drop_24 (Nat.le_of_ble_eq_true rfl) (Nat.le_of_ble_eq_true rfl) (by
          obtain ⟨h0, h1, h2, h3⟩ := hr
          have hne : ¬ σ.sc.length = 0 := fun q => c4 (by rw [q]; rfl)
          have e : I 0 - 1 = nI (σ.sc.length - 1) := by
            rw [h0]
            have := nI_pred (σ.sc.length - 1)
            rwa [show σ.sc.length - 1 + 1 = σ.sc.length by omega] at this
          show RMp G a M0 (o_drop σ) (.inl (some (.int (I 0 - 1)))) _
          rw [e]
          refine RMp_i (by unfold o_drop; rw [if_neg hne]) ?_
          have hd : ∀ (i : Nat) (y : Option Sc), σ.sc.dropLast[i]? = some y → σ.sc[i]? = some y := by
            intro i y hy
            rw [List.dropLast_eq_take, List.getElem?_take] at hy
            split at hy
            · exact hy
            · cases hy
          refine ⟨?_, fun i hi => h1 i (hd i _ hi), fun i s hi => h2 i s (hd i _ hi), h3⟩
          show nI (σ.sc.length - 1) = nI σ.sc.dropLast.length
          rw [List.length_dropLast])
  · refine V_bipush (v := (-2)) hC dX4_drop_7 (by decide) ?_
    exact V_iret hC dX4_drop_9 (Nat.le_of_ble_eq_true rfl) (Nat.le_of_ble_eq_true rfl) (RMp_i (by unfold o_drop; rw [if_pos ((nI_eq (b := 0) (by have := hw.1; omega) (by decide)).mp c4)]) hr)
set_option maxHeartbeats 2000000 in
theorem m_plan {l : Launch} {G : gG} {a : Nat} {I : Nat → Int32} {J : Nat → Int64} {P : Nat → Nat → Int32} {Q : Nat → Nat → Int64} {M0 : gM} {σ : Sy} (hw : Sw σ) (hr : RM σ I P Q) {x : Int32} : gMet l yX4_plan (gWs yX4_plan cX4_plan 3 (some .int) []) ({ frames := 2, cells := 0, slots := 0, locals := 46 } : Room) G [.ref a, .int x] (mkM G a I J P Q M0) (RMp G a M0 (o_plan σ x)) := by
  refine gMet.intro (by decide) (Nat.le_of_ble_eq_true rfl) (fun C hl hC hN => ?_)
  subst hl
  replace hC : Ck G C [] cX4_plan RX4 3 (some .int) ({ frames := 2, cells := 0, slots := 0, locals := 46 } : Room) (RMp G a M0 (o_plan σ x)) := hC
  refine V.loc [some (.ref a), some (.int x)] ⟨rfl, rfl, trivial⟩ ?_
  refine V_aload_n hC dX4_plan_0 rfl ?_
  refine V_iload_n hC dX4_plan_1 rfl ?_
  refine mc1v hC (m_isNumber hr.1 (by have := hw.1; omega)) rfl mw_isNumber ⟨⟨(Nat.le_of_ble_eq_true rfl), (Nat.le_of_ble_eq_true rfl)⟩, rfl, rfl⟩ ⟨(Nat.le_of_ble_eq_true rfl), (Nat.le_of_ble_eq_true rfl)⟩ (Nat.le_of_ble_eq_true rfl) dX4_plan_2 ?_
  refine V_ifb_ne (tgt := 11) hC dX4_plan_5 (by decide) (fun c5 => ?_) (fun c5 => ?_)
  · obtain ⟨j, hj, rfl⟩ := gIx_of c5 (by have := hw.1; omega)
    have hj60 := hw.1
    refine V_aload_n hC dX4_plan_11 rfl ?_
    refine V_iload_n hC dX4_plan_12 rfl ?_
    refine mc1v hC (m_isNothing (j := j) (by omega)) rfl mw_isNothing ⟨⟨(Nat.le_of_ble_eq_true rfl), (Nat.le_of_ble_eq_true rfl)⟩, rfl, rfl⟩ ⟨(Nat.le_of_ble_eq_true rfl), (Nat.le_of_ble_eq_true rfl)⟩ (Nat.le_of_ble_eq_true rfl) dX4_plan_13 ?_
    refine V_ifb_eq (tgt := 22) hC dX4_plan_16 (by decide) (fun c16 => ?_) (fun c16 => ?_)
    · obtain ⟨s, hs1, hs2⟩ := hr.yes hw hj c16
      obtain ⟨p1, p2, p3, p4⟩ := hr.2.2.1 j s hs2
      refine V_aload_n hC dX4_plan_22 rfl ?_
      refine mg_rules hC dX4_plan_23 ?_
      refine V_istore_n hC dX4_plan_26 (Nat.le_of_ble_eq_true rfl) ?_
      refine V_aload_n hC dX4_plan_27 rfl ?_
      refine V_aload_n hC dX4_plan_28 rfl ?_
      refine mg_shapes hC dX4_plan_29 ?_
      refine V_iload_n hC dX4_plan_32 rfl ?_
      refine ml_shapes hC j rfl (by omega) dX4_plan_33 ?_
      refine mp_planShape hC dX4_plan_34 ?_
      refine V_aload_n hC dX4_plan_37 rfl ?_
      refine V_aload_n hC dX4_plan_38 rfl ?_
      refine mg_hards hC dX4_plan_39 ?_
      refine V_iload_n hC dX4_plan_42 rfl ?_
      refine ml_hards hC j rfl (by omega) dX4_plan_43 ?_
      refine mp_planHard hC dX4_plan_44 ?_
      refine V_aload_n hC dX4_plan_47 rfl ?_
      refine V_aload_n hC dX4_plan_48 rfl ?_
      refine mg_sizes hC dX4_plan_49 ?_
      refine V_iload_n hC dX4_plan_52 rfl ?_
      refine ml_sizes hC j rfl (by omega) dX4_plan_53 ?_
      refine mp_planSize hC dX4_plan_54 ?_
      refine V_aload_n hC dX4_plan_57 rfl ?_
      refine V_iconst (v := 0) hC dX4_plan_58 (by decide) ?_
      refine mp_rules hC dX4_plan_59 ?_
      refine V_aload_n hC dX4_plan_62 rfl ?_
      refine V_iconst (v := 0) hC dX4_plan_63 (by decide) ?_
      refine mp_kept hC dX4_plan_64 ?_
      refine V_iload_n hC dX4_plan_67 rfl ?_
      exact V_iret hC dX4_plan_68 (Nat.le_of_ble_eq_true rfl) (Nat.le_of_ble_eq_true rfl) (by
            obtain ⟨h0, h1, h2, h3, h6, h7, h8, h9, h10, h11, h12, h13⟩ := hr
            rw [h6]
            refine RMp_i (by unfold o_plan; rw [hs1]) ?_
            exact ⟨h0, h1, h2, ⟨p1, p2, p3⟩, rfl, (fun r q hq => by replace hq : ([] : List (List Int64 × Nat))[r]? = some q := hq; simp at hq), rfl, (fun r q hq => by replace hq : ([] : List (List Int64))[r]? = some q := hq; simp at hq), h10, h11, h12, h13⟩)
    · refine V_bipush (v := (-11)) hC dX4_plan_19 (by decide) ?_
      exact V_iret hC dX4_plan_21 (Nat.le_of_ble_eq_true rfl) (Nat.le_of_ble_eq_true rfl) (RMp_i (by unfold o_plan; rw [hr.no hw hj c16]) hr)
  · refine V_bipush (v := (-2)) hC dX4_plan_8 (by decide) ?_
    exact V_iret hC dX4_plan_10 (Nat.le_of_ble_eq_true rfl) (Nat.le_of_ble_eq_true rfl) (RMp_i (by unfold o_plan; rw [scAt_no c5]) hr)
set_option maxHeartbeats 2000000 in
theorem m_many {l : Launch} {G : gG} {a : Nat} {I : Nat → Int32} {J : Nat → Int64} {P : Nat → Nat → Int32} {Q : Nat → Nat → Int64} {M0 : gM} {σ : Sy} (hw : Sw σ) (hr : RM σ I P Q) {w : Int32} : gMet l yX4_many (gWs yX4_many cX4_many 2 (some .int) []) ({ frames := 0, cells := 0, slots := 0, locals := 0 } : Room) G [.ref a, .int w] (mkM G a I J P Q M0) (RMp G a M0 (o_many σ w, σ)) := by
  refine gMet.intro (by decide) (Nat.le_of_ble_eq_true rfl) (fun C hl hC hN => ?_)
  subst hl
  replace hC : Ck G C [] cX4_many RX4 2 (some .int) ({ frames := 0, cells := 0, slots := 0, locals := 0 } : Room) (RMp G a M0 (o_many σ w, σ)) := hC
  refine V.loc [some (.ref a), some (.int w)] ⟨rfl, rfl, trivial⟩ ?_
  refine V_iload_n hC dX4_many_0 rfl ?_
  by_cases e0 : w = 0
  · subst e0
    refine V_tableIn (off := 35) (tgt := 36) hC dX4_many_1 (by decide) (by decide) (by decide) (by decide) ?_
    refine V_aload_n hC dX4_many_36 rfl ?_
    refine mg_scores hC dX4_many_37 ?_
    exact V_iret hC dX4_many_40 (Nat.le_of_ble_eq_true rfl) (Nat.le_of_ble_eq_true rfl) (RMp_i (by rw [hr.1]; rfl) hr)
  by_cases e1 : w = 1
  · subst e1
    refine V_tableIn (off := 40) (tgt := 41) hC dX4_many_1 (by decide) (by decide) (by decide) (by decide) ?_
    refine V_aload_n hC dX4_many_41 rfl ?_
    refine mg_rules hC dX4_many_42 ?_
    exact V_iret hC dX4_many_45 (Nat.le_of_ble_eq_true rfl) (Nat.le_of_ble_eq_true rfl) (RMp_i (by rw [hr.2.2.2.2.1]; rfl) hr)
  by_cases e2 : w = 2
  · subst e2
    refine V_tableIn (off := 45) (tgt := 46) hC dX4_many_1 (by decide) (by decide) (by decide) (by decide) ?_
    refine V_aload_n hC dX4_many_46 rfl ?_
    refine mg_kept hC dX4_many_47 ?_
    exact V_iret hC dX4_many_50 (Nat.le_of_ble_eq_true rfl) (Nat.le_of_ble_eq_true rfl) (RMp_i (by rw [hr.2.2.2.2.2.2.1]; rfl) hr)
  by_cases e3 : w = 3
  · subst e3
    refine V_tableIn (off := 50) (tgt := 51) hC dX4_many_1 (by decide) (by decide) (by decide) (by decide) ?_
    refine V_aload_n hC dX4_many_51 rfl ?_
    refine mg_tapeSize hC dX4_many_52 ?_
    exact V_iret hC dX4_many_55 (Nat.le_of_ble_eq_true rfl) (Nat.le_of_ble_eq_true rfl) (RMp_i (by rw [hr.2.2.2.2.2.2.2.2.1]; rfl) hr)
  by_cases e4 : w = 4
  · subst e4
    refine V_tableIn (off := 55) (tgt := 56) hC dX4_many_1 (by decide) (by decide) (by decide) (by decide) ?_
    refine V_aload_n hC dX4_many_56 rfl ?_
    refine mg_outSize hC dX4_many_57 ?_
    exact V_iret hC dX4_many_60 (Nat.le_of_ble_eq_true rfl) (Nat.le_of_ble_eq_true rfl) (RMp_i (by rw [hr.2.2.2.2.2.2.2.2.2.2.1]; rfl) hr)
  refine V_tableOut (tgt := 61) hC dX4_many_1 ?_ (by decide) ?_
  · have f : ∀ k : Nat, k < 5 → w = nI k → False := fun k hk q => by
      rcases (show k = 0 ∨ k = 1 ∨ k = 2 ∨ k = 3 ∨ k = 4 by omega) with rfl | rfl | rfl | rfl | rfl
      · exact e0 q
      · exact e1 q
      · exact e2 q
      · exact e3 q
      · exact e4 q
    rcases Int.lt_or_le w.toInt 0 with q | q
    · exact Or.inl q
    · rcases Int.lt_or_le 4 w.toInt with q2 | q2
      · exact Or.inr q2
      · obtain ⟨k, hk, e⟩ := vp_in_of (x := w) (n := 5) (vp_in_iff.mpr ⟨q, by omega⟩) (by decide)
        exact (f k hk e).elim
  · refine V_bipush (v := (-3)) hC dX4_many_61 (by decide) ?_
    exact V_iret hC dX4_many_63 (Nat.le_of_ble_eq_true rfl) (Nat.le_of_ble_eq_true rfl) (RMp_i (by unfold o_many; rw [if_neg e0, if_neg e1, if_neg e2, if_neg e3, if_neg e4]) hr)
