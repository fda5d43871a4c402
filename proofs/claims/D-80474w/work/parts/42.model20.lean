/-! MODEL 20: read -/
/-- an empty tape -/
def Sy.tp0 (σ : Sy) : Sy := (σ.sc, [], σ.2.2)
def o_readR (σ : Sy) (q : Nat × Option Sc) : Int32 × Sy := match q.2 with
  | some s => if q.1 = σ.tp.length then (nI σ.sc.length, σ.tp0.add (some s)) else (-100 - nI q.1, σ.tp0)
  | none => (-100 - nI q.1, σ.tp0)
def o_read (σ : Sy) : Int32 × Sy := if σ.sc.length = 60 then (-4, σ.tp0) else o_readR σ (txS σ.tp)
theorem Sw.tp0 {σ : Sy} (h : Sw σ) : Sw σ.tp0 := ⟨h.1, h.2.1, Nat.zero_le _, (fun c hc => by cases hc), h.2.2.2.2⟩
theorem RM.tp0 {σ : Sy} {I I' : Nat → Int32} {P : Nat → Nat → Int32} {Q : Nat → Nat → Int64} (h : RM σ I P Q) (h6 : I' 6 = 0) (hi : ∀ j, j ≤ 7 → j ≠ 6 → I' j = I j) : RM σ.tp0 I' P Q := by
  obtain ⟨h0, h1, h2, ⟨h3, h4, h5⟩, h6', h7, h8, h9, h10, h11, h12, h13⟩ := h
  refine ⟨?_, h1, h2, ⟨?_, ?_, ?_⟩, ?_, h7, ?_, h9, h6, (fun j c hc => by cases hc), ?_, h13⟩
  · rw [hi 0 (by decide) (by decide)]; exact h0
  · rw [hi 1 (by decide) (by decide)]; exact h3
  · rw [hi 2 (by decide) (by decide)]; exact h4
  · rw [hi 3 (by decide) (by decide)]; exact h5
  · rw [hi 4 (by decide) (by decide)]; exact h6'
  · rw [hi 5 (by decide) (by decide)]; exact h8
  · rw [hi 7 (by decide) (by decide)]; exact h12
/-- what lies behind the last score is nobody's -/
theorem RM.eqs {σ : Sy} {I : Nat → Int32} {P P' : Nat → Nat → Int32} {Q Q' : Nat → Nat → Int64} (h : RM σ I P Q) (hw : Sw σ) (hP : ∀ j i, j ≤ 2 → i < σ.sc.length → P' j i = P j i) (hP2 : ∀ j, 3 ≤ j → P' j = P j) (hQ : ∀ i, i < 12 * σ.sc.length → Q' 0 i = Q 0 i) (hQ2 : ∀ j, j ≠ 0 → Q' j = Q j) : RM σ I P' Q' := by
  obtain ⟨h0, h1, h2, h3, h6, h7, h8, h9, h10, h11, h12, h13⟩ := h
  refine ⟨h0, fun i hi => ?_, fun i s hi => ?_, h3, h6, ?_, h8, ?_, h10, ?_, h12, ?_⟩
  · rw [hP 0 i (by decide) (List.getElem?_eq_some_iff.mp hi).1]
    exact h1 i hi
  · have q1 := (List.getElem?_eq_some_iff.mp hi).1
    obtain ⟨r1, r2, r3, r4⟩ := h2 i s hi
    have hl := (hw.len hi).1
    refine ⟨by rw [hP 0 i (by decide) q1]; exact r1, by rw [hP 1 i (by decide) q1]; exact r2, by rw [hP 2 i (by decide) q1]; exact r3, fun k v hv => ?_⟩
    have hk : k < s.2.2.length := (List.getElem?_eq_some_iff.mp hv).1
    rw [hQ _ (by omega)]
    exact r4 k v hv
  · rw [hP2 3 (by decide), hQ2 1 (by decide)]; exact h7
  · rw [hQ2 2 (by decide)]; exact h9
  · rw [hP2 4 (by decide)]; exact h11
  · rw [hP2 5 (by decide)]; exact h13
theorem RM.ht {σ : Sy} {I : Nat → Int32} {P : Nat → Nat → Int32} {Q : Nat → Nat → Int64} (h : RM σ I P Q) (hw : Sw σ) : HT σ.tp I P := by
  obtain ⟨h0, h1, h2, h3, h6, h7, h8, h9, h10, h11, h12, h13⟩ := h
  exact ⟨h10, hw.2.2.1, h11⟩
set_option maxHeartbeats 4000000 in
theorem m_read {l : Launch} {G : gG} {a : Nat} {I : Nat → Int32} {J : Nat → Int64} {P : Nat → Nat → Int32} {Q : Nat → Nat → Int64} {M0 : gM} {σ : Sy} (hw : Sw σ) (hr : RM σ I P Q)  : gMet l yX4_read (gWs yX4_read cX4_read 3 (some .int) []) ({ frames := 5, cells := 0, slots := 0, locals := 115 } : Room) G [.ref a] (mkM G a I J P Q M0) (RMp G a M0 (o_read σ)) := by
  refine gMet.intro (by decide) (Nat.le_of_ble_eq_true rfl) (fun C hl hC hN => ?_)
  subst hl
  replace hC : Ck G C [] cX4_read RX4 3 (some .int) ({ frames := 5, cells := 0, slots := 0, locals := 115 } : Room) (RMp G a M0 (o_read σ)) := hC
  refine V.loc [some (.ref a)] ⟨rfl, trivial⟩ ?_
  have hb := hw.1
  have hT := hr.ht hw
  refine V_aload_n hC dX4_read_0 rfl ?_
  refine mg_scores hC dX4_read_1 ?_
  refine V_bipush (v := 60) hC dX4_read_4 (by decide) ?_
  rw [hr.1]
  refine V_icmp_ne (tgt := 17) hC dX4_read_6 (by decide) (fun c6 => ?_) (fun c6 => ?_)
  · have c6' : ¬ σ.sc.length = 60 := fun z => c6 ((n60 hw).mpr z)
    have join : ∀ (J1 : Nat → Int64) (P1 : Nat → Nat → Int32) (Q1 : Nat → Nat → Int64), (txS σ.tp).1 ≤ 300 → (∀ j i, j ≤ 2 → i < σ.sc.length → P1 j i = (layP P σ.sc.length 0 0 0) j i) → (∀ j, 3 ≤ j → P1 j = (layP P σ.sc.length 0 0 0) j) → (∀ i, i < 12 * σ.sc.length → Q1 0 i = (layQ Q σ.sc.length) 0 i) → (∀ j, j ≠ 0 → Q1 j = (layQ Q σ.sc.length) j) → (∀ s : Sc, (txS σ.tp).2 = some s → okS s.1 s.2.1 s.2.2.length ∧ P1 0 σ.sc.length = nI s.1 ∧ P1 1 σ.sc.length = nI s.2.1 ∧ P1 2 σ.sc.length = nI s.2.2.length ∧ ∀ (k : Nat) (v : Int64), s.2.2[k]? = some v → Q1 0 (12 * σ.sc.length + k) = v) → V G C (mkM G a (iP I (nI (txS σ.tp).1) (gB (txS σ.tp).2.isNone)) J1 P1 Q1 M0) 0 0 54 (gl [some (.ref a)]) [] := by
      intro J1 P1 Q1 hq t1 t2 t3 t4 t5
      obtain ⟨q, eq⟩ : ∃ q, q = txS σ.tp := ⟨_, rfl⟩
      rw [← eq] at hq t5 ⊢
      have e0 : o_read σ = o_readR σ q := by
        unfold o_read
        rw [if_neg c6', ← eq]
      have u1 : ∀ j i, j ≤ 2 → i < σ.sc.length → P1 j i = P j i := fun j i hj hi => by rw [t1 j i hj hi, layP_lt hj hi]
      have u2 : ∀ j, 3 ≤ j → P1 j = P j := fun j hj => by rw [t2 j hj, layP_gt hj]
      have u3 : ∀ i, i < 12 * σ.sc.length → Q1 0 i = Q 0 i := fun i hi => by rw [t3 i hi, layQ_lt hi]
      have u4 : ∀ j, j ≠ 0 → Q1 j = Q j := fun j hj => by rw [t4 j hj]; exact va_up_ne _ _ hj
      have hB := (hr.eqs hw u1 u2 u3 u4).tp0 (I' := va_up (iP I (nI q.1) (gB q.2.isNone)) 6 0) rfl (fun j h1 h2 => by rw [va_up_ne _ _ h2]; unfold iP; rw [va_up_ne _ _ (by omega), va_up_ne _ _ (by omega)])
      refine V_aload_n hC dX4_read_54 rfl ?_
      refine mg_stuck hC dX4_read_55 ?_
      refine V_seti (y := gB q.2.isNone) rfl ?_
      refine V_ifb_ne (tgt := 88) hC dX4_read_58 (by decide) (fun c58 => ?_) (fun c58 => ?_)
      · refine V_iconst (v := 0) hC dX4_read_88 (by decide) ?_
        refine V_istore_n hC dX4_read_89 (Nat.le_of_ble_eq_true rfl) ?_
        refine V_aload_n hC dX4_read_90 rfl ?_
        refine mg_place hC dX4_read_91 ?_
        refine V_istore_n hC dX4_read_94 (Nat.le_of_ble_eq_true rfl) ?_
        refine V_aload_n hC dX4_read_95 rfl ?_
        refine V_iconst (v := 0) hC dX4_read_96 (by decide) ?_
        refine mp_tapeSize hC dX4_read_97 ?_
        refine V_iload_n hC dX4_read_100 rfl ?_
        refine V_if_eq (tgt := 111) hC dX4_read_101 (by decide) (fun _ => ?_) (fun c => absurd c (by decide))
        refine V_bipush (v := (-100)) hC dX4_read_111 (by decide) ?_
        refine V_iload_n hC dX4_read_113 rfl ?_
        refine V_isub hC dX4_read_114 ?_
        exact V_iret hC dX4_read_115 (Nat.le_of_ble_eq_true rfl) (Nat.le_of_ble_eq_true rfl) (RMp_i (by
              rw [e0]
              unfold o_readR
              obtain hs : q.2 = none := by
                cases h : q.2 with
                | none => rfl
                | some s => rw [h] at c58; cases c58
              rw [hs]
              rfl) hB)
      · refine V_aload_n hC dX4_read_61 rfl ?_
        refine mg_place hC dX4_read_62 ?_
        refine V_aload_n hC dX4_read_65 rfl ?_
        refine mg_tapeSize hC dX4_read_66 ?_
        refine V_seti (y := nI σ.tp.length) hT.1 ?_
        refine V_icmp_ne (tgt := 88) hC dX4_read_69 (by decide) (fun c69 => ?_) (fun c69 => ?_)
        · refine V_iconst (v := 0) hC dX4_read_88 (by decide) ?_
          refine V_istore_n hC dX4_read_89 (Nat.le_of_ble_eq_true rfl) ?_
          refine V_aload_n hC dX4_read_90 rfl ?_
          refine mg_place hC dX4_read_91 ?_
          refine V_istore_n hC dX4_read_94 (Nat.le_of_ble_eq_true rfl) ?_
          refine V_aload_n hC dX4_read_95 rfl ?_
          refine V_iconst (v := 0) hC dX4_read_96 (by decide) ?_
          refine mp_tapeSize hC dX4_read_97 ?_
          refine V_iload_n hC dX4_read_100 rfl ?_
          refine V_if_eq (tgt := 111) hC dX4_read_101 (by decide) (fun _ => ?_) (fun c => absurd c (by decide))
          refine V_bipush (v := (-100)) hC dX4_read_111 (by decide) ?_
          refine V_iload_n hC dX4_read_113 rfl ?_
          refine V_isub hC dX4_read_114 ?_
          exact V_iret hC dX4_read_115 (Nat.le_of_ble_eq_true rfl) (Nat.le_of_ble_eq_true rfl) (RMp_i (by
                rw [e0]
                unfold o_readR
                obtain ⟨s, hs⟩ := gIsN c58
                rw [hs]
                show (if q.1 = σ.tp.length then _ else _) = _
                rw [if_neg (fun z => c69 (congrArg nI z))]
                rfl) hB)
        · refine V_aload_n hC dX4_read_72 rfl ?_
          refine mg_sizes hC dX4_read_73 ?_
          refine V_aload_n hC dX4_read_76 rfl ?_
          refine mg_scores hC dX4_read_77 ?_
          refine V_seti (y := nI σ.sc.length) hr.1 ?_
          refine ml_sizes hC σ.sc.length rfl (by omega) dX4_read_80 ?_
          refine V_seti (y := P1 2 σ.sc.length) rfl ?_
          refine V_if_le (tgt := 88) hC dX4_read_81 (by decide) (fun c81 => absurd c81 (by obtain ⟨s, hs⟩ := gIsN c58; obtain ⟨v1, v2, v3, v4, v5⟩ := t5 s hs; rw [v4]; unfold okS at v1; exact fun z => nI_ge (show 0 < s.2.2.length by omega) (by omega) (show nI _ ≤ nI 0 from z))) (fun c81 => ?_)
          refine V_iconst (v := 1) hC dX4_read_84 (by decide) ?_
          refine V_goto (tgt := 89) hC dX4_read_85 (by decide) ?_
          refine V_istore_n hC dX4_read_89 (Nat.le_of_ble_eq_true rfl) ?_
          refine V_aload_n hC dX4_read_90 rfl ?_
          refine mg_place hC dX4_read_91 ?_
          refine V_istore_n hC dX4_read_94 (Nat.le_of_ble_eq_true rfl) ?_
          refine V_aload_n hC dX4_read_95 rfl ?_
          refine V_iconst (v := 0) hC dX4_read_96 (by decide) ?_
          refine mp_tapeSize hC dX4_read_97 ?_
          refine V_iload_n hC dX4_read_100 rfl ?_
          refine V_if_eq (tgt := 111) hC dX4_read_101 (by decide) (fun c => absurd c (by decide)) (fun _ => ?_)
          refine V_aload_n hC dX4_read_104 rfl ?_
          refine mc0v hC m_keepScore rfl mw_keepScore ⟨⟨(Nat.le_of_ble_eq_true rfl), (Nat.le_of_ble_eq_true rfl)⟩, rfl, rfl⟩ ⟨(Nat.le_of_ble_eq_true rfl), (Nat.le_of_ble_eq_true rfl)⟩ (Nat.le_of_ble_eq_true rfl) dX4_read_105 ?_
          refine V_goto (tgt := 115) hC dX4_read_108 (by decide) ?_
          exact V_iret hC dX4_read_115 (Nat.le_of_ble_eq_true rfl) (Nat.le_of_ble_eq_true rfl) (by
                obtain ⟨s, hs⟩ := gIsN c58
                obtain ⟨v1, v2, v3, v4, v5⟩ := t5 s hs
                rw [show (va_up (iP I (nI q.1) (gB q.2.isNone)) 6 0) 0 = nI σ.sc.length from hr.1, g_pm]
                have hq2 : q.1 = σ.tp.length := (nI_eq (by omega) (by have := hw.2.2.1; omega)).mp c69
                refine RMp_i (by rw [e0]; unfold o_readR; rw [hs]; show (if q.1 = σ.tp.length then _ else _) = _; rw [if_pos hq2]) ?_
                refine RM.push (σ := σ.tp0) hB hw.tp0 (some s) ?_ (fun j h1 h2 => va_up_ne _ _ (by omega)) (fun _ _ _ _ => rfl) (fun _ _ _ => rfl) (fun _ _ => rfl) ⟨rfl, rfl⟩ (fun h => by cases h) (fun s' h => by cases h; exact ⟨v2, v3, v4, v5⟩)
                rw [va_up_self, nI_1]
                rfl)
    refine V_aload_n hC dX4_read_17 rfl ?_
    refine V_iconst (v := 0) hC dX4_read_18 (by decide) ?_
    refine mp_place hC dX4_read_19 ?_
    refine V_aload_n hC dX4_read_22 rfl ?_
    refine V_iconst (v := 0) hC dX4_read_23 (by decide) ?_
    refine mp_stuck hC dX4_read_24 rfl rfl ?_
    refine V_aload_n hC dX4_read_27 rfl ?_
    refine V_iconst (v := 0) hC dX4_read_28 (by decide) ?_
    refine V_iconst (v := 0) hC dX4_read_29 (by decide) ?_
    refine V_iconst (v := 0) hC dX4_read_30 (by decide) ?_
    refine mc3n hC (m_lay (I := iP I 0 0) (n := σ.sc.length) hr.1 (by omega)) rfl mw_lay ⟨⟨(Nat.le_of_ble_eq_true rfl), (Nat.le_of_ble_eq_true rfl)⟩, rfl, rfl⟩ ⟨(Nat.le_of_ble_eq_true rfl), (Nat.le_of_ble_eq_true rfl)⟩ (Nat.le_of_ble_eq_true rfl) dX4_read_31 ?_
    have hT2 : HT σ.tp (iP I 0 0) (layP P σ.sc.length 0 0 0) := ⟨hT.1, hT.2.1, hT.2.2⟩
    refine V_aload_n hC dX4_read_34 rfl ?_
    refine mc0v hC (m_he hT2 (p := 0) rfl (by decide)) rfl mw_here ⟨⟨(Nat.le_of_ble_eq_true rfl), (Nat.le_of_ble_eq_true rfl)⟩, rfl, rfl⟩ ⟨(Nat.le_of_ble_eq_true rfl), (Nat.le_of_ble_eq_true rfl)⟩ (Nat.le_of_ble_eq_true rfl) dX4_read_35 ?_
    refine V_bipush (v := 91) hC dX4_read_38 (by decide) ?_
    refine V_icmp_ne (tgt := 50) hC dX4_read_40 (by decide) (fun c40 => ?_) (fun c40 => ?_)
    · refine V_aload_n hC dX4_read_50 rfl ?_
      refine mc0g hC (m_plain hT2 (p := 0) (n := σ.sc.length) rfl rfl (Nat.zero_le _) hr.1 (by omega)) rfl mw_plain ⟨⟨(Nat.le_of_ble_eq_true rfl), (Nat.le_of_ble_eq_true rfl)⟩, rfl, rfl⟩ ⟨(Nat.le_of_ble_eq_true rfl), (Nat.le_of_ble_eq_true rfl)⟩ (Nat.le_of_ble_eq_true rfl) dX4_read_51 (fun X M' h => by obtain ⟨h1, -⟩ := h; cases h1) (fun v M' h => ?_)
      obtain ⟨h1, J1, P1, Q1, h2, hq, t1, t2, t3, t4, t5⟩ := h
      cases h1
      subst h2
      have et : txS σ.tp = plainS σ.tp 0 := by
        unfold txS
        rw [if_neg c40]
      rw [← et] at hq t5 ⊢
      rw [iP_iP]
      exact join J1 P1 Q1 hq t1 t2 t3 t4 t5
    · refine V_aload_n hC dX4_read_43 rfl ?_
      refine mc0g hC (m_bent hT2 (p := 0) (n := σ.sc.length) rfl rfl (Nat.zero_le _) hr.1 (by omega)) rfl mw_bent ⟨⟨(Nat.le_of_ble_eq_true rfl), (Nat.le_of_ble_eq_true rfl)⟩, rfl, rfl⟩ ⟨(Nat.le_of_ble_eq_true rfl), (Nat.le_of_ble_eq_true rfl)⟩ (Nat.le_of_ble_eq_true rfl) dX4_read_44 (fun X M' h => by obtain ⟨h1, -⟩ := h; cases h1) (fun v M' h => ?_)
      obtain ⟨h1, J1, P1, Q1, h2, hq, t1, t2, t3, t4, t5⟩ := h
      cases h1
      subst h2
      refine V_goto (tgt := 54) hC dX4_read_47 (by decide) ?_
      have et : txS σ.tp = bentS σ.tp 0 := by
        unfold txS
        rw [if_pos c40]
      rw [← et] at hq t5 ⊢
      rw [iP_iP]
      exact join J1 P1 Q1 hq t1 t2 t3 t4 t5
  · refine V_aload_n hC dX4_read_9 rfl ?_
    refine V_iconst (v := 0) hC dX4_read_10 (by decide) ?_
    refine mp_tapeSize hC dX4_read_11 ?_
    refine V_bipush (v := (-4)) hC dX4_read_14 (by decide) ?_
    exact V_iret hC dX4_read_16 (Nat.le_of_ble_eq_true rfl) (Nat.le_of_ble_eq_true rfl) (RMp_i (by unfold o_read; rw [if_pos ((n60 hw).mp c6)]) (hr.tp0 rfl (fun j h1 h2 => va_up_ne _ _ h2)))
