/-! MODEL 8: rule, kept, keep -/
theorem RM.lkP {σ : Sy} {I : Nat → Int32} {P : Nat → Nat → Int32} {Q : Nat → Nat → Int64} (h : RM σ I P Q) (hw : Sw σ) {i : Nat} {s : Sc} (hs : σ.sc[i]? = some (some s)) : decide (P 0 i = I 1 ∧ P 1 i = I 2 ∧ P 2 i = I 3) = likeP s σ.pl := by
  obtain ⟨a1, a2, a3, -⟩ := h.2.2.1 i s hs
  obtain ⟨b1, b2, b3⟩ := h.2.2.2.1
  have l1 := hw.len hs
  have l2 := hw.2.2.2.2.2.2.1
  unfold okS at l2
  unfold likeP
  rw [Bool.eq_iff_iff, decide_eq_true_eq, decide_eq_true_eq, a1, a2, a3, b1, b2, b3, nI_eq (by omega) (by omega), nI_eq (by omega) (by omega), nI_eq (by omega) (by omega)]
theorem Sw.pl {σ : Sy} (h : Sw σ) : σ.pl.2.2 ≤ 12 ∧ σ.pl.2.1 ≤ σ.pl.2.2 ∧ σ.pl.1 ≤ 3 ∧ 1 ≤ σ.pl.2.2 := by
  have := h.2.2.2.2.2.2.1
  unfold okS at this
  omega
theorem Sw.ru {σ : Sy} (h : Sw σ) {r : Nat} {q : List Int64 × Nat} (hq : σ.ru[r]? = some q) : q.1.length = σ.pl.2.2 ∧ q.2 ≤ 1000000 := h.2.2.2.2.2.2.2.2.1 q (List.mem_of_getElem? hq)
theorem Sw.be {σ : Sy} (h : Sw σ) {r : Nat} {q : List Int64} (hq : σ.be[r]? = some q) : q.length = σ.pl.2.2 := h.2.2.2.2.2.2.2.2.2.2.2 q (List.mem_of_getElem? hq)
theorem Sw.rul {σ : Sy} (h : Sw σ) : σ.ru.length ≤ 12 := h.2.2.2.2.2.2.2.1
theorem Sw.bel {σ : Sy} (h : Sw σ) : σ.be.length ≤ 5 := h.2.2.2.2.2.2.2.2.2.2.1
theorem mkM_PQ {G : gG} {a : Nat} {I : Nat → Int32} {J : Nat → Int64} {P : Nat → Nat → Int32} {Q Q' : Nat → Nat → Int64} {M0 : gM} (h : Q = Q') : mkM G a I J P Q M0 = mkM G a I J P Q' M0 := by rw [h]
set_option maxHeartbeats 4000000 in
theorem m_rule {l : Launch} {G : gG} {a : Nat} {I : Nat → Int32} {J : Nat → Int64} {P : Nat → Nat → Int32} {Q : Nat → Nat → Int64} {M0 : gM} {σ : Sy} (hw : Sw σ) (hr : RM σ I P Q) {x : Int32} : gMet l yX4_rule (gWs yX4_rule cX4_rule 3 (some .int) []) ({ frames := 2, cells := 0, slots := 0, locals := 46 } : Room) G [.ref a, .int x] (mkM G a I J P Q M0) (RMp G a M0 (o_rule σ x)) := by
  refine gMet.intro (by decide) (Nat.le_of_ble_eq_true rfl) (fun C hl hC hN => ?_)
  subst hl
  replace hC : Ck G C [] cX4_rule RX4 3 (some .int) ({ frames := 2, cells := 0, slots := 0, locals := 46 } : Room) (RMp G a M0 (o_rule σ x)) := hC
  refine V.loc [some (.ref a), some (.int x)] ⟨rfl, rfl, trivial⟩ ?_
  refine V_aload_n hC dX4_rule_0 rfl ?_
  refine V_iload_n hC dX4_rule_1 rfl ?_
  refine mc1v hC (m_isNumber hr.1 (by have := hw.1; omega)) rfl mw_isNumber ⟨⟨(Nat.le_of_ble_eq_true rfl), (Nat.le_of_ble_eq_true rfl)⟩, rfl, rfl⟩ ⟨(Nat.le_of_ble_eq_true rfl), (Nat.le_of_ble_eq_true rfl)⟩ (Nat.le_of_ble_eq_true rfl) dX4_rule_2 ?_
  refine V_ifb_ne (tgt := 11) hC dX4_rule_5 (by decide) (fun c5 => ?_) (fun c5 => ?_)
  · obtain ⟨i, hi, rfl⟩ := gIx_of c5 (by have := hw.1; omega)
    have hb := hw.1
    have ei := scAt_nI hi hb
    refine V_aload_n hC dX4_rule_11 rfl ?_
    refine mg_rules hC dX4_rule_12 ?_
    refine V_bipush (v := 12) hC dX4_rule_15 (by decide) ?_
    rw [show I 4 = nI σ.ru.length from hr.2.2.2.2.1]
    refine V_icmp_ne (tgt := 23) hC dX4_rule_17 (by decide) (fun c17 => ?_) (fun c17 => ?_)
    · refine V_aload_n hC dX4_rule_23 rfl ?_
      refine V_iload_n hC dX4_rule_24 rfl ?_
      refine mc1v hC (m_isNothing (j := i) (by omega)) rfl mw_isNothing ⟨⟨(Nat.le_of_ble_eq_true rfl), (Nat.le_of_ble_eq_true rfl)⟩, rfl, rfl⟩ ⟨(Nat.le_of_ble_eq_true rfl), (Nat.le_of_ble_eq_true rfl)⟩ (Nat.le_of_ble_eq_true rfl) dX4_rule_25 ?_
      refine V_ifb_eq (tgt := 34) hC dX4_rule_28 (by decide) (fun c28 => ?_) (fun c28 => ?_)
      · obtain ⟨s, hs1, hs2⟩ := hr.yes hw hi c28
        obtain ⟨p1, p2, p3, p4⟩ := hr.2.2.1 i s hs2
        have hl := hw.len hs2
        refine V_aload_n hC dX4_rule_34 rfl ?_
        refine V_iload_n hC dX4_rule_35 rfl ?_
        refine mc1v hC (m_isLikePlan (i := i) (by omega)) rfl mw_isLikePlan ⟨⟨(Nat.le_of_ble_eq_true rfl), (Nat.le_of_ble_eq_true rfl)⟩, rfl, rfl⟩ ⟨(Nat.le_of_ble_eq_true rfl), (Nat.le_of_ble_eq_true rfl)⟩ (Nat.le_of_ble_eq_true rfl) dX4_rule_36 ?_
        rw [hr.lkP hw hs2]
        refine V_ifb_ne (tgt := 45) hC dX4_rule_39 (by decide) (fun c39 => ?_) (fun c39 => ?_)
        · have hru : σ.ru.length < 12 := by
            have h1 := hw.rul
            have : ¬ σ.ru.length = 12 := fun q => c17 (by rw [q]; rfl)
            omega
          refine V_iconst (v := 0) hC dX4_rule_45 (by decide) ?_
          refine V_istore_n hC dX4_rule_46 (Nat.le_of_ble_eq_true rfl) ?_
          have loop : ∀ (fuel : Nat) (k : Nat), 12 < k + fuel → k ≤ 12 → V G C (mkM G a I J P (va_up Q 1 (gCpy (Q 1) (12 * σ.ru.length) (Q 0) (12 * i) k)) M0) 0 0 47 (gl [some (.ref a), some (.int (nI i)), some (.int (nI k))]) [] := by
            intro fuel
            induction fuel with
            | zero => intros; omega
            | succ fuel ih =>
              intro k h1 h2
              refine V_iload_n hC dX4_rule_47 rfl ?_
              refine V_bipush (v := 12) hC dX4_rule_48 (by decide) ?_
              refine V_icmp_ge (tgt := 84) hC dX4_rule_50 (by decide) (fun c50 => ?_) (fun c50 => ?_)
              · refine V_aload_n hC dX4_rule_84 rfl ?_
                refine mg_counts hC dX4_rule_85 ?_
                refine V_aload_n hC dX4_rule_88 rfl ?_
                refine mg_rules hC dX4_rule_89 ?_
                refine V_iconst (v := 0) hC dX4_rule_92 (by decide) ?_
                rw [show I 4 = nI σ.ru.length from hr.2.2.2.2.1]
                refine ms_counts hC σ.ru.length rfl hru dX4_rule_93 ?_
                refine V_aload_n hC dX4_rule_94 rfl ?_
                refine V_dup hC dX4_rule_95 rfl ?_
                refine mg_rules hC dX4_rule_96 ?_
                refine V_iconst (v := 1) hC dX4_rule_99 (by decide) ?_
                refine V_iadd hC dX4_rule_100 ?_
                refine mp_rules hC dX4_rule_101 ?_
                refine V_aload_n hC dX4_rule_104 rfl ?_
                refine mg_rules hC dX4_rule_105 ?_
                refine V_iconst (v := 1) hC dX4_rule_108 (by decide) ?_
                refine V_isub hC dX4_rule_109 ?_
                exact V_iret hC dX4_rule_110 (Nat.le_of_ble_eq_true rfl) (Nat.le_of_ble_eq_true rfl) (by
                      have hk : k = 12 := Nat.le_antisymm h2 (Nat.le_of_not_lt fun q => nI_ge q (by omega) c50)
                      subst hk
                      have hlp := of_decide_eq_true c39
                      have hpl := hw.pl
                      show RMp G a M0 (o_rule σ (nI i)) (.inl (some (.int (I 4 + 1 - 1)))) _
                      rw [show I 4 + 1 - 1 = nI σ.ru.length by rw [show I 4 = nI σ.ru.length from hr.2.2.2.2.1, g_pm]]
                      refine RMp_i (by unfold o_rule; rw [hs1]; simp only [c39, if_true]; rw [if_neg (by omega)]) ?_
                      obtain ⟨h0, h1', h2', h3, h6, h7, h8, h9, h10, h11, h12, h13⟩ := hr
                      refine ⟨h0, h1', h2', h3, ?_, fun r q hq => ?_, h8, h9, h10, h11, h12, h13⟩
                      · show I 4 + 1 = nI (σ.ru ++ [(s.2.2, 0)]).length
                        rw [h6, nI_1, List.length_append]
                        rfl
                      · show va_up (P 3) σ.ru.length 0 r = nI q.2 ∧ ∀ (k : Nat) (v : Int64), q.1[k]? = some v → gCpy (Q 1) (12 * σ.ru.length) (Q 0) (12 * i) 12 (12 * r + k) = v
                        rcases gAppAt hq with ⟨q1, q2⟩ | ⟨q1, q2⟩
                        · obtain ⟨g1, g2⟩ := h7 r q q2
                          refine ⟨by rw [va_up_ne _ _ (by omega)]; exact g1, fun k v hv => ?_⟩
                          have hkl := (List.getElem?_eq_some_iff.mp hv).1
                          have := (hw.ru q2).1
                          rw [gCpy_out _ (by omega)]
                          exact g2 k v hv
                        · subst q1
                          subst q2
                          refine ⟨by rw [va_up_self]; rfl, fun k v hv => ?_⟩
                          have hkl := (List.getElem?_eq_some_iff.mp hv).1
                          replace hkl : k < s.2.2.length := hkl
                          rw [gCpy_in _ (by omega)]
                          exact p4 k v hv)
              · have h4 : k < 12 := Nat.lt_of_not_le fun q => c50 (nI_le q (by omega))
                refine V_aload_n hC dX4_rule_53 rfl ?_
                refine mg_weights hC dX4_rule_54 ?_
                refine V_bipush (v := 12) hC dX4_rule_57 (by decide) ?_
                refine V_aload_n hC dX4_rule_59 rfl ?_
                refine mg_rules hC dX4_rule_60 ?_
                rw [show I 4 = nI σ.ru.length from hr.2.2.2.2.1]
                refine V_imul hC dX4_rule_63 ?_
                refine V_iload_n hC dX4_rule_64 rfl ?_
                refine V_iadd hC dX4_rule_65 ?_
                refine V_aload_n hC dX4_rule_66 rfl ?_
                refine mg_levels hC dX4_rule_67 ?_
                refine V_bipush (v := 12) hC dX4_rule_70 (by decide) ?_
                refine V_iload_n hC dX4_rule_72 rfl ?_
                refine V_imul hC dX4_rule_73 ?_
                refine V_iload_n hC dX4_rule_74 rfl ?_
                refine V_iadd hC dX4_rule_75 ?_
                refine ml_levels hC (12 * i + k) (g12 i k) (by omega) dX4_rule_76 ?_
                refine ms_weights hC (12 * σ.ru.length + k) (g12 _ k) (by omega) dX4_rule_77 ?_
                refine V_iinc (v := nI (k + 1)) hC dX4_rule_78 rfl (gI_inc k) (Nat.le_of_ble_eq_true rfl) ?_
                refine V_goto (tgt := 47) hC dX4_rule_81 (by decide) ?_
                refine V.eqM (mkM_Q ((gUU Q 1 _ _).trans (congrArg (va_up Q 1) (gCpy_s (Q 1) (12 * σ.ru.length) (Q 0) (12 * i) k)))) (V.loc [some (.ref a), some (.int (nI i)), some (.int (nI (k + 1)))] ⟨rfl, rfl, rfl, trivial⟩ (ih (k + 1) (by omega) (by omega)))
          refine V.eqM (mkM_Q (show Q = (va_up Q 1 (gCpy (Q 1) (12 * σ.ru.length) (Q 0) (12 * i) 0)) by rw [gCpy_0, gup_self])) (V.loc [some (.ref a), some (.int (nI i)), some (.int (nI 0))] ⟨rfl, rfl, rfl, trivial⟩ (loop 13 0 (by omega) (by omega)))
        · refine V_bipush (v := (-12)) hC dX4_rule_42 (by decide) ?_
          exact V_iret hC dX4_rule_44 (Nat.le_of_ble_eq_true rfl) (Nat.le_of_ble_eq_true rfl) (RMp_i (by unfold o_rule; rw [hs1]; simp only [c39]; rw [if_neg (fun q => c17 (by rw [q]; rfl))]; rfl) hr)
      · refine V_bipush (v := (-11)) hC dX4_rule_31 (by decide) ?_
        exact V_iret hC dX4_rule_33 (Nat.le_of_ble_eq_true rfl) (Nat.le_of_ble_eq_true rfl) (RMp_i (by unfold o_rule; rw [hr.no hw hi c28]; simp only; rw [if_neg (fun q => c17 (by rw [q]; rfl))]) hr)
    · refine V_bipush (v := (-4)) hC dX4_rule_20 (by decide) ?_
      exact V_iret hC dX4_rule_22 (Nat.le_of_ble_eq_true rfl) (Nat.le_of_ble_eq_true rfl) (RMp_i (by unfold o_rule; rw [ei, List.getElem?_eq_getElem hi]; simp only; rw [if_pos ((nI_eq (b := 12) (by have := hw.rul; omega) (by decide)).mp c17)]) hr)
  · refine V_bipush (v := (-2)) hC dX4_rule_8 (by decide) ?_
    exact V_iret hC dX4_rule_10 (Nat.le_of_ble_eq_true rfl) (Nat.le_of_ble_eq_true rfl) (RMp_i (by unfold o_rule; rw [scAt_no c5]) hr)
set_option maxHeartbeats 4000000 in
theorem m_kept {l : Launch} {G : gG} {a : Nat} {I : Nat → Int32} {J : Nat → Int64} {P : Nat → Nat → Int32} {Q : Nat → Nat → Int64} {M0 : gM} {σ : Sy} (hw : Sw σ) (hr : RM σ I P Q) {x : Int32} : gMet l yX4_kept (gWs yX4_kept cX4_kept 3 (some .int) []) ({ frames := 1, cells := 0, slots := 0, locals := 25 } : Room) G [.ref a, .int x] (mkM G a I J P Q M0) (RMp G a M0 (o_kept σ x)) := by
  refine gMet.intro (by decide) (Nat.le_of_ble_eq_true rfl) (fun C hl hC hN => ?_)
  subst hl
  replace hC : Ck G C [] cX4_kept RX4 3 (some .int) ({ frames := 1, cells := 0, slots := 0, locals := 25 } : Room) (RMp G a M0 (o_kept σ x)) := hC
  refine V.loc [some (.ref a), some (.int x)] ⟨rfl, rfl, trivial⟩ ?_
  refine V_iload_n hC dX4_kept_0 rfl ?_
  refine V_i2l hC dX4_kept_1 ?_
  refine V_lconst (v := 0) hC dX4_kept_2 (by decide) ?_
  refine V_aload_n hC dX4_kept_3 rfl ?_
  refine mg_kept hC dX4_kept_4 ?_
  refine V_iconst (v := 1) hC dX4_kept_7 (by decide) ?_
  refine V_isub hC dX4_kept_8 ?_
  refine V_i2l hC dX4_kept_9 ?_
  refine mt3v hC m_in mw_in ⟨⟨(Nat.le_of_ble_eq_true rfl), (Nat.le_of_ble_eq_true rfl)⟩, rfl, rfl⟩ ⟨(Nat.le_of_ble_eq_true rfl), (Nat.le_of_ble_eq_true rfl)⟩ (Nat.le_of_ble_eq_true rfl) dX4_kept_10 ?_
  rw [show I 5 = nI σ.be.length from hr.2.2.2.2.2.2.1, gIn_ix x (by have := hw.bel; omega)]
  refine V_ifb_ne (tgt := 19) hC dX4_kept_13 (by decide) (fun c13 => ?_) (fun c13 => ?_)
  · obtain ⟨i, hi, rfl⟩ := gIx_of c13 (by have := hw.bel; omega)
    have hb := hw.1
    have hbl := hw.bel
    refine V_aload_n hC dX4_kept_19 rfl ?_
    refine mg_scores hC dX4_kept_20 ?_
    refine V_bipush (v := 60) hC dX4_kept_23 (by decide) ?_
    rw [hr.1]
    refine V_icmp_ne (tgt := 31) hC dX4_kept_25 (by decide) (fun c25 => ?_) (fun c25 => ?_)
    · have hn60 : σ.sc.length < 60 := by
        have : ¬ σ.sc.length = 60 := fun q => c25 ((n60 hw).mpr q)
        omega
      refine V_aload_n hC dX4_kept_31 rfl ?_
      refine V_aload_n hC dX4_kept_32 rfl ?_
      refine mg_planShape hC dX4_kept_33 ?_
      refine V_aload_n hC dX4_kept_36 rfl ?_
      refine mg_planHard hC dX4_kept_37 ?_
      refine V_aload_n hC dX4_kept_40 rfl ?_
      refine mg_planSize hC dX4_kept_41 ?_
      refine mc3n hC (m_lay hr.1 (by omega)) rfl mw_lay ⟨⟨(Nat.le_of_ble_eq_true rfl), (Nat.le_of_ble_eq_true rfl)⟩, rfl, rfl⟩ ⟨(Nat.le_of_ble_eq_true rfl), (Nat.le_of_ble_eq_true rfl)⟩ (Nat.le_of_ble_eq_true rfl) dX4_kept_44 ?_
      refine V_iconst (v := 0) hC dX4_kept_47 (by decide) ?_
      refine V_istore_n hC dX4_kept_48 (Nat.le_of_ble_eq_true rfl) ?_
      have loop : ∀ (fuel : Nat) (k : Nat), 12 < k + fuel → k ≤ 12 → V G C (mkM G a I J (layP P σ.sc.length (I 1) (I 2) (I 3)) (va_up (layQ Q σ.sc.length) 0 (gCpy (layQ Q σ.sc.length 0) (12 * σ.sc.length) (Q 2) (12 * i) k)) M0) 0 0 49 (gl [some (.ref a), some (.int (nI i)), some (.int (nI k))]) [] := by
        intro fuel
        induction fuel with
        | zero => intros; omega
        | succ fuel ih =>
          intro k h1 h2
          refine V_iload_n hC dX4_kept_49 rfl ?_
          refine V_bipush (v := 12) hC dX4_kept_50 (by decide) ?_
          refine V_icmp_ge (tgt := 86) hC dX4_kept_52 (by decide) (fun c52 => ?_) (fun c52 => ?_)
          · refine V_aload_n hC dX4_kept_86 rfl ?_
            refine mc0v hC m_keepScore rfl mw_keepScore ⟨⟨(Nat.le_of_ble_eq_true rfl), (Nat.le_of_ble_eq_true rfl)⟩, rfl, rfl⟩ ⟨(Nat.le_of_ble_eq_true rfl), (Nat.le_of_ble_eq_true rfl)⟩ (Nat.le_of_ble_eq_true rfl) dX4_kept_87 ?_
            exact V_iret hC dX4_kept_90 (Nat.le_of_ble_eq_true rfl) (Nat.le_of_ble_eq_true rfl) (by
                  have hk : k = 12 := Nat.le_antisymm h2 (Nat.le_of_not_lt fun q => nI_ge q (by omega) c52)
                  subst hk
                  have hpl := hw.pl
                  have e1 := List.getElem?_eq_getElem hi
                  have hln := hw.be e1
                  rw [show I 0 + 1 - 1 = nI σ.sc.length by rw [hr.1, g_pm]]
                  refine RMp_i (by unfold o_kept; rw [c13, if_neg (by decide), if_neg (by omega), nI_clamp (by omega), List.getD_eq_getElem?_getD, e1, Option.getD_some]) ?_
                  obtain ⟨b1, b2, b3⟩ := hr.2.2.2.1
                  refine hr.laidL hw b1 b2 (by rw [b3, hln]) (fun z hz => ?_) ⟨rfl, rfl⟩ (fun z v hv => ?_)
                  · rw [va_up_self, gCpy_out _ (by omega), layQ_lt hz]
                  · have hz := (List.getElem?_eq_some_iff.mp hv).1
                    rw [va_up_self, gCpy_in _ (by omega)]
                    exact hr.2.2.2.2.2.2.2.1 i _ e1 z v hv)
          · have h4 : k < 12 := Nat.lt_of_not_le fun q => c52 (nI_le q (by omega))
            refine V_aload_n hC dX4_kept_55 rfl ?_
            refine mg_levels hC dX4_kept_56 ?_
            refine V_bipush (v := 12) hC dX4_kept_59 (by decide) ?_
            refine V_aload_n hC dX4_kept_61 rfl ?_
            refine mg_scores hC dX4_kept_62 ?_
            rw [hr.1]
            refine V_imul hC dX4_kept_65 ?_
            refine V_iload_n hC dX4_kept_66 rfl ?_
            refine V_iadd hC dX4_kept_67 ?_
            refine V_aload_n hC dX4_kept_68 rfl ?_
            refine mg_keeps hC dX4_kept_69 ?_
            refine V_bipush (v := 12) hC dX4_kept_72 (by decide) ?_
            refine V_iload_n hC dX4_kept_74 rfl ?_
            refine V_imul hC dX4_kept_75 ?_
            refine V_iload_n hC dX4_kept_76 rfl ?_
            refine V_iadd hC dX4_kept_77 ?_
            refine ml_keeps hC (12 * i + k) (g12 i k) (by omega) dX4_kept_78 ?_
            refine ms_levels hC (12 * σ.sc.length + k) (g12 _ k) (by omega) dX4_kept_79 ?_
            refine V_iinc (v := nI (k + 1)) hC dX4_kept_80 rfl (gI_inc k) (Nat.le_of_ble_eq_true rfl) ?_
            refine V_goto (tgt := 49) hC dX4_kept_83 (by decide) ?_
            refine V.eqM (mkM_Q ((gUU _ 0 _ _).trans (congrArg (va_up (layQ Q σ.sc.length) 0) (gCpy_s _ (12 * σ.sc.length) (Q 2) (12 * i) k)))) (V.loc [some (.ref a), some (.int (nI i)), some (.int (nI (k + 1)))] ⟨rfl, rfl, rfl, trivial⟩ (ih (k + 1) (by omega) (by omega)))
      refine V.eqM (mkM_Q (show layQ Q σ.sc.length = (va_up (layQ Q σ.sc.length) 0 (gCpy (layQ Q σ.sc.length 0) (12 * σ.sc.length) (Q 2) (12 * i) 0)) by rw [gCpy_0, gup_self])) (V.loc [some (.ref a), some (.int (nI i)), some (.int (nI 0))] ⟨rfl, rfl, rfl, trivial⟩ (loop 13 0 (by omega) (by omega)))
    · refine V_bipush (v := (-4)) hC dX4_kept_28 (by decide) ?_
      exact V_iret hC dX4_kept_30 (Nat.le_of_ble_eq_true rfl) (Nat.le_of_ble_eq_true rfl) (RMp_i (by unfold o_kept; rw [c13, if_neg (by decide), if_pos ((n60 hw).mp c25)]) hr)
  · refine V_bipush (v := (-2)) hC dX4_kept_16 (by decide) ?_
    exact V_iret hC dX4_kept_18 (Nat.le_of_ble_eq_true rfl) (Nat.le_of_ble_eq_true rfl) (RMp_i (by unfold o_kept; rw [c13, if_pos rfl]) hr)
