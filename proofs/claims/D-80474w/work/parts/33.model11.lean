/-! MODEL 11: total, safe -/
theorem gIn_m1 (x : Int32) {n : Nat} (hn : n < 2 ^ 30) : gIn x.toInt64 (-1) (nI n - 1).toInt64 = (decide (x = -1) || gIx x n) := by
  unfold gIn gIx
  rw [Bool.eq_iff_iff]
  simp only [Bool.and_eq_true, Bool.or_eq_true, decide_eq_true_eq]
  rw [Int64.le_iff_toInt_le, Int64.le_iff_toInt_le, Int32.toInt_toInt64, Int32.toInt_toInt64, gI_dec hn]
  have e1 : (-1 : Int64).toInt = -1 := by decide
  have e2 : (-1 : Int32).toInt = -1 := by decide
  rw [← Int32.toInt_inj, e1, e2]
  omega
/-- the summands taken of the first j rules -/
def tN (ru : List (List Int64 × Nat)) (r : Int32) (k : Nat) : Nat → Int
  | 0 => 0
  | j + 1 => tN ru r k j + if r = -1 ∨ r = nI j then rpart (ru.getD j ([], 0)) k else 0
theorem rpart_d {ru : List (List Int64 × Nat)} (k : Nat) (h : ∀ q ∈ ru, q.2 ≤ 1000000) (j : Nat) : -9223372036854775808000000 ≤ rpart (ru.getD j ([], 0)) k ∧ rpart (ru.getD j ([], 0)) k ≤ 9223372036854775808000000 := by
  refine rpart_b k ?_
  rw [List.getD_eq_getElem?_getD]
  cases e : ru[j]? with
  | none => simp
  | some q => exact h q (List.mem_of_getElem? e)
theorem tN_b {ru : List (List Int64 × Nat)} (r : Int32) (k : Nat) (h : ∀ q ∈ ru, q.2 ≤ 1000000) : ∀ j : Nat, -(9223372036854775808000000 * (j : Int)) ≤ tN ru r k j ∧ tN ru r k j ≤ 9223372036854775808000000 * (j : Int)
  | 0 => by simp [tN]
  | j + 1 => by
    have ih := tN_b r k h j
    have := rpart_d k h j
    unfold tN
    split <;> omega
theorem tN_all {ru : List (List Int64 × Nat)} (k : Nat) : ∀ j : Nat, j ≤ ru.length → tN ru (-1) k j = rsum (ru.take j) k
  | 0, _ => by simp [tN, rsum]
  | j + 1, hj => by
    have e := List.getElem?_eq_getElem (show j < ru.length by omega)
    rw [tN, tN_all k j (by omega), if_pos (Or.inl rfl), rsum_s e, List.getD_eq_getElem?_getD, e]
    rfl
theorem tN_one {ru : List (List Int64 × Nat)} (k : Nat) {i : Nat} (hi : i < 2 ^ 30) : ∀ j : Nat, j ≤ 12 → tN ru (nI i) k j = if i < j then rpart (ru.getD i ([], 0)) k else 0
  | 0, _ => by simp [tN]
  | j + 1, hj => by
    rw [tN, tN_one k hi j (by omega)]
    have e1 : ¬ nI i = -1 := fun q => by
      have h3 := nI_toInt (n := i) (by omega)
      rw [q] at h3
      have : (-1 : Int32).toInt = -1 := by decide
      omega
    have e2 : nI i = nI j ↔ i = j := nI_eq (by omega) (by omega)
    by_cases q : i = j
    · subst q
      rw [if_neg (by omega), if_pos (Or.inr rfl), if_pos (by omega)]
      omega
    · rw [if_neg (show ¬ (nI i = -1 ∨ nI i = nI j) by rw [e2]; simp [e1, q])]
      by_cases q2 : i < j
      · rw [if_pos q2, if_pos (by omega)]; omega
      · rw [if_neg q2, if_neg (by omega)]; omega
theorem rsum_1 (q : List Int64 × Nat) (k : Nat) : rsum [q] k = rpart q k := by simp [rsum, rpart]
/-- what is summed up at level k -/
def tS (σ : Sy) (r : Int32) (k : Nat) : Int := if r = -1 then rsum σ.ru k else rsum [σ.ru.getD r.toNatClampNeg ([], 0)] k
theorem tS_tN {σ : Sy} (hw : Sw σ) {r : Int32} (h : (decide (r = -1) || gIx r σ.ru.length) = true) (k : Nat) : tN σ.ru r k σ.ru.length = tS σ r k := by
  have hl := hw.rul
  unfold tS
  by_cases q : r = -1
  · rw [if_pos q, q, tN_all k _ (Nat.le_refl _), List.take_length]
  · rw [if_neg q]
    rw [decide_eq_false q, Bool.false_or] at h
    obtain ⟨i, hi, rfl⟩ := gIx_of h (by omega)
    rw [tN_one k (by omega) _ hl, if_pos hi, nI_clamp (by omega), rsum_1]
theorem tS_fit {σ : Sy} (hw : Sw σ) {r : Int32} (h : (decide (r = -1) || gIx r σ.ru.length) = true) {k : Nat} (hk : k < σ.pl.2.2) : zfit (tS σ r k) := by
  have hl := hw.rul
  have hf := hw.2.2.2.2.2.2.2.2.2.1 k hk
  unfold tS
  by_cases q : r = -1
  · rw [if_pos q]
    exact hf.2
  · rw [if_neg q, rsum_1]
    rw [decide_eq_false q, Bool.false_or] at h
    obtain ⟨i, hi, rfl⟩ := gIx_of h (by omega)
    have e := List.getElem?_eq_getElem hi
    rw [nI_clamp (by omega), List.getD_eq_getElem?_getD, e]
    exact hf.1 _ (List.mem_of_getElem? e)
set_option maxHeartbeats 4000000 in
theorem m_total {l : Launch} {G : gG} {a : Nat} {I : Nat → Int32} {J : Nat → Int64} {P : Nat → Nat → Int32} {Q : Nat → Nat → Int64} {M0 : gM} {σ : Sy} (hw : Sw σ) (hr : RM σ I P Q) {r : Int32} : gMet l yX4_total (gWs yX4_total cX4_total 4 (some .int) []) ({ frames := 1, cells := 0, slots := 0, locals := 25 } : Room) G [.ref a, .int r] (mkM G a I J P Q M0) (RMp G a M0 (o_total σ r)) := by
  refine gMet.intro (by decide) (Nat.le_of_ble_eq_true rfl) (fun C hl hC hN => ?_)
  subst hl
  replace hC : Ck G C [] cX4_total RX4 4 (some .int) ({ frames := 1, cells := 0, slots := 0, locals := 25 } : Room) (RMp G a M0 (o_total σ r)) := hC
  refine V.loc [some (.ref a), some (.int r)] ⟨rfl, rfl, trivial⟩ ?_
  refine V_iload_n hC dX4_total_0 rfl ?_
  refine V_i2l hC dX4_total_1 ?_
  refine V_ldc2 hC dX4_total_2 q984 ?_
  refine V_aload_n hC dX4_total_5 rfl ?_
  refine mg_rules hC dX4_total_6 ?_
  refine V_iconst (v := 1) hC dX4_total_9 (by decide) ?_
  refine V_isub hC dX4_total_10 ?_
  refine V_i2l hC dX4_total_11 ?_
  refine mt3v hC m_in mw_in ⟨⟨(Nat.le_of_ble_eq_true rfl), (Nat.le_of_ble_eq_true rfl)⟩, rfl, rfl⟩ ⟨(Nat.le_of_ble_eq_true rfl), (Nat.le_of_ble_eq_true rfl)⟩ (Nat.le_of_ble_eq_true rfl) dX4_total_12 ?_
  rw [show I 4 = nI σ.ru.length from hr.2.2.2.2.1, gIn_m1 r (by have := hw.rul; omega)]
  refine V_ifb_ne (tgt := 21) hC dX4_total_15 (by decide) (fun c15 => ?_) (fun c15 => ?_)
  · refine V_aload_n hC dX4_total_21 rfl ?_
    refine mg_scores hC dX4_total_22 ?_
    refine V_bipush (v := 60) hC dX4_total_25 (by decide) ?_
    rw [hr.1]
    refine V_icmp_ne (tgt := 33) hC dX4_total_27 (by decide) (fun c27 => ?_) (fun c27 => ?_)
    · have hc15 := c15
      have hb := hw.1
      have hrl := hw.rul
      have hpl := hw.pl
      have hR := hr.rr hw
      have hcb : ∀ q ∈ σ.ru, q.2 ≤ 1000000 := fun q h => (hw.2.2.2.2.2.2.2.2.1 q h).2
      have hn60 : σ.sc.length < 60 := by
        have : ¬ σ.sc.length = 60 := fun q => c27 ((n60 hw).mpr q)
        omega
      refine V_aload_n hC dX4_total_33 rfl ?_
      refine V_aload_n hC dX4_total_34 rfl ?_
      refine mg_planShape hC dX4_total_35 ?_
      refine V_aload_n hC dX4_total_38 rfl ?_
      refine mg_planHard hC dX4_total_39 ?_
      refine V_aload_n hC dX4_total_42 rfl ?_
      refine mg_planSize hC dX4_total_43 ?_
      refine mc3n hC (m_lay hr.1 (by omega)) rfl mw_lay ⟨⟨(Nat.le_of_ble_eq_true rfl), (Nat.le_of_ble_eq_true rfl)⟩, rfl, rfl⟩ ⟨(Nat.le_of_ble_eq_true rfl), (Nat.le_of_ble_eq_true rfl)⟩ (Nat.le_of_ble_eq_true rfl) dX4_total_46 ?_
      have loopk : ∀ (fk : Nat) (k : Nat) (K : Nat → Int64), σ.pl.2.2 < k + fk → k ≤ σ.pl.2.2 → V G C (mkM G a I K (layP P σ.sc.length (I 1) (I 2) (I 3)) (va_up (layQ Q σ.sc.length) 0 (gCpy (layQ Q σ.sc.length 0) (12 * σ.sc.length) (fun z => Int64.ofInt (tS σ r z)) 0 k)) M0) 0 0 51 (gl [some (.ref a), some (.int r), some (.int (nI k))]) [] := by
        intro fk
        induction fk with
        | zero => intros; omega
        | succ fk ihk =>
          intro k K d1 d2
          refine V_iload_n hC dX4_total_51 rfl ?_
          refine V_aload_n hC dX4_total_52 rfl ?_
          refine mg_planSize hC dX4_total_53 ?_
          refine V_seti (y := nI σ.pl.2.2) hr.2.2.2.1.2.2 ?_
          refine V_icmp_ge (tgt := 135) hC dX4_total_56 (by decide) (fun c56 => ?_) (fun c56 => ?_)
          · refine V_aload_n hC dX4_total_135 rfl ?_
            refine mc0v hC m_keepScore rfl mw_keepScore ⟨⟨(Nat.le_of_ble_eq_true rfl), (Nat.le_of_ble_eq_true rfl)⟩, rfl, rfl⟩ ⟨(Nat.le_of_ble_eq_true rfl), (Nat.le_of_ble_eq_true rfl)⟩ (Nat.le_of_ble_eq_true rfl) dX4_total_136 ?_
            exact V_iret hC dX4_total_139 (Nat.le_of_ble_eq_true rfl) (Nat.le_of_ble_eq_true rfl) (by
                  have hk : k = σ.pl.2.2 := Nat.le_antisymm d2 (Nat.le_of_not_lt fun q => nI_ge q (by omega) c56)
                  subst hk
                  rw [show I 0 + 1 - 1 = nI σ.sc.length by rw [hr.1, g_pm]]
                  refine RMp_i (σ := σ.add (some (σ.pl.1, σ.pl.2.1, (List.range σ.pl.2.2).map (fun k => Int64.ofInt (tS σ r k))))) ?_ ?_
                  · unfold o_total
                    rw [if_neg, if_neg (by omega)]
                    · rfl
                    · rintro ⟨q1, q2⟩
                      rw [decide_eq_false q1, q2] at hc15
                      cases hc15
                  · obtain ⟨b1, b2, b3⟩ := hr.2.2.2.1
                    refine hr.laidL hw b1 b2 (by rw [b3, List.length_map, List.length_range]) (fun z hz => ?_) ⟨rfl, rfl⟩ (fun z v hv => ?_)
                    · rw [va_up_self, gCpy_out _ (by omega), layQ_lt hz]
                    · have hz := (List.getElem?_eq_some_iff.mp hv).1
                      rw [List.length_map, List.length_range] at hz
                      rw [List.getElem?_map, List.getElem?_range hz] at hv
                      rw [va_up_self, gCpy_in _ hz, Nat.zero_add]
                      exact Option.some.inj hv)
          · have hk : k < σ.pl.2.2 := Nat.lt_of_not_le fun q => c56 (nI_le q (by omega))
            refine V_aload_n hC dX4_total_59 rfl ?_
            refine mc0n hC m_zero rfl mw_zero ⟨⟨(Nat.le_of_ble_eq_true rfl), (Nat.le_of_ble_eq_true rfl)⟩, rfl, rfl⟩ ⟨(Nat.le_of_ble_eq_true rfl), (Nat.le_of_ble_eq_true rfl)⟩ (Nat.le_of_ble_eq_true rfl) dX4_total_60 ?_
            have loopj : ∀ (fj : Nat) (j : Nat) (K2 : Nat → Int64), σ.ru.length < j + fj → j ≤ σ.ru.length → wok (K2 0) (K2 1) → wv (K2 0) (K2 1) = tN σ.ru r k j → V G C (mkM G a I K2 (layP P σ.sc.length (I 1) (I 2) (I 3)) (va_up (layQ Q σ.sc.length) 0 (gCpy (layQ Q σ.sc.length 0) (12 * σ.sc.length) (fun z => Int64.ofInt (tS σ r z)) 0 k)) M0) 0 0 65 (gl [some (.ref a), some (.int r), some (.int (nI k)), some (.int (nI j))]) [] := by
              intro fj
              induction fj with
              | zero => intros; omega
              | succ fj ihj =>
                intro j K2 g1 g2 g3 g4
                refine V_iload_n hC dX4_total_65 rfl ?_
                refine V_aload_n hC dX4_total_66 rfl ?_
                refine mg_rules hC dX4_total_67 ?_
                refine V_seti (y := nI σ.ru.length) hr.2.2.2.2.1 ?_
                refine V_icmp_ge (tgt := 111) hC dX4_total_70 (by decide) (fun c70 => ?_) (fun c70 => ?_)
                · have ej : j = σ.ru.length := Nat.le_antisymm g2 (Nat.le_of_not_lt fun q => nI_ge q (by omega) c70)
                  rw [ej, tS_tN hw hc15] at g4
                  have hfit := tS_fit hw hc15 hk
                  refine V_aload_n hC dX4_total_111 rfl ?_
                  refine mg_levels hC dX4_total_112 ?_
                  refine V_bipush (v := 12) hC dX4_total_115 (by decide) ?_
                  refine V_aload_n hC dX4_total_117 rfl ?_
                  refine mg_scores hC dX4_total_118 ?_
                  refine V_seti (y := nI σ.sc.length) hr.1 ?_
                  refine V_imul hC dX4_total_121 ?_
                  refine V_iload_n hC dX4_total_122 rfl ?_
                  refine V_iadd hC dX4_total_123 ?_
                  refine V_aload_n hC dX4_total_124 rfl ?_
                  refine mc0v hC m_number rfl mw_number ⟨⟨(Nat.le_of_ble_eq_true rfl), (Nat.le_of_ble_eq_true rfl)⟩, rfl, rfl⟩ ⟨(Nat.le_of_ble_eq_true rfl), (Nat.le_of_ble_eq_true rfl)⟩ (Nat.le_of_ble_eq_true rfl) dX4_total_125 ?_
                  refine ms_levels hC (12 * σ.sc.length + k) (g12 _ k) (by omega) dX4_total_128 ?_
                  refine V_iinc (v := nI (k + 1)) hC dX4_total_129 rfl (gI_inc k) (Nat.le_of_ble_eq_true rfl) ?_
                  refine V_goto (tgt := 51) hC dX4_total_132 (by decide) ?_
                  refine V.eqM (mkM_Q ?_) (V.loc [some (.ref a), some (.int r), some (.int (nI (k + 1)))] ⟨rfl, rfl, rfl, trivial⟩ (ihk (k + 1) _ (by omega) (by omega)))
                  exact (gUU _ 0 _ _).trans (congrArg (va_up (layQ Q σ.sc.length) 0) ((congrArg (va_up _ (12 * σ.sc.length + k)) ((show _ = Int64.ofInt (tS σ r k) from (wnum (by rw [g4]; exact hfit)).trans (congrArg Int64.ofInt g4)).trans (by rw [Nat.zero_add]))).trans (gCpy_s _ _ (fun z => Int64.ofInt (tS σ r z)) 0 k)))
                · have hj : j < σ.ru.length := Nat.lt_of_not_le fun q => c70 (nI_le q (by omega))
                  have er := List.getElem?_eq_getElem hj
                  obtain ⟨v1, v2, v3, v4⟩ := hR.2.2.2.2 j _ er
                  have bb := tN_b r k hcb j
                  have st := wstep (Q 1 (12 * j + k)) (c := σ.ru[j].2) (r := j) v2 (by omega) g3 (by rw [g4]; exact bb.1) (by rw [g4]; exact bb.2)
                  refine V_iload_n hC dX4_total_73 rfl ?_
                  refine V_iconst (v := (-1)) hC dX4_total_74 (by decide) ?_
                  refine V_icmp_eq (tgt := 83) hC dX4_total_75 (by decide) (fun c75 => ?_) (fun c75 => ?_)
                  · refine V_aload_n hC dX4_total_83 rfl ?_
                    refine V_aload_n hC dX4_total_84 rfl ?_
                    refine mg_weights hC dX4_total_85 ?_
                    refine V_bipush (v := 12) hC dX4_total_88 (by decide) ?_
                    refine V_iload_n hC dX4_total_90 rfl ?_
                    refine V_imul hC dX4_total_91 ?_
                    refine V_iload_n hC dX4_total_92 rfl ?_
                    refine V_iadd hC dX4_total_93 ?_
                    refine ml_weights hC (12 * j + k) (g12 j k) (by omega) dX4_total_94 ?_
                    refine V_setl (y := Q 1 (12 * j + k)) rfl ?_
                    refine V_aload_n hC dX4_total_95 rfl ?_
                    refine mg_counts hC dX4_total_96 ?_
                    refine V_iload_n hC dX4_total_99 rfl ?_
                    refine ml_counts hC j rfl (by omega) dX4_total_100 ?_
                    refine V_seti (y := nI σ.ru[j].2) (by rw [layP_gt (by decide)]; exact v3) ?_
                    refine V_i2l hC dX4_total_101 ?_
                    refine mc2n hC m_add rfl mw_add ⟨⟨(Nat.le_of_ble_eq_true rfl), (Nat.le_of_ble_eq_true rfl)⟩, rfl, rfl⟩ ⟨(Nat.le_of_ble_eq_true rfl), (Nat.le_of_ble_eq_true rfl)⟩ (Nat.le_of_ble_eq_true rfl) dX4_total_102 ?_
                    refine V_iinc (v := nI (j + 1)) hC dX4_total_105 rfl (gI_inc j) (Nat.le_of_ble_eq_true rfl) ?_
                    refine V_goto (tgt := 65) hC dX4_total_108 (by decide) ?_
                    refine V.loc [some (.ref a), some (.int r), some (.int (nI k)), some (.int (nI (j + 1)))] ⟨rfl, rfl, rfl, rfl, trivial⟩ (ihj (j + 1) _ (by omega) (by omega) st.1 ?_)
                    rw [tN, if_pos (Or.inl c75), ← g4, List.getD_eq_getElem?_getD, er]
                    exact st.2.trans (by rw [v4 k _ (getD_of (by omega))]; rfl)
                  · refine V_iload_n hC dX4_total_78 rfl ?_
                    refine V_iload_n hC dX4_total_79 rfl ?_
                    refine V_icmp_ne (tgt := 105) hC dX4_total_80 (by decide) (fun c80 => ?_) (fun c80 => ?_)
                    · refine V_iinc (v := nI (j + 1)) hC dX4_total_105 rfl (gI_inc j) (Nat.le_of_ble_eq_true rfl) ?_
                      refine V_goto (tgt := 65) hC dX4_total_108 (by decide) ?_
                      refine V.loc [some (.ref a), some (.int r), some (.int (nI k)), some (.int (nI (j + 1)))] ⟨rfl, rfl, rfl, rfl, trivial⟩ (ihj (j + 1) _ (by omega) (by omega) g3 ?_)
                      rw [g4, tN, if_neg (by rintro (q | q); exact c75 q; exact c80 q)]
                      omega
                    · refine V_aload_n hC dX4_total_83 rfl ?_
                      refine V_aload_n hC dX4_total_84 rfl ?_
                      refine mg_weights hC dX4_total_85 ?_
                      refine V_bipush (v := 12) hC dX4_total_88 (by decide) ?_
                      refine V_iload_n hC dX4_total_90 rfl ?_
                      refine V_imul hC dX4_total_91 ?_
                      refine V_iload_n hC dX4_total_92 rfl ?_
                      refine V_iadd hC dX4_total_93 ?_
                      refine ml_weights hC (12 * j + k) (g12 j k) (by omega) dX4_total_94 ?_
                      refine V_setl (y := Q 1 (12 * j + k)) rfl ?_
                      refine V_aload_n hC dX4_total_95 rfl ?_
                      refine mg_counts hC dX4_total_96 ?_
                      refine V_iload_n hC dX4_total_99 rfl ?_
                      refine ml_counts hC j rfl (by omega) dX4_total_100 ?_
                      refine V_seti (y := nI σ.ru[j].2) (by rw [layP_gt (by decide)]; exact v3) ?_
                      refine V_i2l hC dX4_total_101 ?_
                      refine mc2n hC m_add rfl mw_add ⟨⟨(Nat.le_of_ble_eq_true rfl), (Nat.le_of_ble_eq_true rfl)⟩, rfl, rfl⟩ ⟨(Nat.le_of_ble_eq_true rfl), (Nat.le_of_ble_eq_true rfl)⟩ (Nat.le_of_ble_eq_true rfl) dX4_total_102 ?_
                      refine V_iinc (v := nI (j + 1)) hC dX4_total_105 rfl (gI_inc j) (Nat.le_of_ble_eq_true rfl) ?_
                      refine V_goto (tgt := 65) hC dX4_total_108 (by decide) ?_
                      refine V.loc [some (.ref a), some (.int r), some (.int (nI k)), some (.int (nI (j + 1)))] ⟨rfl, rfl, rfl, rfl, trivial⟩ (ihj (j + 1) _ (by omega) (by omega) st.1 ?_)
                      rw [tN, if_pos (Or.inr c80), ← g4, List.getD_eq_getElem?_getD, er]
                      exact st.2.trans (by rw [v4 k _ (getD_of (by omega))]; rfl)
            refine V_iconst (v := 0) hC dX4_total_63 (by decide) ?_
            refine V_istore_n hC dX4_total_64 (Nat.le_of_ble_eq_true rfl) ?_
            refine V.loc [some (.ref a), some (.int r), some (.int (nI k)), some (.int (nI 0))] ⟨rfl, rfl, rfl, rfl, trivial⟩ (loopj (σ.ru.length + 1) 0 _ (by omega) (by omega) w00.1 w00.2)
      refine V_iconst (v := 0) hC dX4_total_49 (by decide) ?_
      refine V_istore_n hC dX4_total_50 (Nat.le_of_ble_eq_true rfl) ?_
      refine V.eqM (mkM_Q (show layQ Q σ.sc.length = (va_up (layQ Q σ.sc.length) 0 (gCpy (layQ Q σ.sc.length 0) (12 * σ.sc.length) (fun z => Int64.ofInt (tS σ r z)) 0 0)) by rw [gCpy_0, gup_self])) (V.loc [some (.ref a), some (.int r), some (.int (nI 0))] ⟨rfl, rfl, rfl, trivial⟩ (loopk (σ.pl.2.2 + 1) 0 J (by omega) (by omega)))
    · refine V_bipush (v := (-4)) hC dX4_total_30 (by decide) ?_
      exact V_iret hC dX4_total_32 (Nat.le_of_ble_eq_true rfl) (Nat.le_of_ble_eq_true rfl) (RMp_i (by
            unfold o_total
            rw [if_neg, if_pos ((n60 hw).mp c27)]
            rintro ⟨q1, q2⟩
            rw [decide_eq_false q1, q2] at c15
            cases c15) hr)
  · refine V_bipush (v := (-2)) hC dX4_total_18 (by decide) ?_
    exact V_iret hC dX4_total_20 (Nat.le_of_ble_eq_true rfl) (Nat.le_of_ble_eq_true rfl) (RMp_i (by unfold o_total; rw [if_pos]; rw [Bool.or_eq_false_iff] at c15; exact ⟨of_decide_eq_false c15.1, c15.2⟩) hr)
