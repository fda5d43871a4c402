/-! MODEL 14: writeWord, writeRow, print -/
set_option maxHeartbeats 4000000 in
theorem m_ww0 {l : Launch} {G : gG} {a : Nat} {I : Nat → Int32} {J : Nat → Int64} {P : Nat → Nat → Int32} {Q : Nat → Nat → Int64} {M0 : gM} {w : List Int32} (ho : OU w I P) (hb : w.length + 6 ≤ 400) : gMet l yX4_writeWord (gWs yX4_writeWord cX4_writeWord 6 none []) ({ frames := 1, cells := 0, slots := 0, locals := 21 } : Room) G [.ref a, .int 0] (mkM G a I J P Q M0) (RW G a J Q M0 I P (w ++ tHard)) := by
  refine gMet.intro (by decide) (Nat.le_of_ble_eq_true rfl) (fun C hl hC hN => ?_)
  subst hl
  replace hC : Ck G C [] cX4_writeWord RX4 6 none ({ frames := 1, cells := 0, slots := 0, locals := 21 } : Room) (RW G a J Q M0 I P (w ++ tHard)) := hC
  refine V.loc [some (.ref a), some (.int 0)] ⟨rfl, rfl, trivial⟩ ?_
  have hch : ∀ k, k < 4 → (((211595496 : Int64) >>> (((7 : Int32) * nI k).toInt64 &&& 63)) &&& 127).toInt32 = tHard.getD k 0 := by decide
  refine V_iload_n hC dX4_writeWord_0 rfl ?_
  refine V_if_ne (tgt := 8) hC dX4_writeWord_1 (by decide) (fun c => absurd c (by decide)) (fun _ => ?_)
  refine V_iconst (v := 4) hC dX4_writeWord_4 (by decide) ?_
  refine V_goto (tgt := 19) hC dX4_writeWord_5 (by decide) ?_
  refine V_istore_n hC dX4_writeWord_19 (Nat.le_of_ble_eq_true rfl) ?_
  refine V_iload_n hC dX4_writeWord_20 rfl ?_
  refine V_if_ne (tgt := 54) hC dX4_writeWord_21 (by decide) (fun c => absurd c (by decide)) (fun _ => ?_)
  refine V_bipush (v := 104) hC dX4_writeWord_24 (by decide) ?_
  refine V_iconst (v := 0) hC dX4_writeWord_26 (by decide) ?_
  refine mt2v hC m_letter mw_letter ⟨⟨(Nat.le_of_ble_eq_true rfl), (Nat.le_of_ble_eq_true rfl)⟩, rfl, rfl⟩ ⟨(Nat.le_of_ble_eq_true rfl), (Nat.le_of_ble_eq_true rfl)⟩ (Nat.le_of_ble_eq_true rfl) dX4_writeWord_27 ?_
  refine V_bipush (v := 97) hC dX4_writeWord_30 (by decide) ?_
  refine V_iconst (v := 1) hC dX4_writeWord_32 (by decide) ?_
  refine mt2v hC m_letter mw_letter ⟨⟨(Nat.le_of_ble_eq_true rfl), (Nat.le_of_ble_eq_true rfl)⟩, rfl, rfl⟩ ⟨(Nat.le_of_ble_eq_true rfl), (Nat.le_of_ble_eq_true rfl)⟩ (Nat.le_of_ble_eq_true rfl) dX4_writeWord_33 ?_
  refine V_lor hC dX4_writeWord_36 ?_
  refine V_bipush (v := 114) hC dX4_writeWord_37 (by decide) ?_
  refine V_iconst (v := 2) hC dX4_writeWord_39 (by decide) ?_
  refine mt2v hC m_letter mw_letter ⟨⟨(Nat.le_of_ble_eq_true rfl), (Nat.le_of_ble_eq_true rfl)⟩, rfl, rfl⟩ ⟨(Nat.le_of_ble_eq_true rfl), (Nat.le_of_ble_eq_true rfl)⟩ (Nat.le_of_ble_eq_true rfl) dX4_writeWord_40 ?_
  refine V_lor hC dX4_writeWord_43 ?_
  refine V_bipush (v := 100) hC dX4_writeWord_44 (by decide) ?_
  refine V_iconst (v := 3) hC dX4_writeWord_46 (by decide) ?_
  refine mt2v hC m_letter mw_letter ⟨⟨(Nat.le_of_ble_eq_true rfl), (Nat.le_of_ble_eq_true rfl)⟩, rfl, rfl⟩ ⟨(Nat.le_of_ble_eq_true rfl), (Nat.le_of_ble_eq_true rfl)⟩ (Nat.le_of_ble_eq_true rfl) dX4_writeWord_47 ?_
  refine V_lor hC dX4_writeWord_50 ?_
  refine V_goto (tgt := 130) hC dX4_writeWord_51 (by decide) ?_
  refine V_setl (y := 211595496) (by decide) ?_
  refine V_lstore_n hC dX4_writeWord_130 (Nat.le_of_ble_eq_true rfl) ?_
  have loop : ∀ (fuel : Nat) (k : Nat) (w1 : List Int32) (I1 : Nat → Int32) (P1 : Nat → Nat → Int32), 4 < k + fuel → k ≤ 4 → OU w1 I1 P1 → w1 = w ++ tHard.take k → (∀ j, j ≠ 7 → I1 j = I j) → (∀ j, j ≠ 5 → P1 j = P j) → V G C (mkM G a I1 J P1 Q M0) 0 0 134 (gl [some (.ref a), some (.int 0), some (.int 4), some (.long 211595496), none, some (.int (nI k))]) [] := by
    intro fuel
    induction fuel with
    | zero => intros; omega
    | succ fuel ih =>
      intro k w1 I1 P1 a1 a2 a3 a4 a5 a6
      refine V_iload hC dX4_writeWord_134 rfl ?_
      refine V_iload_n hC dX4_writeWord_136 rfl ?_
      refine V_icmp_ge (tgt := 162) hC dX4_writeWord_137 (by decide) (fun c137 => ?_) (fun c137 => ?_)
      · exact V_vret hC dX4_writeWord_162 (Nat.le_of_ble_eq_true rfl) (Nat.le_of_ble_eq_true rfl) (RW.tr (by
              have hk : k = 4 := Nat.le_antisymm a2 (Nat.le_of_not_lt fun q => nI_ge q (by omega) c137)
              rw [hk] at a4
              rw [a4] at a3
              exact a3) a5 a6)
      · have h4 : k < 4 := Nat.lt_of_not_le fun q => c137 (nI_le q (by omega))
        refine V_aload_n hC dX4_writeWord_140 rfl ?_
        refine V_lload_n hC dX4_writeWord_141 rfl ?_
        refine V_bipush (v := 7) hC dX4_writeWord_142 (by decide) ?_
        refine V_iload hC dX4_writeWord_144 rfl ?_
        refine V_imul hC dX4_writeWord_146 ?_
        refine V_lshr hC dX4_writeWord_147 ?_
        refine V_ldc2 hC dX4_writeWord_148 q1007 ?_
        refine V_land hC dX4_writeWord_151 ?_
        refine V_l2i hC dX4_writeWord_152 ?_
        refine V_seti (y := tHard.getD k 0) (hch k h4) ?_
        refine mc1g hC (m_wr a3 (by rw [a4, List.length_append, List.length_take]; omega)) rfl mw_write ⟨⟨(Nat.le_of_ble_eq_true rfl), (Nat.le_of_ble_eq_true rfl)⟩, rfl, rfl⟩ ⟨(Nat.le_of_ble_eq_true rfl), (Nat.le_of_ble_eq_true rfl)⟩ (Nat.le_of_ble_eq_true rfl) dX4_writeWord_153 (fun X M' h => by obtain ⟨h1, -⟩ := h; cases h1) (fun v M' h => ?_)
        obtain ⟨h1, I3, P3, h2, ho3, hi3, hp3⟩ := h
        cases h1
        subst h2
        refine V_iinc (v := nI (k + 1)) hC dX4_writeWord_156 rfl (gI_inc k) (Nat.le_of_ble_eq_true rfl) ?_
        refine V_goto (tgt := 134) hC dX4_writeWord_159 (by decide) ?_
        refine V.loc [some (.ref a), some (.int 0), some (.int 4), some (.long 211595496), none, some (.int (nI (k + 1)))] ⟨rfl, rfl, rfl, rfl, rfl, trivial⟩ (ih (k + 1) _ I3 P3 (by omega) (by omega) ho3 ?_ (fun j hj => (hi3 j hj).trans (a5 j hj)) (fun j hj => (hp3 j hj).trans (a6 j hj)))
        rw [a4, List.append_assoc, List.take_succ]
        congr 2
        rw [List.getD_eq_getElem?_getD, List.getElem?_eq_getElem (show k < tHard.length from h4)]
        rfl
  refine V_iconst (v := 0) hC dX4_writeWord_131 (by decide) ?_
  refine V_istore hC dX4_writeWord_132 (Nat.le_of_ble_eq_true rfl) ?_
  refine V.loc [some (.ref a), some (.int 0), some (.int 4), some (.long 211595496), none, some (.int (nI 0))] ⟨rfl, rfl, rfl, rfl, rfl, trivial⟩ (loop 5 0 w I P (by omega) (by omega) ho (by rw [List.take_zero, List.append_nil]) (fun _ _ => rfl) (fun _ _ => rfl))
set_option maxHeartbeats 4000000 in
theorem m_ww1 {l : Launch} {G : gG} {a : Nat} {I : Nat → Int32} {J : Nat → Int64} {P : Nat → Nat → Int32} {Q : Nat → Nat → Int64} {M0 : gM} {w : List Int32} (ho : OU w I P) (hb : w.length + 6 ≤ 400) : gMet l yX4_writeWord (gWs yX4_writeWord cX4_writeWord 6 none []) ({ frames := 1, cells := 0, slots := 0, locals := 21 } : Room) G [.ref a, .int 1] (mkM G a I J P Q M0) (RW G a J Q M0 I P (w ++ tMed)) := by
  refine gMet.intro (by decide) (Nat.le_of_ble_eq_true rfl) (fun C hl hC hN => ?_)
  subst hl
  replace hC : Ck G C [] cX4_writeWord RX4 6 none ({ frames := 1, cells := 0, slots := 0, locals := 21 } : Room) (RW G a J Q M0 I P (w ++ tMed)) := hC
  refine V.loc [some (.ref a), some (.int 1)] ⟨rfl, rfl, trivial⟩ ?_
  have hch : ∀ k, k < 6 → (((3776840282861 : Int64) >>> (((7 : Int32) * nI k).toInt64 &&& 63)) &&& 127).toInt32 = tMed.getD k 0 := by decide
  refine V_iload_n hC dX4_writeWord_0 rfl ?_
  refine V_if_ne (tgt := 8) hC dX4_writeWord_1 (by decide) (fun _ => ?_) (fun c => absurd c (by decide))
  refine V_iload_n hC dX4_writeWord_8 rfl ?_
  refine V_iconst (v := 1) hC dX4_writeWord_9 (by decide) ?_
  refine V_icmp_ne (tgt := 18) hC dX4_writeWord_10 (by decide) (fun c => absurd c (by decide)) (fun _ => ?_)
  refine V_bipush (v := 6) hC dX4_writeWord_13 (by decide) ?_
  refine V_goto (tgt := 19) hC dX4_writeWord_15 (by decide) ?_
  refine V_istore_n hC dX4_writeWord_19 (Nat.le_of_ble_eq_true rfl) ?_
  refine V_iload_n hC dX4_writeWord_20 rfl ?_
  refine V_if_ne (tgt := 54) hC dX4_writeWord_21 (by decide) (fun _ => ?_) (fun c => absurd c (by decide))
  refine V_iload_n hC dX4_writeWord_54 rfl ?_
  refine V_iconst (v := 1) hC dX4_writeWord_55 (by decide) ?_
  refine V_icmp_ne (tgt := 103) hC dX4_writeWord_56 (by decide) (fun c => absurd c (by decide)) (fun _ => ?_)
  refine V_bipush (v := 109) hC dX4_writeWord_59 (by decide) ?_
  refine V_iconst (v := 0) hC dX4_writeWord_61 (by decide) ?_
  refine mt2v hC m_letter mw_letter ⟨⟨(Nat.le_of_ble_eq_true rfl), (Nat.le_of_ble_eq_true rfl)⟩, rfl, rfl⟩ ⟨(Nat.le_of_ble_eq_true rfl), (Nat.le_of_ble_eq_true rfl)⟩ (Nat.le_of_ble_eq_true rfl) dX4_writeWord_62 ?_
  refine V_bipush (v := 101) hC dX4_writeWord_65 (by decide) ?_
  refine V_iconst (v := 1) hC dX4_writeWord_67 (by decide) ?_
  refine mt2v hC m_letter mw_letter ⟨⟨(Nat.le_of_ble_eq_true rfl), (Nat.le_of_ble_eq_true rfl)⟩, rfl, rfl⟩ ⟨(Nat.le_of_ble_eq_true rfl), (Nat.le_of_ble_eq_true rfl)⟩ (Nat.le_of_ble_eq_true rfl) dX4_writeWord_68 ?_
  refine V_lor hC dX4_writeWord_71 ?_
  refine V_bipush (v := 100) hC dX4_writeWord_72 (by decide) ?_
  refine V_iconst (v := 2) hC dX4_writeWord_74 (by decide) ?_
  refine mt2v hC m_letter mw_letter ⟨⟨(Nat.le_of_ble_eq_true rfl), (Nat.le_of_ble_eq_true rfl)⟩, rfl, rfl⟩ ⟨(Nat.le_of_ble_eq_true rfl), (Nat.le_of_ble_eq_true rfl)⟩ (Nat.le_of_ble_eq_true rfl) dX4_writeWord_75 ?_
  refine V_lor hC dX4_writeWord_78 ?_
  refine V_bipush (v := 105) hC dX4_writeWord_79 (by decide) ?_
  refine V_iconst (v := 3) hC dX4_writeWord_81 (by decide) ?_
  refine mt2v hC m_letter mw_letter ⟨⟨(Nat.le_of_ble_eq_true rfl), (Nat.le_of_ble_eq_true rfl)⟩, rfl, rfl⟩ ⟨(Nat.le_of_ble_eq_true rfl), (Nat.le_of_ble_eq_true rfl)⟩ (Nat.le_of_ble_eq_true rfl) dX4_writeWord_82 ?_
  refine V_lor hC dX4_writeWord_85 ?_
  refine V_bipush (v := 117) hC dX4_writeWord_86 (by decide) ?_
  refine V_iconst (v := 4) hC dX4_writeWord_88 (by decide) ?_
  refine mt2v hC m_letter mw_letter ⟨⟨(Nat.le_of_ble_eq_true rfl), (Nat.le_of_ble_eq_true rfl)⟩, rfl, rfl⟩ ⟨(Nat.le_of_ble_eq_true rfl), (Nat.le_of_ble_eq_true rfl)⟩ (Nat.le_of_ble_eq_true rfl) dX4_writeWord_89 ?_
  refine V_lor hC dX4_writeWord_92 ?_
  refine V_bipush (v := 109) hC dX4_writeWord_93 (by decide) ?_
  refine V_iconst (v := 5) hC dX4_writeWord_95 (by decide) ?_
  refine mt2v hC m_letter mw_letter ⟨⟨(Nat.le_of_ble_eq_true rfl), (Nat.le_of_ble_eq_true rfl)⟩, rfl, rfl⟩ ⟨(Nat.le_of_ble_eq_true rfl), (Nat.le_of_ble_eq_true rfl)⟩ (Nat.le_of_ble_eq_true rfl) dX4_writeWord_96 ?_
  refine V_lor hC dX4_writeWord_99 ?_
  refine V_goto (tgt := 130) hC dX4_writeWord_100 (by decide) ?_
  refine V_setl (y := 3776840282861) (by decide) ?_
  refine V_lstore_n hC dX4_writeWord_130 (Nat.le_of_ble_eq_true rfl) ?_
  have loop : ∀ (fuel : Nat) (k : Nat) (w1 : List Int32) (I1 : Nat → Int32) (P1 : Nat → Nat → Int32), 6 < k + fuel → k ≤ 6 → OU w1 I1 P1 → w1 = w ++ tMed.take k → (∀ j, j ≠ 7 → I1 j = I j) → (∀ j, j ≠ 5 → P1 j = P j) → V G C (mkM G a I1 J P1 Q M0) 0 0 134 (gl [some (.ref a), some (.int 1), some (.int 6), some (.long 3776840282861), none, some (.int (nI k))]) [] := by
    intro fuel
    induction fuel with
    | zero => intros; omega
    | succ fuel ih =>
      intro k w1 I1 P1 a1 a2 a3 a4 a5 a6
      refine V_iload hC dX4_writeWord_134 rfl ?_
      refine V_iload_n hC dX4_writeWord_136 rfl ?_
      refine V_icmp_ge (tgt := 162) hC dX4_writeWord_137 (by decide) (fun c137 => ?_) (fun c137 => ?_)
      · exact V_vret hC dX4_writeWord_162 (Nat.le_of_ble_eq_true rfl) (Nat.le_of_ble_eq_true rfl) (RW.tr (by
              have hk : k = 6 := Nat.le_antisymm a2 (Nat.le_of_not_lt fun q => nI_ge q (by omega) c137)
              rw [hk] at a4
              rw [a4] at a3
              exact a3) a5 a6)
      · have h4 : k < 6 := Nat.lt_of_not_le fun q => c137 (nI_le q (by omega))
        refine V_aload_n hC dX4_writeWord_140 rfl ?_
        refine V_lload_n hC dX4_writeWord_141 rfl ?_
        refine V_bipush (v := 7) hC dX4_writeWord_142 (by decide) ?_
        refine V_iload hC dX4_writeWord_144 rfl ?_
        refine V_imul hC dX4_writeWord_146 ?_
        refine V_lshr hC dX4_writeWord_147 ?_
        refine V_ldc2 hC dX4_writeWord_148 q1007 ?_
        refine V_land hC dX4_writeWord_151 ?_
        refine V_l2i hC dX4_writeWord_152 ?_
        refine V_seti (y := tMed.getD k 0) (hch k h4) ?_
        refine mc1g hC (m_wr a3 (by rw [a4, List.length_append, List.length_take]; omega)) rfl mw_write ⟨⟨(Nat.le_of_ble_eq_true rfl), (Nat.le_of_ble_eq_true rfl)⟩, rfl, rfl⟩ ⟨(Nat.le_of_ble_eq_true rfl), (Nat.le_of_ble_eq_true rfl)⟩ (Nat.le_of_ble_eq_true rfl) dX4_writeWord_153 (fun X M' h => by obtain ⟨h1, -⟩ := h; cases h1) (fun v M' h => ?_)
        obtain ⟨h1, I3, P3, h2, ho3, hi3, hp3⟩ := h
        cases h1
        subst h2
        refine V_iinc (v := nI (k + 1)) hC dX4_writeWord_156 rfl (gI_inc k) (Nat.le_of_ble_eq_true rfl) ?_
        refine V_goto (tgt := 134) hC dX4_writeWord_159 (by decide) ?_
        refine V.loc [some (.ref a), some (.int 1), some (.int 6), some (.long 3776840282861), none, some (.int (nI (k + 1)))] ⟨rfl, rfl, rfl, rfl, rfl, trivial⟩ (ih (k + 1) _ I3 P3 (by omega) (by omega) ho3 ?_ (fun j hj => (hi3 j hj).trans (a5 j hj)) (fun j hj => (hp3 j hj).trans (a6 j hj)))
        rw [a4, List.append_assoc, List.take_succ]
        congr 2
        rw [List.getD_eq_getElem?_getD, List.getElem?_eq_getElem (show k < tMed.length from h4)]
        rfl
  refine V_iconst (v := 0) hC dX4_writeWord_131 (by decide) ?_
  refine V_istore hC dX4_writeWord_132 (Nat.le_of_ble_eq_true rfl) ?_
  refine V.loc [some (.ref a), some (.int 1), some (.int 6), some (.long 3776840282861), none, some (.int (nI 0))] ⟨rfl, rfl, rfl, rfl, rfl, trivial⟩ (loop 7 0 w I P (by omega) (by omega) ho (by rw [List.take_zero, List.append_nil]) (fun _ _ => rfl) (fun _ _ => rfl))
set_option maxHeartbeats 4000000 in
theorem m_ww2 {l : Launch} {G : gG} {a : Nat} {I : Nat → Int32} {J : Nat → Int64} {P : Nat → Nat → Int32} {Q : Nat → Nat → Int64} {M0 : gM} {w : List Int32} (ho : OU w I P) (hb : w.length + 6 ≤ 400) : gMet l yX4_writeWord (gWs yX4_writeWord cX4_writeWord 6 none []) ({ frames := 1, cells := 0, slots := 0, locals := 21 } : Room) G [.ref a, .int 2] (mkM G a I J P Q M0) (RW G a J Q M0 I P (w ++ tSoft)) := by
  refine gMet.intro (by decide) (Nat.le_of_ble_eq_true rfl) (fun C hl hC hN => ?_)
  subst hl
  replace hC : Ck G C [] cX4_writeWord RX4 6 none ({ frames := 1, cells := 0, slots := 0, locals := 21 } : Room) (RW G a J Q M0 I P (w ++ tSoft)) := hC
  refine V.loc [some (.ref a), some (.int 2)] ⟨rfl, rfl, trivial⟩ ?_
  have hch : ∀ k, k < 4 → (((244955123 : Int64) >>> (((7 : Int32) * nI k).toInt64 &&& 63)) &&& 127).toInt32 = tSoft.getD k 0 := by decide
  refine V_iload_n hC dX4_writeWord_0 rfl ?_
  refine V_if_ne (tgt := 8) hC dX4_writeWord_1 (by decide) (fun _ => ?_) (fun c => absurd c (by decide))
  refine V_iload_n hC dX4_writeWord_8 rfl ?_
  refine V_iconst (v := 1) hC dX4_writeWord_9 (by decide) ?_
  refine V_icmp_ne (tgt := 18) hC dX4_writeWord_10 (by decide) (fun _ => ?_) (fun c => absurd c (by decide))
  refine V_iconst (v := 4) hC dX4_writeWord_18 (by decide) ?_
  refine V_istore_n hC dX4_writeWord_19 (Nat.le_of_ble_eq_true rfl) ?_
  refine V_iload_n hC dX4_writeWord_20 rfl ?_
  refine V_if_ne (tgt := 54) hC dX4_writeWord_21 (by decide) (fun _ => ?_) (fun c => absurd c (by decide))
  refine V_iload_n hC dX4_writeWord_54 rfl ?_
  refine V_iconst (v := 1) hC dX4_writeWord_55 (by decide) ?_
  refine V_icmp_ne (tgt := 103) hC dX4_writeWord_56 (by decide) (fun _ => ?_) (fun c => absurd c (by decide))
  refine V_bipush (v := 115) hC dX4_writeWord_103 (by decide) ?_
  refine V_iconst (v := 0) hC dX4_writeWord_105 (by decide) ?_
  refine mt2v hC m_letter mw_letter ⟨⟨(Nat.le_of_ble_eq_true rfl), (Nat.le_of_ble_eq_true rfl)⟩, rfl, rfl⟩ ⟨(Nat.le_of_ble_eq_true rfl), (Nat.le_of_ble_eq_true rfl)⟩ (Nat.le_of_ble_eq_true rfl) dX4_writeWord_106 ?_
  refine V_bipush (v := 111) hC dX4_writeWord_109 (by decide) ?_
  refine V_iconst (v := 1) hC dX4_writeWord_111 (by decide) ?_
  refine mt2v hC m_letter mw_letter ⟨⟨(Nat.le_of_ble_eq_true rfl), (Nat.le_of_ble_eq_true rfl)⟩, rfl, rfl⟩ ⟨(Nat.le_of_ble_eq_true rfl), (Nat.le_of_ble_eq_true rfl)⟩ (Nat.le_of_ble_eq_true rfl) dX4_writeWord_112 ?_
  refine V_lor hC dX4_writeWord_115 ?_
  refine V_bipush (v := 102) hC dX4_writeWord_116 (by decide) ?_
  refine V_iconst (v := 2) hC dX4_writeWord_118 (by decide) ?_
  refine mt2v hC m_letter mw_letter ⟨⟨(Nat.le_of_ble_eq_true rfl), (Nat.le_of_ble_eq_true rfl)⟩, rfl, rfl⟩ ⟨(Nat.le_of_ble_eq_true rfl), (Nat.le_of_ble_eq_true rfl)⟩ (Nat.le_of_ble_eq_true rfl) dX4_writeWord_119 ?_
  refine V_lor hC dX4_writeWord_122 ?_
  refine V_bipush (v := 116) hC dX4_writeWord_123 (by decide) ?_
  refine V_iconst (v := 3) hC dX4_writeWord_125 (by decide) ?_
  refine mt2v hC m_letter mw_letter ⟨⟨(Nat.le_of_ble_eq_true rfl), (Nat.le_of_ble_eq_true rfl)⟩, rfl, rfl⟩ ⟨(Nat.le_of_ble_eq_true rfl), (Nat.le_of_ble_eq_true rfl)⟩ (Nat.le_of_ble_eq_true rfl) dX4_writeWord_126 ?_
  refine V_lor hC dX4_writeWord_129 ?_
  refine V_setl (y := 244955123) (by decide) ?_
  refine V_lstore_n hC dX4_writeWord_130 (Nat.le_of_ble_eq_true rfl) ?_
  have loop : ∀ (fuel : Nat) (k : Nat) (w1 : List Int32) (I1 : Nat → Int32) (P1 : Nat → Nat → Int32), 4 < k + fuel → k ≤ 4 → OU w1 I1 P1 → w1 = w ++ tSoft.take k → (∀ j, j ≠ 7 → I1 j = I j) → (∀ j, j ≠ 5 → P1 j = P j) → V G C (mkM G a I1 J P1 Q M0) 0 0 134 (gl [some (.ref a), some (.int 2), some (.int 4), some (.long 244955123), none, some (.int (nI k))]) [] := by
    intro fuel
    induction fuel with
    | zero => intros; omega
    | succ fuel ih =>
      intro k w1 I1 P1 a1 a2 a3 a4 a5 a6
      refine V_iload hC dX4_writeWord_134 rfl ?_
      refine V_iload_n hC dX4_writeWord_136 rfl ?_
      refine V_icmp_ge (tgt := 162) hC dX4_writeWord_137 (by decide) (fun c137 => ?_) (fun c137 => ?_)
      · exact V_vret hC dX4_writeWord_162 (Nat.le_of_ble_eq_true rfl) (Nat.le_of_ble_eq_true rfl) (RW.tr (by
              have hk : k = 4 := Nat.le_antisymm a2 (Nat.le_of_not_lt fun q => nI_ge q (by omega) c137)
              rw [hk] at a4
              rw [a4] at a3
              exact a3) a5 a6)
      · have h4 : k < 4 := Nat.lt_of_not_le fun q => c137 (nI_le q (by omega))
        refine V_aload_n hC dX4_writeWord_140 rfl ?_
        refine V_lload_n hC dX4_writeWord_141 rfl ?_
        refine V_bipush (v := 7) hC dX4_writeWord_142 (by decide) ?_
        refine V_iload hC dX4_writeWord_144 rfl ?_
        refine V_imul hC dX4_writeWord_146 ?_
        refine V_lshr hC dX4_writeWord_147 ?_
        refine V_ldc2 hC dX4_writeWord_148 q1007 ?_
        refine V_land hC dX4_writeWord_151 ?_
        refine V_l2i hC dX4_writeWord_152 ?_
        refine V_seti (y := tSoft.getD k 0) (hch k h4) ?_
        refine mc1g hC (m_wr a3 (by rw [a4, List.length_append, List.length_take]; omega)) rfl mw_write ⟨⟨(Nat.le_of_ble_eq_true rfl), (Nat.le_of_ble_eq_true rfl)⟩, rfl, rfl⟩ ⟨(Nat.le_of_ble_eq_true rfl), (Nat.le_of_ble_eq_true rfl)⟩ (Nat.le_of_ble_eq_true rfl) dX4_writeWord_153 (fun X M' h => by obtain ⟨h1, -⟩ := h; cases h1) (fun v M' h => ?_)
        obtain ⟨h1, I3, P3, h2, ho3, hi3, hp3⟩ := h
        cases h1
        subst h2
        refine V_iinc (v := nI (k + 1)) hC dX4_writeWord_156 rfl (gI_inc k) (Nat.le_of_ble_eq_true rfl) ?_
        refine V_goto (tgt := 134) hC dX4_writeWord_159 (by decide) ?_
        refine V.loc [some (.ref a), some (.int 2), some (.int 4), some (.long 244955123), none, some (.int (nI (k + 1)))] ⟨rfl, rfl, rfl, rfl, rfl, trivial⟩ (ih (k + 1) _ I3 P3 (by omega) (by omega) ho3 ?_ (fun j hj => (hi3 j hj).trans (a5 j hj)) (fun j hj => (hp3 j hj).trans (a6 j hj)))
        rw [a4, List.append_assoc, List.take_succ]
        congr 2
        rw [List.getD_eq_getElem?_getD, List.getElem?_eq_getElem (show k < tSoft.length from h4)]
        rfl
  refine V_iconst (v := 0) hC dX4_writeWord_131 (by decide) ?_
  refine V_istore hC dX4_writeWord_132 (Nat.le_of_ble_eq_true rfl) ?_
  refine V.loc [some (.ref a), some (.int 2), some (.int 4), some (.long 244955123), none, some (.int (nI 0))] ⟨rfl, rfl, rfl, rfl, rfl, trivial⟩ (loop 5 0 w I P (by omega) (by omega) ho (by rw [List.take_zero, List.append_nil]) (fun _ _ => rfl) (fun _ _ => rfl))
theorem joinS_s : ∀ (l : List Int64) (x : Int64), joinS (l ++ [x]) = if l = [] then num x else joinS l ++ 47 :: num x
  | [], x => rfl
  | [y], x => rfl
  | y :: z :: l, x => by
    have ih := joinS_s (z :: l) x
    rw [if_neg (by simp)] at ih ⊢
    show num y ++ 47 :: joinS (z :: l ++ [x]) = (num y ++ 47 :: joinS (z :: l)) ++ 47 :: num x
    rw [ih]
    simp
theorem joinS_len : ∀ l : List Int64, (joinS l).length ≤ 21 * l.length
  | [] => Nat.le_refl _
  | [y] => by have := num_len y; show (num y).length ≤ 21; omega
  | y :: z :: l => by
    have ih := joinS_len (z :: l)
    have := num_len y
    show (num y ++ 47 :: joinS (z :: l)).length ≤ 21 * (l.length + 2)
    rw [List.length_append, List.length_cons]
    rw [List.length_cons] at ih
    omega
theorem take_s {α : Type} {l : List α} {f k : Nat} {x : α} (h : l[f + k]? = some x) : (l.drop f).take (k + 1) = (l.drop f).take k ++ [x] := by
  rw [List.take_succ, List.getElem?_drop, h]
  rfl
set_option maxHeartbeats 4000000 in
theorem m_writeRow {l : Launch} {G : gG} {a : Nat} {I : Nat → Int32} {J : Nat → Int64} {P : Nat → Nat → Int32} {Q : Nat → Nat → Int64} {M0 : gM} {lv : List Int64} {i f e : Nat} {w : List Int32} (hv : ∀ (k : Nat) (v : Int64), lv[k]? = some v → Q 0 (12 * i + k) = v) (hi60 : i < 61) (hf : f ≤ e) (he : e ≤ lv.length) (hf6 : e ≤ f + 6) (h12 : e ≤ 12) (ho : OU w I P) (hb : w.length + 130 ≤ 400) : gMet l yX4_writeRow (gWs yX4_writeRow cX4_writeRow 5 none []) ({ frames := 2, cells := 0, slots := 0, locals := 49 } : Room) G [.ref a, .int (nI i), .int (nI f), .int (nI e)] (mkM G a I J P Q M0) (RW G a J Q M0 I P (w ++ rowT ((lv.drop f).take (e - f)))) := by
  refine gMet.intro (by decide) (Nat.le_of_ble_eq_true rfl) (fun C hl hC hN => ?_)
  subst hl
  replace hC : Ck G C [] cX4_writeRow RX4 5 none ({ frames := 2, cells := 0, slots := 0, locals := 49 } : Room) (RW G a J Q M0 I P (w ++ rowT ((lv.drop f).take (e - f)))) := hC
  refine V.loc [some (.ref a), some (.int (nI i)), some (.int (nI f)), some (.int (nI e))] ⟨rfl, rfl, rfl, rfl, trivial⟩ ?_
  refine V_aload_n hC dX4_writeRow_0 rfl ?_
  refine V_bipush (v := 91) hC dX4_writeRow_1 (by decide) ?_
  refine mc1g hC (m_wr (c := 91) ho (by omega)) rfl mw_write ⟨⟨(Nat.le_of_ble_eq_true rfl), (Nat.le_of_ble_eq_true rfl)⟩, rfl, rfl⟩ ⟨(Nat.le_of_ble_eq_true rfl), (Nat.le_of_ble_eq_true rfl)⟩ (Nat.le_of_ble_eq_true rfl) dX4_writeRow_3 (fun X M' h => by obtain ⟨h1, -⟩ := h; cases h1) (fun v M' h => ?_)
  obtain ⟨h1, I0, P0, h2, ho0, hi0, hp0⟩ := h
  cases h1
  subst h2
  have loop : ∀ (fuel : Nat) (k : Nat) (w1 : List Int32) (I1 : Nat → Int32) (P1 : Nat → Nat → Int32), e < f + k + fuel → f + k ≤ e → OU w1 I1 P1 → w1 = w ++ 91 :: joinS ((lv.drop f).take k) → (∀ j, j ≠ 7 → I1 j = I j) → (∀ j, j ≠ 5 → P1 j = P j) → V G C (mkM G a I1 J P1 Q M0) 0 0 9 (gl [some (.ref a), some (.int (nI i)), some (.int (nI f)), some (.int (nI e)), some (.int (nI (f + k)))]) [] := by
    intro fuel
    induction fuel with
    | zero => intros; omega
    | succ fuel ih =>
      intro k w1 I1 P1 a1 a2 a3 a4 a5 a6
      have hwl : w1.length ≤ w.length + 1 + 21 * k := by
        rw [a4, List.length_append, List.length_cons]
        have h9 := joinS_len ((lv.drop f).take k)
        have h8 : ((lv.drop f).take k).length ≤ k := by rw [List.length_take]; omega
        omega
      refine V_iload hC dX4_writeRow_9 rfl ?_
      refine V_iload_n hC dX4_writeRow_11 rfl ?_
      refine V_icmp_ge (tgt := 49) hC dX4_writeRow_12 (by decide) (fun c12 => ?_) (fun c12 => ?_)
      · refine V_aload_n hC dX4_writeRow_49 rfl ?_
        refine V_bipush (v := 93) hC dX4_writeRow_50 (by decide) ?_
        refine mc1g hC (m_wr (c := 93) a3 (by omega)) rfl mw_write ⟨⟨(Nat.le_of_ble_eq_true rfl), (Nat.le_of_ble_eq_true rfl)⟩, rfl, rfl⟩ ⟨(Nat.le_of_ble_eq_true rfl), (Nat.le_of_ble_eq_true rfl)⟩ (Nat.le_of_ble_eq_true rfl) dX4_writeRow_52 (fun X M' h => by obtain ⟨h1, -⟩ := h; cases h1) (fun v M' h => ?_)
        obtain ⟨h1, I5, P5, h2, ho5, hi5, hp5⟩ := h
        cases h1
        subst h2
        exact V_vret hC dX4_writeRow_55 (Nat.le_of_ble_eq_true rfl) (Nat.le_of_ble_eq_true rfl) (RW.tr (by
              have hk : f + k = e := Nat.le_antisymm a2 (Nat.le_of_not_lt fun q => nI_ge q (by omega) c12)
              have e9 : w ++ rowT ((lv.drop f).take (e - f)) = w1 ++ [93] := by
                rw [a4, show e - f = k by omega]
                unfold rowT
                simp
              rw [e9]
              exact ho5) (fun j hj => (hi5 j hj).trans (a5 j hj)) (fun j hj => (hp5 j hj).trans (a6 j hj)))
      · have hlt : f + k < e := Nat.lt_of_not_le fun q => c12 (nI_le q (by omega))
        have ex := List.getElem?_eq_getElem (show f + k < lv.length by omega)
        refine V_iload hC dX4_writeRow_15 rfl ?_
        refine V_iload_n hC dX4_writeRow_17 rfl ?_
        refine V_icmp_le (tgt := 27) hC dX4_writeRow_18 (by decide) (fun c18 => ?_) (fun c18 => ?_)
        · have hk0 : k = 0 := by
            have : f + k ≤ f := Nat.le_of_not_lt fun q => nI_ge q (by omega) c18
            omega
          refine V_aload_n hC dX4_writeRow_27 rfl ?_
          refine V_aload_n hC dX4_writeRow_28 rfl ?_
          refine mg_levels hC dX4_writeRow_29 ?_
          refine V_bipush (v := 12) hC dX4_writeRow_32 (by decide) ?_
          refine V_iload_n hC dX4_writeRow_34 rfl ?_
          refine V_imul hC dX4_writeRow_35 ?_
          refine V_iload hC dX4_writeRow_36 rfl ?_
          refine V_iadd hC dX4_writeRow_38 ?_
          refine ml_levels hC (12 * i + (f + k)) (g12 i (f + k)) (by omega) dX4_writeRow_39 ?_
          refine mc1g hC (m_writeNumber a3 (by omega)) rfl mw_writeNumber ⟨⟨(Nat.le_of_ble_eq_true rfl), (Nat.le_of_ble_eq_true rfl)⟩, rfl, rfl⟩ ⟨(Nat.le_of_ble_eq_true rfl), (Nat.le_of_ble_eq_true rfl)⟩ (Nat.le_of_ble_eq_true rfl) dX4_writeRow_40 (fun X M' h => by obtain ⟨h1, -⟩ := h; cases h1) (fun v M' h => ?_)
          obtain ⟨h1, I4, P4, h2, ho4, hi4, hp4⟩ := h
          cases h1
          subst h2
          refine V_iinc (v := nI (f + (k + 1))) hC dX4_writeRow_43 rfl (by rw [gI_inc]; rfl) (Nat.le_of_ble_eq_true rfl) ?_
          refine V_goto (tgt := 9) hC dX4_writeRow_46 (by decide) ?_
          refine V.loc [some (.ref a), some (.int (nI i)), some (.int (nI f)), some (.int (nI e)), some (.int (nI (f + (k + 1))))] ⟨rfl, rfl, rfl, rfl, rfl, trivial⟩ (ih (k + 1) _ I4 P4 (by omega) (by omega) ho4 ?_ (fun j hj => (hi4 j hj).trans (a5 j hj)) (fun j hj => (hp4 j hj).trans (a6 j hj)))
          rw [a4, take_s ex, joinS_s, hv _ _ ex]
          rw [if_pos (by rw [hk0]; rfl), show List.take k (List.drop f lv) = [] by rw [hk0]; rfl]
          simp [joinS]
        · refine V_aload_n hC dX4_writeRow_21 rfl ?_
          refine V_bipush (v := 47) hC dX4_writeRow_22 (by decide) ?_
          refine mc1g hC (m_wr (c := 47) a3 (by omega)) rfl mw_write ⟨⟨(Nat.le_of_ble_eq_true rfl), (Nat.le_of_ble_eq_true rfl)⟩, rfl, rfl⟩ ⟨(Nat.le_of_ble_eq_true rfl), (Nat.le_of_ble_eq_true rfl)⟩ (Nat.le_of_ble_eq_true rfl) dX4_writeRow_24 (fun X M' h => by obtain ⟨h1, -⟩ := h; cases h1) (fun v M' h => ?_)
          obtain ⟨h1, I3, P3, h2, ho3, hi3, hp3⟩ := h
          cases h1
          subst h2
          have hk0 : ¬ k = 0 := fun q => c18 (by rw [q]; exact nI_le (Nat.le_refl _) (by omega))
          refine V_aload_n hC dX4_writeRow_27 rfl ?_
          refine V_aload_n hC dX4_writeRow_28 rfl ?_
          refine mg_levels hC dX4_writeRow_29 ?_
          refine V_bipush (v := 12) hC dX4_writeRow_32 (by decide) ?_
          refine V_iload_n hC dX4_writeRow_34 rfl ?_
          refine V_imul hC dX4_writeRow_35 ?_
          refine V_iload hC dX4_writeRow_36 rfl ?_
          refine V_iadd hC dX4_writeRow_38 ?_
          refine ml_levels hC (12 * i + (f + k)) (g12 i (f + k)) (by omega) dX4_writeRow_39 ?_
          refine mc1g hC (m_writeNumber ho3 (by rw [List.length_append]; show _ + 1 + 20 ≤ 400; omega)) rfl mw_writeNumber ⟨⟨(Nat.le_of_ble_eq_true rfl), (Nat.le_of_ble_eq_true rfl)⟩, rfl, rfl⟩ ⟨(Nat.le_of_ble_eq_true rfl), (Nat.le_of_ble_eq_true rfl)⟩ (Nat.le_of_ble_eq_true rfl) dX4_writeRow_40 (fun X M' h => by obtain ⟨h1, -⟩ := h; cases h1) (fun v M' h => ?_)
          obtain ⟨h1, I6, P6, h2, ho6, hi6, hp6⟩ := h
          cases h1
          subst h2
          refine V_iinc (v := nI (f + (k + 1))) hC dX4_writeRow_43 rfl (by rw [gI_inc]; rfl) (Nat.le_of_ble_eq_true rfl) ?_
          refine V_goto (tgt := 9) hC dX4_writeRow_46 (by decide) ?_
          refine V.loc [some (.ref a), some (.int (nI i)), some (.int (nI f)), some (.int (nI e)), some (.int (nI (f + (k + 1))))] ⟨rfl, rfl, rfl, rfl, rfl, trivial⟩ (ih (k + 1) _ I6 P6 (by omega) (by omega) ho6 ?_ (fun j hj => (hi6 j hj).trans ((hi3 j hj).trans (a5 j hj))) (fun j hj => (hp6 j hj).trans ((hp3 j hj).trans (a6 j hj))))
          rw [a4, take_s ex, joinS_s, hv _ _ ex]
          rw [if_neg (by intro q; have := congrArg List.length q; rw [List.length_take, List.length_drop] at this; simp at this; omega)]
          simp
  refine V_iload_n hC dX4_writeRow_6 rfl ?_
  refine V_istore hC dX4_writeRow_7 (Nat.le_of_ble_eq_true rfl) ?_
  refine V.loc [some (.ref a), some (.int (nI i)), some (.int (nI f)), some (.int (nI e)), some (.int (nI (f + 0)))] ⟨rfl, rfl, rfl, rfl, rfl, trivial⟩ (loop (e + 1) 0 _ I0 P0 (by omega) (by omega) ho0 rfl hi0 hp0)
theorem RM.ou {σ : Sy} {I I' : Nat → Int32} {P P' : Nat → Nat → Int32} {Q : Nat → Nat → Int64} (h : RM σ I P Q) {w : List Int32} (ho : OU w I' P') (hi : ∀ j, j ≠ 7 → I' j = I j) (hp : ∀ j, j ≠ 5 → P' j = P j) : RM (σ.sc, σ.tp, w, σ.2.2.2) I' P' Q := by
  obtain ⟨h0, h1, h2, ⟨h3, h4, h5⟩, h6, h7, h8, h9, h10, h11, h12, h13⟩ := h
  refine ⟨?_, ?_, ?_, ⟨?_, ?_, ?_⟩, ?_, ?_, ?_, h9, ?_, ?_, ho.1, ho.2⟩
  · rw [hi 0 (by decide)]; exact h0
  · rw [hp 0 (by decide)]; exact h1
  · rw [hp 0 (by decide), hp 1 (by decide), hp 2 (by decide)]; exact h2
  · rw [hi 1 (by decide)]; exact h3
  · rw [hi 2 (by decide)]; exact h4
  · rw [hi 3 (by decide)]; exact h5
  · rw [hi 4 (by decide)]; exact h6
  · rw [hp 3 (by decide)]; exact h7
  · rw [hi 5 (by decide)]; exact h8
  · rw [hi 6 (by decide)]; exact h10
  · rw [hp 4 (by decide)]; exact h11
theorem rowT_len (l : List Int64) : (rowT l).length ≤ 2 + 21 * l.length := by
  unfold rowT
  have := joinS_len l
  rw [List.length_append, List.length_cons]
  show _ + 1 + 1 ≤ _
  omega
theorem OU.nil {I : Nat → Int32} {P : Nat → Nat → Int32} : OU [] (va_up I 7 0) P := ⟨rfl, fun j c h => by simp at h⟩
/-- the same answer, by another name of the text -/
theorem OU.eq {w w' : List Int32} {I : Nat → Int32} {P : Nat → Nat → Int32} (h : OU w I P) (e : w = w') : OU w' I P := e ▸ h
theorem print_end {G : gG} {a : Nat} {I I' : Nat → Int32} {J : Nat → Int64} {P P' : Nat → Nat → Int32} {Q : Nat → Nat → Int64} {M0 : gM} {σ : Sy} {i : Nat} {s : Sc} (hr : RM σ I P Q) (hs1 : scAt σ (nI i) = some (some s)) (ho : OU (txt s) I' P') (hi : ∀ j, j ≠ 7 → I' j = I j) (hp : ∀ j, j ≠ 5 → P' j = P j) : RMp G a M0 (o_print σ (nI i)) (.inl (some (.int (I' 7)))) (mkM G a I' J P' Q M0) := by
  rw [ho.1]
  exact RMp_i (by unfold o_print; rw [hs1]) (hr.ou ho hi hp)
set_option maxHeartbeats 4000000 in
theorem m_print {l : Launch} {G : gG} {a : Nat} {I : Nat → Int32} {J : Nat → Int64} {P : Nat → Nat → Int32} {Q : Nat → Nat → Int64} {M0 : gM} {σ : Sy} (hw : Sw σ) (hr : RM σ I P Q) {x : Int32} : gMet l yX4_print (gWs yX4_print cX4_print 2 (some .int) []) ({ frames := 3, cells := 0, slots := 0, locals := 73 } : Room) G [.ref a, .int x] (mkM G a I J P Q M0) (RMp G a M0 (o_print σ x)) := by
  refine gMet.intro (by decide) (Nat.le_of_ble_eq_true rfl) (fun C hl hC hN => ?_)
  subst hl
  replace hC : Ck G C [] cX4_print RX4 2 (some .int) ({ frames := 3, cells := 0, slots := 0, locals := 73 } : Room) (RMp G a M0 (o_print σ x)) := hC
  refine V.loc [some (.ref a), some (.int x)] ⟨rfl, rfl, trivial⟩ ?_
  refine V_aload_n hC dX4_print_0 rfl ?_
  refine V_iload_n hC dX4_print_1 rfl ?_
  refine mc1v hC (m_isNumber hr.1 (by have := hw.1; omega)) rfl mw_isNumber ⟨⟨(Nat.le_of_ble_eq_true rfl), (Nat.le_of_ble_eq_true rfl)⟩, rfl, rfl⟩ ⟨(Nat.le_of_ble_eq_true rfl), (Nat.le_of_ble_eq_true rfl)⟩ (Nat.le_of_ble_eq_true rfl) dX4_print_2 ?_
  refine V_ifb_ne (tgt := 11) hC dX4_print_5 (by decide) (fun c5 => ?_) (fun c5 => ?_)
  · obtain ⟨i, hi, rfl⟩ := gIx_of c5 (by have := hw.1; omega)
    have hb := hw.1
    have ei := scAt_nI hi hb
    refine V_aload_n hC dX4_print_11 rfl ?_
    refine V_iload_n hC dX4_print_12 rfl ?_
    refine mc1v hC (m_isNothing (j := i) (by omega)) rfl mw_isNothing ⟨⟨(Nat.le_of_ble_eq_true rfl), (Nat.le_of_ble_eq_true rfl)⟩, rfl, rfl⟩ ⟨(Nat.le_of_ble_eq_true rfl), (Nat.le_of_ble_eq_true rfl)⟩ (Nat.le_of_ble_eq_true rfl) dX4_print_13 ?_
    refine V_ifb_eq (tgt := 22) hC dX4_print_16 (by decide) (fun c16 => ?_) (fun c16 => ?_)
    · obtain ⟨s, hs1, hs2⟩ := hr.yes hw hi c16
      obtain ⟨p1, p2, p3, p4⟩ := hr.2.2.1 i s hs2
      have hl := hw.len hs2
      have hok := hw.2.1 _ (List.mem_of_getElem? hs2) s rfl
      unfold okS at hok
      have h0l := getD_of (l := s.2.2) (k := 0) (by omega)
      have n0 := num_len (s.2.2.getD 0 0)
      have n1 := num_len (s.2.2.getD 1 0)
      have n2 := num_len (s.2.2.getD 2 0)
      refine V_aload_n hC dX4_print_22 rfl ?_
      refine V_iconst (v := 0) hC dX4_print_23 (by decide) ?_
      refine mp_outSize hC dX4_print_24 ?_
      refine V_aload_n hC dX4_print_27 rfl ?_
      refine mg_shapes hC dX4_print_28 ?_
      refine V_iload_n hC dX4_print_31 rfl ?_
      refine ml_shapes hC i rfl (by omega) dX4_print_32 ?_
      refine V_seti (y := nI s.1) p1 ?_
      refine V_iconst (v := 3) hC dX4_print_33 (by decide) ?_
      refine V_icmp_ne (tgt := 87) hC dX4_print_34 (by decide) (fun c34 => ?_) (fun c34 => ?_)
      · have hs3 : ¬ s.1 = 3 := fun q => c34 (by rw [q]; rfl)
        refine V_aload_n hC dX4_print_87 rfl ?_
        refine V_aload_n hC dX4_print_88 rfl ?_
        refine mg_levels hC dX4_print_89 ?_
        refine V_bipush (v := 12) hC dX4_print_92 (by decide) ?_
        refine V_iload_n hC dX4_print_94 rfl ?_
        refine V_imul hC dX4_print_95 ?_
        rw [g12' i]
        refine ml_levels hC (12 * i + 0) rfl (by omega) dX4_print_96 ?_
        refine V_setl (y := s.2.2.getD 0 0) (p4 0 _ h0l) ?_
        refine mc1g hC (m_writeNumber OU.nil (by decide)) rfl mw_writeNumber ⟨⟨(Nat.le_of_ble_eq_true rfl), (Nat.le_of_ble_eq_true rfl)⟩, rfl, rfl⟩ ⟨(Nat.le_of_ble_eq_true rfl), (Nat.le_of_ble_eq_true rfl)⟩ (Nat.le_of_ble_eq_true rfl) dX4_print_97 (fun X M' h => by obtain ⟨h1, -⟩ := h; cases h1) (fun v M' h => ?_)
        obtain ⟨h1, I1, P1, h2, ho1, hi1, hp1⟩ := h
        cases h1
        subst h2
        refine V_aload_n hC dX4_print_100 rfl ?_
        refine mg_shapes hC dX4_print_101 ?_
        refine V_iload_n hC dX4_print_104 rfl ?_
        refine ml_shapes hC i rfl (by omega) dX4_print_105 ?_
        refine V_seti (y := nI s.1) (by rw [hp1 0 (by decide)]; exact p1) ?_
        refine V_if_le (tgt := 176) hC dX4_print_106 (by decide) (fun c106 => ?_) (fun c106 => ?_)
        · have hs0 : s.1 = 0 := by
            have : nI s.1 ≤ nI 0 := c106
            rcases (show s.1 = 0 ∨ 0 < s.1 by omega) with q | q
            · exact q
            · exact absurd this (nI_ge q (by omega))
          refine V_aload_n hC dX4_print_176 rfl ?_
          refine mg_outSize hC dX4_print_177 ?_
          exact V_iret hC dX4_print_180 (Nat.le_of_ble_eq_true rfl) (Nat.le_of_ble_eq_true rfl) (print_end hr hs1 (ho1.eq (by
                unfold txt
                rw [if_neg (by omega), if_pos hs0]
                simp)) (fun j hj => (hi1 j hj).trans (va_up_ne _ _ hj)) (fun j hj => (hp1 j hj).trans (rfl)))
        · have hs0 : ¬ s.1 = 0 := fun q => c106 (by rw [q]; decide)
          have h1l := getD_of (l := s.2.2) (k := 1) (by omega)
          refine V_aload_n hC dX4_print_109 rfl ?_
          refine V_iconst (v := 0) hC dX4_print_110 (by decide) ?_
          refine mc1g hC (m_ww0 ho1 (by simp only [List.length_append, List.length_cons, List.length_nil, tHard, tMed, tSoft]; omega)) rfl mw_writeWord ⟨⟨(Nat.le_of_ble_eq_true rfl), (Nat.le_of_ble_eq_true rfl)⟩, rfl, rfl⟩ ⟨(Nat.le_of_ble_eq_true rfl), (Nat.le_of_ble_eq_true rfl)⟩ (Nat.le_of_ble_eq_true rfl) dX4_print_111 (fun X M' h => by obtain ⟨h1, -⟩ := h; cases h1) (fun v M' h => ?_)
          obtain ⟨h1, I2, P2, h2, ho2, hi2, hp2⟩ := h
          cases h1
          subst h2
          refine V_aload_n hC dX4_print_114 rfl ?_
          refine V_bipush (v := 47) hC dX4_print_115 (by decide) ?_
          refine mc1g hC (m_wr (c := 47) ho2 (by simp only [List.length_append, List.length_cons, List.length_nil, tHard, tMed, tSoft]; omega)) rfl mw_write ⟨⟨(Nat.le_of_ble_eq_true rfl), (Nat.le_of_ble_eq_true rfl)⟩, rfl, rfl⟩ ⟨(Nat.le_of_ble_eq_true rfl), (Nat.le_of_ble_eq_true rfl)⟩ (Nat.le_of_ble_eq_true rfl) dX4_print_117 (fun X M' h => by obtain ⟨h1, -⟩ := h; cases h1) (fun v M' h => ?_)
          obtain ⟨h1, I3, P3, h2, ho3, hi3, hp3⟩ := h
          cases h1
          subst h2
          refine V_aload_n hC dX4_print_120 rfl ?_
          refine V_aload_n hC dX4_print_121 rfl ?_
          refine mg_levels hC dX4_print_122 ?_
          refine V_bipush (v := 12) hC dX4_print_125 (by decide) ?_
          refine V_iload_n hC dX4_print_127 rfl ?_
          refine V_imul hC dX4_print_128 ?_
          refine V_iconst (v := 1) hC dX4_print_129 (by decide) ?_
          refine V_iadd hC dX4_print_130 ?_
          refine ml_levels hC (12 * i + 1) (g12 i 1) (by omega) dX4_print_131 ?_
          refine V_setl (y := s.2.2.getD 1 0) (p4 1 _ h1l) ?_
          refine mc1g hC (m_writeNumber ho3 (by simp only [List.length_append, List.length_cons, List.length_nil, tHard, tMed, tSoft]; omega)) rfl mw_writeNumber ⟨⟨(Nat.le_of_ble_eq_true rfl), (Nat.le_of_ble_eq_true rfl)⟩, rfl, rfl⟩ ⟨(Nat.le_of_ble_eq_true rfl), (Nat.le_of_ble_eq_true rfl)⟩ (Nat.le_of_ble_eq_true rfl) dX4_print_132 (fun X M' h => by obtain ⟨h1, -⟩ := h; cases h1) (fun v M' h => ?_)
          obtain ⟨h1, I4, P4, h2, ho4, hi4, hp4⟩ := h
          cases h1
          subst h2
          refine V_aload_n hC dX4_print_135 rfl ?_
          refine mg_shapes hC dX4_print_136 ?_
          refine V_iload_n hC dX4_print_139 rfl ?_
          refine ml_shapes hC i rfl (by omega) dX4_print_140 ?_
          refine V_seti (y := nI s.1) (by rw [hp4 0 (by decide), hp3 0 (by decide), hp2 0 (by decide), hp1 0 (by decide)]; exact p1) ?_
          refine V_iconst (v := 2) hC dX4_print_141 (by decide) ?_
          refine V_icmp_ne (tgt := 171) hC dX4_print_142 (by decide) (fun c142 => ?_) (fun c142 => ?_)
          · have hs2' : ¬ s.1 = 2 := fun q => c142 (by rw [q]; rfl)
            refine V_aload_n hC dX4_print_171 rfl ?_
            refine V_iconst (v := 2) hC dX4_print_172 (by decide) ?_
            refine mc1g hC (m_ww2 ho4 (by simp only [List.length_append, List.length_cons, List.length_nil, tHard, tMed, tSoft]; omega)) rfl mw_writeWord ⟨⟨(Nat.le_of_ble_eq_true rfl), (Nat.le_of_ble_eq_true rfl)⟩, rfl, rfl⟩ ⟨(Nat.le_of_ble_eq_true rfl), (Nat.le_of_ble_eq_true rfl)⟩ (Nat.le_of_ble_eq_true rfl) dX4_print_173 (fun X M' h => by obtain ⟨h1, -⟩ := h; cases h1) (fun v M' h => ?_)
            obtain ⟨h1, I5, P5, h2, ho5, hi5, hp5⟩ := h
            cases h1
            subst h2
            skip
            refine V_aload_n hC dX4_print_176 rfl ?_
            refine mg_outSize hC dX4_print_177 ?_
            exact V_iret hC dX4_print_180 (Nat.le_of_ble_eq_true rfl) (Nat.le_of_ble_eq_true rfl) (print_end hr hs1 (ho5.eq (by
                  unfold txt
                  rw [if_neg (by omega), if_neg (by omega), if_pos (by omega)]
                  simp)) (fun j hj => (hi5 j hj).trans ((hi4 j hj).trans ((hi3 j hj).trans ((hi2 j hj).trans ((hi1 j hj).trans (va_up_ne _ _ hj)))))) (fun j hj => (hp5 j hj).trans ((hp4 j hj).trans ((hp3 j hj).trans ((hp2 j hj).trans ((hp1 j hj).trans (rfl)))))))
          · have hs2' : s.1 = 2 := (nI_eq (b := 2) (by omega) (by decide)).mp c142
            have h2l := getD_of (l := s.2.2) (k := 2) (by omega)
            refine V_aload_n hC dX4_print_145 rfl ?_
            refine V_iconst (v := 1) hC dX4_print_146 (by decide) ?_
            refine mc1g hC (m_ww1 ho4 (by simp only [List.length_append, List.length_cons, List.length_nil, tHard, tMed, tSoft]; omega)) rfl mw_writeWord ⟨⟨(Nat.le_of_ble_eq_true rfl), (Nat.le_of_ble_eq_true rfl)⟩, rfl, rfl⟩ ⟨(Nat.le_of_ble_eq_true rfl), (Nat.le_of_ble_eq_true rfl)⟩ (Nat.le_of_ble_eq_true rfl) dX4_print_147 (fun X M' h => by obtain ⟨h1, -⟩ := h; cases h1) (fun v M' h => ?_)
            obtain ⟨h1, I5, P5, h2, ho5, hi5, hp5⟩ := h
            cases h1
            subst h2
            refine V_aload_n hC dX4_print_150 rfl ?_
            refine V_bipush (v := 47) hC dX4_print_151 (by decide) ?_
            refine mc1g hC (m_wr (c := 47) ho5 (by simp only [List.length_append, List.length_cons, List.length_nil, tHard, tMed, tSoft]; omega)) rfl mw_write ⟨⟨(Nat.le_of_ble_eq_true rfl), (Nat.le_of_ble_eq_true rfl)⟩, rfl, rfl⟩ ⟨(Nat.le_of_ble_eq_true rfl), (Nat.le_of_ble_eq_true rfl)⟩ (Nat.le_of_ble_eq_true rfl) dX4_print_153 (fun X M' h => by obtain ⟨h1, -⟩ := h; cases h1) (fun v M' h => ?_)
            obtain ⟨h1, I6, P6, h2, ho6, hi6, hp6⟩ := h
            cases h1
            subst h2
            refine V_aload_n hC dX4_print_156 rfl ?_
            refine V_aload_n hC dX4_print_157 rfl ?_
            refine mg_levels hC dX4_print_158 ?_
            refine V_bipush (v := 12) hC dX4_print_161 (by decide) ?_
            refine V_iload_n hC dX4_print_163 rfl ?_
            refine V_imul hC dX4_print_164 ?_
            refine V_iconst (v := 2) hC dX4_print_165 (by decide) ?_
            refine V_iadd hC dX4_print_166 ?_
            refine ml_levels hC (12 * i + 2) (g12 i 2) (by omega) dX4_print_167 ?_
            refine V_setl (y := s.2.2.getD 2 0) (p4 2 _ h2l) ?_
            refine mc1g hC (m_writeNumber ho6 (by simp only [List.length_append, List.length_cons, List.length_nil, tHard, tMed, tSoft]; omega)) rfl mw_writeNumber ⟨⟨(Nat.le_of_ble_eq_true rfl), (Nat.le_of_ble_eq_true rfl)⟩, rfl, rfl⟩ ⟨(Nat.le_of_ble_eq_true rfl), (Nat.le_of_ble_eq_true rfl)⟩ (Nat.le_of_ble_eq_true rfl) dX4_print_168 (fun X M' h => by obtain ⟨h1, -⟩ := h; cases h1) (fun v M' h => ?_)
            obtain ⟨h1, I7, P7, h2, ho7, hi7, hp7⟩ := h
            cases h1
            subst h2
            skip
            refine V_aload_n hC dX4_print_171 rfl ?_
            refine V_iconst (v := 2) hC dX4_print_172 (by decide) ?_
            refine mc1g hC (m_ww2 ho7 (by simp only [List.length_append, List.length_cons, List.length_nil, tHard, tMed, tSoft]; omega)) rfl mw_writeWord ⟨⟨(Nat.le_of_ble_eq_true rfl), (Nat.le_of_ble_eq_true rfl)⟩, rfl, rfl⟩ ⟨(Nat.le_of_ble_eq_true rfl), (Nat.le_of_ble_eq_true rfl)⟩ (Nat.le_of_ble_eq_true rfl) dX4_print_173 (fun X M' h => by obtain ⟨h1, -⟩ := h; cases h1) (fun v M' h => ?_)
            obtain ⟨h1, I8, P8, h2, ho8, hi8, hp8⟩ := h
            cases h1
            subst h2
            skip
            refine V_aload_n hC dX4_print_176 rfl ?_
            refine mg_outSize hC dX4_print_177 ?_
            exact V_iret hC dX4_print_180 (Nat.le_of_ble_eq_true rfl) (Nat.le_of_ble_eq_true rfl) (print_end hr hs1 (ho8.eq (by
                  unfold txt
                  rw [if_neg (by omega), if_neg (by omega), if_neg (by omega)]
                  simp)) (fun j hj => (hi8 j hj).trans ((hi7 j hj).trans ((hi6 j hj).trans ((hi5 j hj).trans ((hi4 j hj).trans ((hi3 j hj).trans ((hi2 j hj).trans ((hi1 j hj).trans (va_up_ne _ _ hj))))))))) (fun j hj => (hp8 j hj).trans ((hp7 j hj).trans ((hp6 j hj).trans ((hp5 j hj).trans ((hp4 j hj).trans ((hp3 j hj).trans ((hp2 j hj).trans ((hp1 j hj).trans (rfl))))))))))
      · have hs3 : s.1 = 3 := (nI_eq (b := 3) (by omega) (by decide)).mp c34
        have rl1 := rowT_len ((s.2.2.drop 0).take (s.2.1 - 0))
        have rl2 := rowT_len ((s.2.2.drop s.2.1).take (s.2.2.length - s.2.1))
        rw [List.length_take, List.length_drop] at rl1 rl2
        refine V_aload_n hC dX4_print_37 rfl ?_
        refine V_iload_n hC dX4_print_38 rfl ?_
        refine V_iconst (v := 0) hC dX4_print_39 (by decide) ?_
        refine V_aload_n hC dX4_print_40 rfl ?_
        refine mg_hards hC dX4_print_41 ?_
        refine V_iload_n hC dX4_print_44 rfl ?_
        refine ml_hards hC i rfl (by omega) dX4_print_45 ?_
        refine V_seti (y := nI s.2.1) p2 ?_
        refine mc3g hC (m_writeRow (lv := s.2.2) (i := i) (f := 0) (e := s.2.1) p4 (by omega) (Nat.zero_le _) (by omega) (by omega) (by omega) OU.nil (by decide)) rfl mw_writeRow ⟨⟨(Nat.le_of_ble_eq_true rfl), (Nat.le_of_ble_eq_true rfl)⟩, rfl, rfl⟩ ⟨(Nat.le_of_ble_eq_true rfl), (Nat.le_of_ble_eq_true rfl)⟩ (Nat.le_of_ble_eq_true rfl) dX4_print_46 (fun X M' h => by obtain ⟨h1, -⟩ := h; cases h1) (fun v M' h => ?_)
        obtain ⟨h1, I1, P1, h2, ho1, hi1, hp1⟩ := h
        cases h1
        subst h2
        refine V_aload_n hC dX4_print_49 rfl ?_
        refine V_iconst (v := 0) hC dX4_print_50 (by decide) ?_
        refine mc1g hC (m_ww0 ho1 (by rw [List.nil_append]; omega)) rfl mw_writeWord ⟨⟨(Nat.le_of_ble_eq_true rfl), (Nat.le_of_ble_eq_true rfl)⟩, rfl, rfl⟩ ⟨(Nat.le_of_ble_eq_true rfl), (Nat.le_of_ble_eq_true rfl)⟩ (Nat.le_of_ble_eq_true rfl) dX4_print_51 (fun X M' h => by obtain ⟨h1, -⟩ := h; cases h1) (fun v M' h => ?_)
        obtain ⟨h1, I2, P2, h2, ho2, hi2, hp2⟩ := h
        cases h1
        subst h2
        refine V_aload_n hC dX4_print_54 rfl ?_
        refine V_bipush (v := 47) hC dX4_print_55 (by decide) ?_
        refine mc1g hC (m_wr (c := 47) ho2 (by simp only [List.length_append, List.length_cons, List.length_nil, tHard, tMed, tSoft]; omega)) rfl mw_write ⟨⟨(Nat.le_of_ble_eq_true rfl), (Nat.le_of_ble_eq_true rfl)⟩, rfl, rfl⟩ ⟨(Nat.le_of_ble_eq_true rfl), (Nat.le_of_ble_eq_true rfl)⟩ (Nat.le_of_ble_eq_true rfl) dX4_print_57 (fun X M' h => by obtain ⟨h1, -⟩ := h; cases h1) (fun v M' h => ?_)
        obtain ⟨h1, I3, P3, h2, ho3, hi3, hp3⟩ := h
        cases h1
        subst h2
        refine V_aload_n hC dX4_print_60 rfl ?_
        refine V_iload_n hC dX4_print_61 rfl ?_
        refine V_aload_n hC dX4_print_62 rfl ?_
        refine mg_hards hC dX4_print_63 ?_
        refine V_iload_n hC dX4_print_66 rfl ?_
        refine ml_hards hC i rfl (by omega) dX4_print_67 ?_
        refine V_seti (y := nI s.2.1) (by rw [hp3 1 (by decide), hp2 1 (by decide), hp1 1 (by decide)]; exact p2) ?_
        refine V_aload_n hC dX4_print_68 rfl ?_
        refine mg_sizes hC dX4_print_69 ?_
        refine V_iload_n hC dX4_print_72 rfl ?_
        refine ml_sizes hC i rfl (by omega) dX4_print_73 ?_
        refine V_seti (y := nI s.2.2.length) (by rw [hp3 2 (by decide), hp2 2 (by decide), hp1 2 (by decide)]; exact p3) ?_
        refine mc3g hC (m_writeRow (lv := s.2.2) (i := i) (f := s.2.1) (e := s.2.2.length) p4 (by omega) (by omega) (Nat.le_refl _) (by omega) (by omega) ho3 (by simp only [List.length_append, List.length_cons, List.length_nil, tHard, tMed, tSoft]; omega)) rfl mw_writeRow ⟨⟨(Nat.le_of_ble_eq_true rfl), (Nat.le_of_ble_eq_true rfl)⟩, rfl, rfl⟩ ⟨(Nat.le_of_ble_eq_true rfl), (Nat.le_of_ble_eq_true rfl)⟩ (Nat.le_of_ble_eq_true rfl) dX4_print_74 (fun X M' h => by obtain ⟨h1, -⟩ := h; cases h1) (fun v M' h => ?_)
        obtain ⟨h1, I4, P4, h2, ho4, hi4, hp4⟩ := h
        cases h1
        subst h2
        refine V_aload_n hC dX4_print_77 rfl ?_
        refine V_iconst (v := 2) hC dX4_print_78 (by decide) ?_
        refine mc1g hC (m_ww2 ho4 (by simp only [List.length_append, List.length_cons, List.length_nil, tHard, tMed, tSoft]; omega)) rfl mw_writeWord ⟨⟨(Nat.le_of_ble_eq_true rfl), (Nat.le_of_ble_eq_true rfl)⟩, rfl, rfl⟩ ⟨(Nat.le_of_ble_eq_true rfl), (Nat.le_of_ble_eq_true rfl)⟩ (Nat.le_of_ble_eq_true rfl) dX4_print_79 (fun X M' h => by obtain ⟨h1, -⟩ := h; cases h1) (fun v M' h => ?_)
        obtain ⟨h1, I5, P5, h2, ho5, hi5, hp5⟩ := h
        cases h1
        subst h2
        refine V_aload_n hC dX4_print_82 rfl ?_
        refine mg_outSize hC dX4_print_83 ?_
        exact V_iret hC dX4_print_86 (Nat.le_of_ble_eq_true rfl) (Nat.le_of_ble_eq_true rfl) (print_end hr hs1 (ho5.eq (by
              unfold txt
              rw [if_pos hs3]
              simp [List.take_of_length_le]) ) (fun j hj => (hi5 j hj).trans ((hi4 j hj).trans ((hi3 j hj).trans ((hi2 j hj).trans ((hi1 j hj).trans (va_up_ne _ _ hj)))))) (fun j hj => (hp5 j hj).trans ((hp4 j hj).trans ((hp3 j hj).trans ((hp2 j hj).trans ((hp1 j hj).trans (rfl)))))))
    · refine V_bipush (v := (-11)) hC dX4_print_19 (by decide) ?_
      exact V_iret hC dX4_print_21 (Nat.le_of_ble_eq_true rfl) (Nat.le_of_ble_eq_true rfl) (RMp_i (by unfold o_print; rw [hr.no hw hi c16]) hr)
  · refine V_bipush (v := (-2)) hC dX4_print_8 (by decide) ?_
    exact V_iret hC dX4_print_10 (Nat.le_of_ble_eq_true rfl) (Nat.le_of_ble_eq_true rfl) (RMp_i (by unfold o_print; rw [scAt_no c5]) hr)
