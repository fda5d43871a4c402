/-! MODEL 9: layPart, hasRoom, count, weight -/
/-- the rules as the model holds them -/
def RR (ru : List (List Int64 × Nat)) (n : Nat) (I : Nat → Int32) (P : Nat → Nat → Int32) (Q : Nat → Nat → Int64) : Prop := I 3 = nI n ∧ n ≤ 12 ∧ I 4 = nI ru.length ∧ ru.length ≤ 12 ∧ ∀ (r : Nat) (q : List Int64 × Nat), ru[r]? = some q → q.1.length = n ∧ q.2 ≤ 1000000 ∧ P 3 r = nI q.2 ∧ ∀ (k : Nat) (v : Int64), q.1[k]? = some v → Q 1 (12 * r + k) = v
theorem RM.rr {σ : Sy} {I : Nat → Int32} {P : Nat → Nat → Int32} {Q : Nat → Nat → Int64} (h : RM σ I P Q) (hw : Sw σ) : RR σ.ru σ.pl.2.2 I P Q := ⟨h.2.2.2.1.2.2, hw.pl.1, h.2.2.2.2.1, hw.rul, fun r q hq => ⟨(hw.ru hq).1, (hw.ru hq).2, (h.2.2.2.2.2.1 r q hq).1, (h.2.2.2.2.2.1 r q hq).2⟩⟩
theorem c_l {c : Nat} (h : c ≤ 1000000) : (nI c).toInt64.toInt = (c : Int) := by rw [z_i, nI_toInt (by omega)]
theorem wpart (w : Int64) {c : Nat} (h : c ≤ 1000000) : wok (wadH 0 0 w (nI c).toInt64) (wadL 0 w (nI c).toInt64) ∧ wv (wadH 0 0 w (nI c).toInt64) (wadL 0 w (nI c).toInt64) = w.toInt * (c : Int) := by
  obtain ⟨a1, a2⟩ := wad (h := 0) (w := 0) (v := w) (m := (nI c).toInt64) (c := 1000000) w00.1 (by decide) (by rw [c_l h]; omega) (by rw [c_l h]; omega) (by decide) (by rw [z_0]; decide) (by rw [z_0]; decide) (by rw [z_0]; decide)
  rw [w00.2, Int.zero_add, c_l h] at a2
  exact ⟨a1, a2⟩
/-- one more summand -/
theorem wstep {h w : Int64} (v : Int64) {c r : Nat} (hc : c ≤ 1000000) (hr : r ≤ 12) (a : wok h w) (b1 : -(9223372036854775808000000 * (r : Int)) ≤ wv h w) (b2 : wv h w ≤ 9223372036854775808000000 * (r : Int)) : wok (wadH h w v (nI c).toInt64) (wadL w v (nI c).toInt64) ∧ wv (wadH h w v (nI c).toInt64) (wadL w v (nI c).toInt64) = wv h w + v.toInt * (c : Int) := by
  have hb : -2576980377600000001 ≤ h.toInt ∧ h.toInt ≤ 2576980377600000001 := by
    unfold wok at a
    unfold wv at b1 b2
    omega
  have hw : w.toInt ≤ 4294967295 := a.2
  obtain ⟨a1, a2⟩ := wad (h := h) (w := w) (v := v) (m := (nI c).toInt64) (c := 1000000) a (by decide) (by rw [c_l hc]; omega) (by rw [c_l hc]; omega) (by decide) (by omega) (by omega) (by omega)
  rw [c_l hc] at a2
  exact ⟨a1, a2⟩
def rpart (q : List Int64 × Nat) (k : Nat) : Int := (q.1.getD k 0).toInt * (q.2 : Int)
theorem rsum_s {ru : List (List Int64 × Nat)} {r k : Nat} {q : List Int64 × Nat} (h : ru[r]? = some q) : rsum (ru.take (r + 1)) k = rsum (ru.take r) k + rpart q k := by
  unfold rsum
  rw [List.take_succ, h, List.map_append, List.sum_append]
  simp [rpart]
theorem rpart_b {q : List Int64 × Nat} (k : Nat) (h : q.2 ≤ 1000000) : -9223372036854775808000000 ≤ rpart q k ∧ rpart q k ≤ 9223372036854775808000000 := by
  have := z_rng (q.1.getD k 0)
  obtain ⟨p1, p2⟩ := z_pd (a := (q.1.getD k 0).toInt) (b := (q.2 : Int)) (A := 9223372036854775808) (c := 1000000) (by omega) (by omega) (by decide) (by omega) (by omega) (by decide)
  unfold rpart
  omega
theorem rsum_b {ru : List (List Int64 × Nat)} (k : Nat) (h : ∀ q ∈ ru, q.2 ≤ 1000000) : ∀ r, r ≤ ru.length → -(9223372036854775808000000 * (r : Int)) ≤ rsum (ru.take r) k ∧ rsum (ru.take r) k ≤ 9223372036854775808000000 * (r : Int)
  | 0, _ => by simp [rsum]
  | r + 1, hr => by
    have ih := rsum_b k h r (by omega)
    have e := List.getElem?_eq_getElem (show r < ru.length by omega)
    rw [rsum_s e]
    have := rpart_b k (h _ (List.mem_of_getElem? e))
    omega
def rgood (ru : List (List Int64 × Nat)) (k : Nat) : Prop := (∀ q ∈ ru, zfit ((q.1.getD k 0).toInt * (q.2 : Int))) ∧ zfit (rsum ru k)
theorem getD_of {l : List Int64} {k : Nat} (h : k < l.length) : l[k]? = some (l.getD k 0) := by rw [List.getD_eq_getElem?_getD, List.getElem?_eq_getElem h]; rfl
def RBo (G : gG) (a : Nat) (I : Nat → Int32) (P : Nat → Nat → Int32) (Q : Nat → Nat → Int64) (M0 : gM) (X : Prop) : gRes → gM → Prop := fun res M' => ∃ (b : Bool) (J : Nat → Int64), res = .inl (some (.int (gB b))) ∧ M' = mkM G a I J P Q M0 ∧ (b = true ↔ X)
set_option maxHeartbeats 4000000 in
theorem m_layPart {l : Launch} {G : gG} {a : Nat} {I : Nat → Int32} {J : Nat → Int64} {P : Nat → Nat → Int32} {Q : Nat → Nat → Int64} {M0 : gM} {r k : Nat} (hr : r < 12) (hk : 12 * r + k < 144) : gMet l yX4_layPart (gWs yX4_layPart cX4_layPart 3 none []) ({ frames := 1, cells := 0, slots := 0, locals := 24 } : Room) G [.ref a, .int (nI r), .int (nI k)] (mkM G a I J P Q M0) (gRn (mkM G a I (wJ J (wadH 0 0 (Q 1 (12 * r + k)) (P 3 r).toInt64) (wadL 0 (Q 1 (12 * r + k)) (P 3 r).toInt64)) P Q M0)) := by
  refine gMet.intro (by decide) (Nat.le_of_ble_eq_true rfl) (fun C hl hC hN => ?_)
  subst hl
  replace hC : Ck G C [] cX4_layPart RX4 3 none ({ frames := 1, cells := 0, slots := 0, locals := 24 } : Room) (gRn (mkM G a I (wJ J (wadH 0 0 (Q 1 (12 * r + k)) (P 3 r).toInt64) (wadL 0 (Q 1 (12 * r + k)) (P 3 r).toInt64)) P Q M0)) := hC
  refine V.loc [some (.ref a), some (.int (nI r)), some (.int (nI k))] ⟨rfl, rfl, rfl, trivial⟩ ?_
  refine V_aload_n hC dX4_layPart_0 rfl ?_
  refine mc0n hC m_zero rfl mw_zero ⟨⟨(Nat.le_of_ble_eq_true rfl), (Nat.le_of_ble_eq_true rfl)⟩, rfl, rfl⟩ ⟨(Nat.le_of_ble_eq_true rfl), (Nat.le_of_ble_eq_true rfl)⟩ (Nat.le_of_ble_eq_true rfl) dX4_layPart_1 ?_
  refine V_aload_n hC dX4_layPart_4 rfl ?_
  refine V_aload_n hC dX4_layPart_5 rfl ?_
  refine mg_weights hC dX4_layPart_6 ?_
  refine V_bipush (v := 12) hC dX4_layPart_9 (by decide) ?_
  refine V_iload_n hC dX4_layPart_11 rfl ?_
  refine V_imul hC dX4_layPart_12 ?_
  refine V_iload_n hC dX4_layPart_13 rfl ?_
  refine V_iadd hC dX4_layPart_14 ?_
  refine ml_weights hC (12 * r + k) (g12 r k) hk dX4_layPart_15 ?_
  refine V_aload_n hC dX4_layPart_16 rfl ?_
  refine mg_counts hC dX4_layPart_17 ?_
  refine V_iload_n hC dX4_layPart_20 rfl ?_
  refine ml_counts hC r rfl hr dX4_layPart_21 ?_
  refine V_i2l hC dX4_layPart_22 ?_
  refine mc2n hC m_add rfl mw_add ⟨⟨(Nat.le_of_ble_eq_true rfl), (Nat.le_of_ble_eq_true rfl)⟩, rfl, rfl⟩ ⟨(Nat.le_of_ble_eq_true rfl), (Nat.le_of_ble_eq_true rfl)⟩ (Nat.le_of_ble_eq_true rfl) dX4_layPart_23 ?_
  exact V_vret hC dX4_layPart_26 (Nat.le_of_ble_eq_true rfl) (Nat.le_of_ble_eq_true rfl) ⟨rfl, congrArg (fun z => mkM G a I z P Q M0) (wJ_wJ J _ _ _ _)⟩
set_option maxHeartbeats 4000000 in
theorem m_hasRoom {l : Launch} {G : gG} {a : Nat} {I : Nat → Int32} {J : Nat → Int64} {P : Nat → Nat → Int32} {Q : Nat → Nat → Int64} {M0 : gM} {ru : List (List Int64 × Nat)} {n : Nat} (hR : RR ru n I P Q) : gMet l yX4_hasRoom (gWs yX4_hasRoom cX4_hasRoom 4 (some .boolean) []) ({ frames := 2, cells := 0, slots := 0, locals := 46 } : Room) G [.ref a] (mkM G a I J P Q M0) (RBo G a I P Q M0 (rroom ru n)) := by
  refine gMet.intro (by decide) (Nat.le_of_ble_eq_true rfl) (fun C hl hC hN => ?_)
  subst hl
  replace hC : Ck G C [] cX4_hasRoom RX4 4 (some .boolean) ({ frames := 2, cells := 0, slots := 0, locals := 46 } : Room) (RBo G a I P Q M0 (rroom ru n)) := hC
  refine V.loc [some (.ref a)] ⟨rfl, trivial⟩ ?_
  obtain ⟨hn, hn12, hru, hru12, hq⟩ := hR
  have hcb : ∀ q ∈ ru, q.2 ≤ 1000000 := fun q h => by
    obtain ⟨r, hr⟩ := List.getElem?_of_mem h
    exact (hq r q hr).2.1
  have loop0 : ∀ (f0 : Nat) (k : Nat) (b : Bool) (K : Nat → Int64), n < k + f0 → k ≤ n → (b = true ↔ ∀ k', k' < k → rgood ru k') → V G C (mkM G a I K P Q M0) 0 0 4 (gl [some (.ref a), some (.int (gB b)), some (.int (nI k))]) [] := by
    intro f0
    induction f0 with
    | zero => intros; omega
    | succ f0 ih0 =>
      intro k b K d1 d2 d3
      refine V_iload_n hC dX4_hasRoom_4 rfl ?_
      refine V_aload_n hC dX4_hasRoom_5 rfl ?_
      refine mg_planSize hC dX4_hasRoom_6 ?_
      rw [hn]
      refine V_icmp_ge (tgt := 120) hC dX4_hasRoom_9 (by decide) (fun c9 => ?_) (fun c9 => ?_)
      · refine V_iload_n hC dX4_hasRoom_120 rfl ?_
        exact V_zret hC dX4_hasRoom_121 (gB_nar _) (Nat.le_of_ble_eq_true rfl) (Nat.le_of_ble_eq_true rfl) ⟨b, _, rfl, rfl, d3.trans ⟨fun h k' hk' => h k' (by have : n ≤ k := Nat.le_of_not_lt (fun q => nI_ge q (by omega) c9); omega), fun h k' hk' => h k' (by omega)⟩⟩
      · have hk : k < n := Nat.lt_of_not_le fun q => c9 (nI_le q (by omega))
        refine V_iload_n hC dX4_hasRoom_12 rfl ?_
        refine V_ifb_eq (tgt := 120) hC dX4_hasRoom_13 (by decide) (fun c13 => ?_) (fun c13 => ?_)
        · refine V_iload_n hC dX4_hasRoom_120 rfl ?_
          exact V_zret hC dX4_hasRoom_121 (gB_nar _) (Nat.le_of_ble_eq_true rfl) (Nat.le_of_ble_eq_true rfl) ⟨b, _, rfl, rfl, ⟨fun q => absurd (c13.symm.trans q) (by decide), fun h => by have := d3.mpr (fun k' hk' => h k' (by omega)); exact this⟩⟩
        · have loop1 : ∀ (f1 : Nat) (r : Nat) (b1 : Bool) (K1 : Nat → Int64), ru.length < r + f1 → r ≤ ru.length → (b1 = true ↔ ∀ q ∈ ru.take r, zfit ((q.1.getD k 0).toInt * (q.2 : Int))) → V G C (mkM G a I K1 P Q M0) 0 0 18 (gl [some (.ref a), some (.int (gB b1)), some (.int (nI k)), some (.int (nI r))]) [] := by
            intro f1
            induction f1 with
            | zero => intros; omega
            | succ f1 ih1 =>
              intro r b1 K1 e1 e2 e3
              refine V_iload_n hC dX4_hasRoom_18 rfl ?_
              refine V_aload_n hC dX4_hasRoom_19 rfl ?_
              refine mg_rules hC dX4_hasRoom_20 ?_
              rw [hru]
              refine V_icmp_ge (tgt := 55) hC dX4_hasRoom_23 (by decide) (fun c23 => ?_) (fun c23 => ?_)
              · have er1 : r = ru.length := Nat.le_antisymm e2 (Nat.le_of_not_lt fun q => nI_ge q (by omega) c23)
                rw [er1, List.take_length] at e3
                refine V_aload_n hC dX4_hasRoom_55 rfl ?_
                refine mc0n hC m_zero rfl mw_zero ⟨⟨(Nat.le_of_ble_eq_true rfl), (Nat.le_of_ble_eq_true rfl)⟩, rfl, rfl⟩ ⟨(Nat.le_of_ble_eq_true rfl), (Nat.le_of_ble_eq_true rfl)⟩ (Nat.le_of_ble_eq_true rfl) dX4_hasRoom_56 ?_
                have loop2 : ∀ (f2 : Nat) (r : Nat) (K2 : Nat → Int64), ru.length < r + f2 → r ≤ ru.length → wok (K2 0) (K2 1) → wv (K2 0) (K2 1) = rsum (ru.take r) k → V G C (mkM G a I K2 P Q M0) 0 0 61 (gl [some (.ref a), some (.int (gB b1)), some (.int (nI k)), some (.int (nI r))]) [] := by
                  intro f2
                  induction f2 with
                  | zero => intros; omega
                  | succ f2 ih2 =>
                    intro r K2 g1 g2 g3 g4
                    refine V_iload_n hC dX4_hasRoom_61 rfl ?_
                    refine V_aload_n hC dX4_hasRoom_62 rfl ?_
                    refine mg_rules hC dX4_hasRoom_63 ?_
                    rw [hru]
                    refine V_icmp_ge (tgt := 97) hC dX4_hasRoom_66 (by decide) (fun c66 => ?_) (fun c66 => ?_)
                    · refine V_iload_n hC dX4_hasRoom_97 rfl ?_
                      refine V_ifb_eq (tgt := 112) hC dX4_hasRoom_98 (by decide) (fun c98 => ?_) (fun c98 => ?_)
                      · refine V_iconst (v := 0) hC dX4_hasRoom_112 (by decide) ?_
                        refine V_istore_n hC dX4_hasRoom_113 (Nat.le_of_ble_eq_true rfl) ?_
                        refine V_iinc (v := nI (k + 1)) hC dX4_hasRoom_114 rfl (gI_inc k) (Nat.le_of_ble_eq_true rfl) ?_
                        refine V_goto (tgt := 4) hC dX4_hasRoom_117 (by decide) ?_
                        have er2 : r = ru.length := Nat.le_antisymm g2 (Nat.le_of_not_lt fun q => nI_ge q (by omega) c66)
                        rw [er2, List.take_length] at g4
                        exact V.loc [some (.ref a), some (.int (gB false)), some (.int (nI (k + 1)))] ⟨rfl, rfl, rfl, trivial⟩ (ih0 (k + 1) false _ (by omega) (by omega) ⟨fun q => (by cases q), fun h9 => (by
                            have := e3.mpr (h9 k (by omega)).1
                            rw [c98] at this
                            exact this)⟩)
                      · refine V_aload_n hC dX4_hasRoom_101 rfl ?_
                        refine mc0v hC m_fits rfl mw_fits ⟨⟨(Nat.le_of_ble_eq_true rfl), (Nat.le_of_ble_eq_true rfl)⟩, rfl, rfl⟩ ⟨(Nat.le_of_ble_eq_true rfl), (Nat.le_of_ble_eq_true rfl)⟩ (Nat.le_of_ble_eq_true rfl) dX4_hasRoom_102 ?_
                        refine V_ifb_eq (tgt := 112) hC dX4_hasRoom_105 (by decide) (fun c105 => ?_) (fun c105 => ?_)
                        · refine V_iconst (v := 0) hC dX4_hasRoom_112 (by decide) ?_
                          refine V_istore_n hC dX4_hasRoom_113 (Nat.le_of_ble_eq_true rfl) ?_
                          refine V_iinc (v := nI (k + 1)) hC dX4_hasRoom_114 rfl (gI_inc k) (Nat.le_of_ble_eq_true rfl) ?_
                          refine V_goto (tgt := 4) hC dX4_hasRoom_117 (by decide) ?_
                          have er2 : r = ru.length := Nat.le_antisymm g2 (Nat.le_of_not_lt fun q => nI_ge q (by omega) c66)
                          rw [er2, List.take_length] at g4
                          exact V.loc [some (.ref a), some (.int (gB false)), some (.int (nI (k + 1)))] ⟨rfl, rfl, rfl, trivial⟩ (ih0 (k + 1) false _ (by omega) (by omega) ⟨fun q => (by cases q), fun h9 => (by
                              have h8 := (h9 k (by omega)).2
                              rw [← g4] at h8
                              exact absurd (c105.symm.trans ((wfit g3).mpr h8)) (by decide))⟩)
                        · refine V_iconst (v := 1) hC dX4_hasRoom_108 (by decide) ?_
                          refine V_goto (tgt := 113) hC dX4_hasRoom_109 (by decide) ?_
                          refine V_istore_n hC dX4_hasRoom_113 (Nat.le_of_ble_eq_true rfl) ?_
                          refine V_iinc (v := nI (k + 1)) hC dX4_hasRoom_114 rfl (gI_inc k) (Nat.le_of_ble_eq_true rfl) ?_
                          refine V_goto (tgt := 4) hC dX4_hasRoom_117 (by decide) ?_
                          have er2 : r = ru.length := Nat.le_antisymm g2 (Nat.le_of_not_lt fun q => nI_ge q (by omega) c66)
                          rw [er2, List.take_length] at g4
                          exact V.loc [some (.ref a), some (.int (gB true)), some (.int (nI (k + 1)))] ⟨rfl, rfl, rfl, trivial⟩ (ih0 (k + 1) true _ (by omega) (by omega) ⟨fun _ k' hk' => (by
                              rcases (show k' < k ∨ k' = k by omega) with q | q
                              · exact d3.mp c13 k' q
                              · subst q
                                exact ⟨e3.mp c98, by rw [← g4]; exact (wfit g3).mp c105⟩), fun _ => rfl⟩)
                    · have hr2 : r < ru.length := Nat.lt_of_not_le fun q => c66 (nI_le q (by omega))
                      have er := List.getElem?_eq_getElem hr2
                      obtain ⟨v1, v2, v3, v4⟩ := hq r _ er
                      have bb := rsum_b k hcb r (by omega)
                      have st := wstep (Q 1 (12 * r + k)) (c := ru[r].2) (r := r) v2 (by omega) g3 (by rw [g4]; exact bb.1) (by rw [g4]; exact bb.2)
                      refine V_aload_n hC dX4_hasRoom_69 rfl ?_
                      refine V_aload_n hC dX4_hasRoom_70 rfl ?_
                      refine mg_weights hC dX4_hasRoom_71 ?_
                      refine V_bipush (v := 12) hC dX4_hasRoom_74 (by decide) ?_
                      refine V_iload_n hC dX4_hasRoom_76 rfl ?_
                      refine V_imul hC dX4_hasRoom_77 ?_
                      refine V_iload_n hC dX4_hasRoom_78 rfl ?_
                      refine V_iadd hC dX4_hasRoom_79 ?_
                      refine ml_weights hC (12 * r + k) (g12 r k) (by omega) dX4_hasRoom_80 ?_
                      refine V_aload_n hC dX4_hasRoom_81 rfl ?_
                      refine mg_counts hC dX4_hasRoom_82 ?_
                      refine V_iload_n hC dX4_hasRoom_85 rfl ?_
                      refine ml_counts hC r rfl (by omega) dX4_hasRoom_86 ?_
                      rw [v3]
                      refine V_i2l hC dX4_hasRoom_87 ?_
                      refine mc2n hC m_add rfl mw_add ⟨⟨(Nat.le_of_ble_eq_true rfl), (Nat.le_of_ble_eq_true rfl)⟩, rfl, rfl⟩ ⟨(Nat.le_of_ble_eq_true rfl), (Nat.le_of_ble_eq_true rfl)⟩ (Nat.le_of_ble_eq_true rfl) dX4_hasRoom_88 ?_
                      refine V_iinc (v := nI (r + 1)) hC dX4_hasRoom_91 rfl (gI_inc r) (Nat.le_of_ble_eq_true rfl) ?_
                      refine V_goto (tgt := 61) hC dX4_hasRoom_94 (by decide) ?_
                      refine V.loc [some (.ref a), some (.int (gB b1)), some (.int (nI k)), some (.int (nI (r + 1)))] ⟨rfl, rfl, rfl, rfl, trivial⟩ (ih2 (r + 1) _ (by omega) (by omega) st.1 (by rw [rsum_s er, ← g4]; exact st.2.trans (by rw [v4 k _ (getD_of (by omega))]; rfl)))
                refine V_iconst (v := 0) hC dX4_hasRoom_59 (by decide) ?_
                refine V_istore_n hC dX4_hasRoom_60 (Nat.le_of_ble_eq_true rfl) ?_
                refine V.loc [some (.ref a), some (.int (gB b1)), some (.int (nI k)), some (.int (nI 0))] ⟨rfl, rfl, rfl, rfl, trivial⟩ (loop2 (ru.length + 1) 0 _ (by omega) (by omega) w00.1 (by rw [List.take_zero]; exact w00.2))
              · have hr1 : r < ru.length := Nat.lt_of_not_le fun q => c23 (nI_le q (by omega))
                have er := List.getElem?_eq_getElem hr1
                obtain ⟨v1, v2, v3, v4⟩ := hq r _ er
                have wp := wpart (Q 1 (12 * r + k)) (c := ru[r].2) v2
                refine V_aload_n hC dX4_hasRoom_26 rfl ?_
                refine V_iload_n hC dX4_hasRoom_27 rfl ?_
                refine V_iload_n hC dX4_hasRoom_28 rfl ?_
                refine mc2n hC (m_layPart (r := r) (k := k) (by omega) (by omega)) rfl mw_layPart ⟨⟨(Nat.le_of_ble_eq_true rfl), (Nat.le_of_ble_eq_true rfl)⟩, rfl, rfl⟩ ⟨(Nat.le_of_ble_eq_true rfl), (Nat.le_of_ble_eq_true rfl)⟩ (Nat.le_of_ble_eq_true rfl) dX4_hasRoom_29 ?_
                rw [v3]
                refine V_iload_n hC dX4_hasRoom_32 rfl ?_
                refine V_ifb_eq (tgt := 47) hC dX4_hasRoom_33 (by decide) (fun c33 => ?_) (fun c33 => ?_)
                · refine V_iconst (v := 0) hC dX4_hasRoom_47 (by decide) ?_
                  refine V_istore_n hC dX4_hasRoom_48 (Nat.le_of_ble_eq_true rfl) ?_
                  refine V_iinc (v := nI (r + 1)) hC dX4_hasRoom_49 rfl (gI_inc r) (Nat.le_of_ble_eq_true rfl) ?_
                  refine V_goto (tgt := 18) hC dX4_hasRoom_52 (by decide) ?_
                  have ez : (ru[r].1.getD k 0).toInt * (ru[r].2 : Int) = wv (wadH 0 0 (Q 1 (12 * r + k)) (nI ru[r].2).toInt64) (wadL 0 (Q 1 (12 * r + k)) (nI ru[r].2).toInt64) := by rw [wp.2, v4 k _ (getD_of (by omega))]
                  refine V.loc [some (.ref a), some (.int (gB false)), some (.int (nI k)), some (.int (nI (r + 1)))] ⟨rfl, rfl, rfl, rfl, trivial⟩ (ih1 (r + 1) false _ (by omega) (by omega) ?_)
                  rw [List.take_succ, er]
                  simp only [Option.toList_some, List.mem_append, List.mem_singleton]
                  constructor
                  · intro q
                    cases q
                  · intro h9
                    have := e3.mpr (fun q q1 => h9 q (Or.inl q1))
                    rw [c33] at this
                    exact this
                · refine V_aload_n hC dX4_hasRoom_36 rfl ?_
                  refine mc0v hC m_fits rfl mw_fits ⟨⟨(Nat.le_of_ble_eq_true rfl), (Nat.le_of_ble_eq_true rfl)⟩, rfl, rfl⟩ ⟨(Nat.le_of_ble_eq_true rfl), (Nat.le_of_ble_eq_true rfl)⟩ (Nat.le_of_ble_eq_true rfl) dX4_hasRoom_37 ?_
                  refine V_ifb_eq (tgt := 47) hC dX4_hasRoom_40 (by decide) (fun c40 => ?_) (fun c40 => ?_)
                  · refine V_iconst (v := 0) hC dX4_hasRoom_47 (by decide) ?_
                    refine V_istore_n hC dX4_hasRoom_48 (Nat.le_of_ble_eq_true rfl) ?_
                    refine V_iinc (v := nI (r + 1)) hC dX4_hasRoom_49 rfl (gI_inc r) (Nat.le_of_ble_eq_true rfl) ?_
                    refine V_goto (tgt := 18) hC dX4_hasRoom_52 (by decide) ?_
                    have ez : (ru[r].1.getD k 0).toInt * (ru[r].2 : Int) = wv (wadH 0 0 (Q 1 (12 * r + k)) (nI ru[r].2).toInt64) (wadL 0 (Q 1 (12 * r + k)) (nI ru[r].2).toInt64) := by rw [wp.2, v4 k _ (getD_of (by omega))]
                    refine V.loc [some (.ref a), some (.int (gB false)), some (.int (nI k)), some (.int (nI (r + 1)))] ⟨rfl, rfl, rfl, rfl, trivial⟩ (ih1 (r + 1) false _ (by omega) (by omega) ?_)
                    rw [List.take_succ, er]
                    simp only [Option.toList_some, List.mem_append, List.mem_singleton]
                    constructor
                    · intro q
                      cases q
                    · intro h9
                      have h8 := h9 _ (Or.inr rfl)
                      rw [ez] at h8
                      exact absurd (c40.symm.trans ((wfit wp.1).mpr h8)) (by decide)
                  · refine V_iconst (v := 1) hC dX4_hasRoom_43 (by decide) ?_
                    refine V_goto (tgt := 48) hC dX4_hasRoom_44 (by decide) ?_
                    refine V_istore_n hC dX4_hasRoom_48 (Nat.le_of_ble_eq_true rfl) ?_
                    refine V_iinc (v := nI (r + 1)) hC dX4_hasRoom_49 rfl (gI_inc r) (Nat.le_of_ble_eq_true rfl) ?_
                    refine V_goto (tgt := 18) hC dX4_hasRoom_52 (by decide) ?_
                    have ez : (ru[r].1.getD k 0).toInt * (ru[r].2 : Int) = wv (wadH 0 0 (Q 1 (12 * r + k)) (nI ru[r].2).toInt64) (wadL 0 (Q 1 (12 * r + k)) (nI ru[r].2).toInt64) := by rw [wp.2, v4 k _ (getD_of (by omega))]
                    refine V.loc [some (.ref a), some (.int (gB true)), some (.int (nI k)), some (.int (nI (r + 1)))] ⟨rfl, rfl, rfl, rfl, trivial⟩ (ih1 (r + 1) true _ (by omega) (by omega) ?_)
                    rw [List.take_succ, er]
                    simp only [Option.toList_some, List.mem_append, List.mem_singleton]
                    constructor
                    · intro _ q hq9
                      rcases hq9 with q1 | q1
                      · exact e3.mp c33 q q1
                      · rw [q1, ez]
                        exact (wfit wp.1).mp c40
                    · intro _
                      first | rfl | trivial
          refine V_iconst (v := 0) hC dX4_hasRoom_16 (by decide) ?_
          refine V_istore_n hC dX4_hasRoom_17 (Nat.le_of_ble_eq_true rfl) ?_
          refine V.loc [some (.ref a), some (.int (gB b)), some (.int (nI k)), some (.int (nI 0))] ⟨rfl, rfl, rfl, rfl, trivial⟩ (loop1 (ru.length + 1) 0 b _ (by omega) (by omega) ⟨fun _ q hq => by simp at hq, fun _ => c13⟩)
  refine V_iconst (v := 1) hC dX4_hasRoom_0 (by decide) ?_
  refine V_istore_n hC dX4_hasRoom_1 (Nat.le_of_ble_eq_true rfl) ?_
  refine V_iconst (v := 0) hC dX4_hasRoom_2 (by decide) ?_
  refine V_istore_n hC dX4_hasRoom_3 (Nat.le_of_ble_eq_true rfl) ?_
  refine V.loc [some (.ref a), some (.int (gB true)), some (.int (nI 0))] ⟨rfl, rfl, rfl, trivial⟩ (loop0 (n + 1) 0 true _ (by omega) (by omega) ⟨fun _ k h => absurd h (Nat.not_lt_zero k), fun _ => rfl⟩)
