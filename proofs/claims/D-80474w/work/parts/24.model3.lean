/-! MODEL 3: public methods without loops -/
theorem RMp_i {G : gG} {a : Nat} {I : Nat → Int32} {J : Nat → Int64} {P : Nat → Nat → Int32} {Q : Nat → Nat → Int64} {M0 : gM} {r : Int32 × Sy} {c : Int32} {σ : Sy} (h : r = (c, σ)) (hr : RM σ I P Q) : RMp G a M0 r (.inl (some (.int c))) (mkM G a I J P Q M0) := by
  subst h
  exact ⟨rfl, I, J, P, Q, rfl, hr⟩
theorem Sw.len {σ : Sy} (h : Sw σ) {i : Nat} {s : Sc} (hs : σ.sc[i]? = some (some s)) : s.2.2.length ≤ 12 ∧ s.2.1 ≤ s.2.2.length ∧ s.1 ≤ 3 ∧ 1 ≤ s.2.2.length := by
  have := h.2.1 _ (List.mem_of_getElem? hs) s rfl
  unfold okS at this
  omega
theorem gAppAt {α : Type} {l : List α} {x y : α} {i : Nat} (h : (l ++ [x])[i]? = some y) : (i < l.length ∧ l[i]? = some y) ∨ (i = l.length ∧ x = y) := by
  by_cases hi : i < l.length
  · rw [List.getElem?_append_left hi] at h
    exact Or.inl ⟨hi, h⟩
  · rw [List.getElem?_append_right (by omega)] at h
    have hz : i - l.length < 1 := (List.getElem?_eq_some_iff.mp h).1
    rw [show i - l.length = 0 by omega] at h
    cases h
    exact Or.inr ⟨by omega, rfl⟩
theorem RM.push {σ : Sy} {I I' : Nat → Int32} {P P' : Nat → Nat → Int32} {Q Q' : Nat → Nat → Int64} (h : RM σ I P Q) (hw : Sw σ) (x : Option Sc) (hI0 : I' 0 = nI (σ.sc.length + 1)) (hI : ∀ j, 1 ≤ j → j ≤ 7 → I' j = I j) (hP : ∀ j i, j ≤ 2 → i < σ.sc.length → P' j i = P j i) (hP2 : ∀ j, 3 ≤ j → j ≤ 5 → P' j = P j) (hQ : ∀ i, i < 12 * σ.sc.length → Q' 0 i = Q 0 i) (hQ2 : Q' 1 = Q 1 ∧ Q' 2 = Q 2)
    (hn : x = none → P' 0 σ.sc.length = -1) (hx : ∀ s : Sc, x = some s → P' 0 σ.sc.length = nI s.1 ∧ P' 1 σ.sc.length = nI s.2.1 ∧ P' 2 σ.sc.length = nI s.2.2.length ∧ ∀ (k : Nat) (v : Int64), s.2.2[k]? = some v → Q' 0 (12 * σ.sc.length + k) = v) : RM (σ.add x) I' P' Q' := by
  obtain ⟨h0, h1, h2, ⟨h3, h4, h5⟩, h6, h7, h8, h9, h10, h11, h12, h13⟩ := h
  refine ⟨?_, ?_, ?_, ⟨?_, ?_, ?_⟩, ?_, ?_, ?_, ?_, ?_, ?_, ?_, ?_⟩
  · rw [hI0]
    show _ = nI (σ.sc ++ [x]).length
    rw [List.length_append]
    rfl
  · intro i hi
    rcases gAppAt hi with ⟨q1, q2⟩ | ⟨q1, q2⟩
    · rw [hP 0 i (by decide) q1]
      exact h1 i q2
    · rw [q1]
      exact hn q2
  · intro i s hi
    rcases gAppAt hi with ⟨q1, q2⟩ | ⟨q1, q2⟩
    · obtain ⟨r1, r2, r3, r4⟩ := h2 i s q2
      have hl := (hw.len q2).1
      refine ⟨by rw [hP 0 i (by decide) q1]; exact r1, by rw [hP 1 i (by decide) q1]; exact r2, by rw [hP 2 i (by decide) q1]; exact r3, fun k v hv => ?_⟩
      have hk : k < s.2.2.length := (List.getElem?_eq_some_iff.mp hv).1
      rw [hQ _ (by omega)]
      exact r4 k v hv
    · rw [q1]
      exact hx s q2
  · rw [hI 1 (by decide) (by decide)]; exact h3
  · rw [hI 2 (by decide) (by decide)]; exact h4
  · rw [hI 3 (by decide) (by decide)]; exact h5
  · rw [hI 4 (by decide) (by decide)]; exact h6
  · rw [hP2 3 (by decide) (by decide), hQ2.1]; exact h7
  · rw [hI 5 (by decide) (by decide)]; exact h8
  · rw [hQ2.2]; exact h9
  · rw [hI 6 (by decide) (by decide)]; exact h10
  · rw [hP2 4 (by decide) (by decide)]; exact h11
  · rw [hI 7 (by decide) (by decide)]; exact h12
  · rw [hP2 5 (by decide) (by decide)]; exact h13
theorem layP_lt {P : Nat → Nat → Int32} {n : Nat} {x y z : Int32} {j i : Nat} (hj : j ≤ 2) (hi : i < n) : layP P n x y z j i = P j i := by
  have : i ≠ n := by omega
  rcases (show j = 0 ∨ j = 1 ∨ j = 2 by omega) with rfl | rfl | rfl
  · exact va_up_ne _ _ this
  · exact va_up_ne _ _ this
  · exact va_up_ne _ _ this
theorem layP_gt {P : Nat → Nat → Int32} {n : Nat} {x y z : Int32} {j : Nat} (h3 : 3 ≤ j) : layP P n x y z j = P j := by
  unfold layP
  rw [va_up_ne _ _ (by omega), va_up_ne _ _ (by omega), va_up_ne _ _ (by omega)]
theorem layP_0 {P : Nat → Nat → Int32} {n : Nat} {x y z : Int32} : layP P n x y z 0 n = x := va_up_self _ _ _
theorem layP_1 {P : Nat → Nat → Int32} {n : Nat} {x y z : Int32} : layP P n x y z 1 n = y := va_up_self _ _ _
theorem layP_2 {P : Nat → Nat → Int32} {n : Nat} {x y z : Int32} : layP P n x y z 2 n = z := va_up_self _ _ _
theorem layQ_lt {Q : Nat → Nat → Int64} {n i : Nat} (h : i < 12 * n) : layQ Q n 0 i = Q 0 i := by
  show gClr (Q 0) (12 * n) (12 * n + 12) i = Q 0 i
  unfold gClr
  rw [if_neg (by omega)]
theorem layQ_in {Q : Nat → Nat → Int64} {n k : Nat} (h : k < 12) : layQ Q n 0 (12 * n + k) = 0 := by
  show gClr (Q 0) (12 * n) (12 * n + 12) (12 * n + k) = 0
  unfold gClr
  rw [if_pos (by omega)]
/-- behind lay and keepScore: noughts -/
theorem RM.laid {σ : Sy} {I : Nat → Int32} {P : Nat → Nat → Int32} {Q : Nat → Nat → Int64} (h : RM σ I P Q) (hw : Sw σ) {sh hd m : Nat} {x y z : Int32} (hm : m ≤ 12) (hx : x = nI sh) (hy : y = nI hd) (hz : z = nI m) : RM (σ.add (some (sh, hd, List.replicate m 0))) (va_up I 0 (I 0 + 1)) (layP P σ.sc.length x y z) (layQ Q σ.sc.length) := by
  refine h.push hw _ ?_ (fun j h1 h2 => va_up_ne _ _ (by omega)) (fun j i hj hi => layP_lt hj hi) (fun j h1 h2 => layP_gt h1) (fun i hi => layQ_lt hi) ⟨rfl, rfl⟩ (fun q => by cases q) (fun s hs => ?_)
  · rw [va_up_self, h.1, nI_1]
  · cases hs
    refine ⟨by rw [layP_0, hx], by rw [layP_1, hy], by rw [layP_2, hz, List.length_replicate], fun k v hv => ?_⟩
    have hk : k < (List.replicate m (0 : Int64)).length := (List.getElem?_eq_some_iff.mp hv).1
    rw [List.length_replicate] at hk
    rw [layQ_in (by omega)]
    rw [List.getElem?_replicate, if_pos hk] at hv
    exact Option.some.inj hv
theorem RM.laidN {σ : Sy} {I : Nat → Int32} {P : Nat → Nat → Int32} {Q : Nat → Nat → Int64} (h : RM σ I P Q) (hw : Sw σ) {y z : Int32} : RM (σ.add none) (va_up I 0 (I 0 + 1)) (layP P σ.sc.length (-1) y z) (layQ Q σ.sc.length) := by
  refine h.push hw _ ?_ (fun j h1 h2 => va_up_ne _ _ (by omega)) (fun j i hj hi => layP_lt hj hi) (fun j h1 h2 => layP_gt h1) (fun i hi => layQ_lt hi) ⟨rfl, rfl⟩ (fun _ => layP_0) (fun s hs => by cases hs)
  rw [va_up_self, h.1, nI_1]
theorem gIn_c (x : Int32) (n : Nat) (hn : n < 2 ^ 30) {c : Int64} (hc : (nI n - 1).toInt64 = c) : gIn x.toInt64 0 c = gIx x n := by
  rw [← hc]
  exact gIn_ix x hn
theorem g_pm (n : Nat) : nI n + 1 - 1 = nI n := by rw [nI_1]; exact nI_pred n
theorem x03 {x : Int32} (h : gIx x 4 = true) : x = 0 ∨ x = 1 ∨ x = 2 ∨ x = 3 := by
  obtain ⟨j, hj, rfl⟩ := gIx_of h (by decide)
  rcases (show j = 0 ∨ j = 1 ∨ j = 2 ∨ j = 3 by omega) with rfl | rfl | rfl | rfl
  · exact Or.inl rfl
  · exact Or.inr (Or.inl rfl)
  · exact Or.inr (Or.inr (Or.inl rfl))
  · exact Or.inr (Or.inr (Or.inr rfl))
theorem n60 {σ : Sy} (hw : Sw σ) : (nI σ.sc.length = 60) ↔ σ.sc.length = 60 := nI_eq (b := 60) (by have := hw.1; omega) (by decide)
/-- a number from 0 to 6, not below 0 -/
theorem h06 {h : Int32} (h1 : ¬ h < 0) (h2 : ¬ 6 < h) : ∃ j : Nat, j ≤ 6 ∧ h = nI j := by
  refine nI_of2 (M := 6) (n := 6) (by decide) h1 ?_
  rw [Int32.lt_iff_toInt_lt] at h2
  rw [Int32.le_iff_toInt_le]
  omega
/-- what make lays, by the three kinds of shape -/
theorem mk_a {h s : Int32} : mkSc 0 h s = (0, 0, List.replicate 1 0) := rfl
theorem mk_b {h s : Int32} : mkSc 1 h s = (1, 1, List.replicate 2 0) := rfl
theorem mk_c {h s : Int32} : mkSc 2 h s = (2, 1, List.replicate 3 0) := rfl
theorem mk_d {i j : Nat} (hi : i ≤ 6) (hj : j ≤ 6) : mkSc 3 (nI i) (nI j) = (3, i, List.replicate (i + j) 0) := by
  unfold mkSc
  rw [if_neg (by decide), if_neg (by decide), if_neg (by decide), nI_clamp (by omega), nI_clamp (by omega)]
theorem o_make_ok {σ : Sy} {x h s : Int32} (h1 : gIx x 4 = true) (h2 : ¬ (x = 3 ∧ (6 < h ∨ 6 < s ∨ (h = 0 ∧ s = 0)))) (h3 : ¬ σ.sc.length = 60) (h4 : ¬ (x = 3 ∧ (h < 0 ∨ s < 0))) : o_make σ x h s = (nI σ.sc.length, σ.add (some (mkSc x h s))) := by
  unfold o_make
  rw [if_neg (by rw [h1]; simp only [Bool.true_eq_false, false_or]; exact h2), if_neg h3, if_neg h4]
theorem mk_end {G : gG} {a : Nat} {I : Nat → Int32} {J : Nat → Int64} {P : Nat → Nat → Int32} {Q : Nat → Nat → Int64} {M0 : gM} {σ : Sy} (hr : RM σ I P Q) (hw : Sw σ) {x h s y z : Int32} {sh hd m : Nat} (ho : o_make σ x h s = (nI σ.sc.length, σ.add (some (mkSc x h s)))) (he : mkSc x h s = (sh, hd, List.replicate m 0)) (hm : m ≤ 12) (hx : x = nI sh) (hy : y = nI hd) (hz : z = nI m) : RMp G a M0 (o_make σ x h s) (.inl (some (.int (I 0 + 1 - 1)))) (mkM G a (va_up I 0 (I 0 + 1)) J (layP P σ.sc.length x y z) (layQ Q σ.sc.length) M0) := by
  have e : I 0 + 1 - 1 = nI σ.sc.length := by rw [hr.1, g_pm]
  rw [e]
  refine RMp_i ho ?_
  rw [he]
  exact hr.laid hw hm hx hy hz
theorem mk_end3 {G : gG} {a : Nat} {I : Nat → Int32} {J : Nat → Int64} {P : Nat → Nat → Int32} {Q : Nat → Nat → Int64} {M0 : gM} {σ : Sy} (hr : RM σ I P Q) (hw : Sw σ) {h s : Int32} (hx4 : gIx 3 4 = true) (c46 : ¬ σ.sc.length = 60) (c20 : ¬ 6 < h) (c26 : ¬ 6 < s) (hne : ¬ (h = 0 ∧ s = 0)) (c58 : ¬ h < 0) (c62 : 0 ≤ s) : RMp G a M0 (o_make σ 3 h s) (.inl (some (.int (I 0 + 1 - 1)))) (mkM G a (va_up I 0 (I 0 + 1)) J (layP P σ.sc.length 3 h (h + s)) (layQ Q σ.sc.length) M0) := by
  have c62' : ¬ s < 0 := by
    rw [Int32.lt_iff_toInt_lt]
    rw [Int32.le_iff_toInt_le] at c62
    omega
  have hh : ¬ (6 < h ∨ 6 < s ∨ (h = 0 ∧ s = 0)) := by
    rintro (q | q | q)
    · exact c20 q
    · exact c26 q
    · exact hne q
  have ho := o_make_ok (σ := σ) (x := 3) (h := h) (s := s) hx4 (by simp only [true_and]; exact hh) c46 (by
    simp only [true_and]
    rintro (q | q)
    · exact c58 q
    · exact c62' q)
  obtain ⟨i, hi, rfl⟩ := h06 c58 c20
  obtain ⟨j, hj, rfl⟩ := h06 c62' c26
  exact mk_end hr hw ho (mk_d hi hj) (by omega) rfl rfl (nI_add i j)
set_option maxHeartbeats 2000000 in
theorem m_make {l : Launch} {G : gG} {a : Nat} {I : Nat → Int32} {J : Nat → Int64} {P : Nat → Nat → Int32} {Q : Nat → Nat → Int64} {M0 : gM} {σ : Sy} (hw : Sw σ) (hr : RM σ I P Q) {x h s : Int32} : gMet l yX4_make (gWs yX4_make cX4_make 4 (some .int) []) ({ frames := 1, cells := 0, slots := 0, locals := 25 } : Room) G [.ref a, .int x, .int h, .int s] (mkM G a I J P Q M0) (RMp G a M0 (o_make σ x h s)) := by
  refine gMet.intro (by decide) (Nat.le_of_ble_eq_true rfl) (fun C hl hC hN => ?_)
  subst hl
  replace hC : Ck G C [] cX4_make RX4 4 (some .int) ({ frames := 1, cells := 0, slots := 0, locals := 25 } : Room) (RMp G a M0 (o_make σ x h s)) := hC
  refine V.loc [some (.ref a), some (.int x), some (.int h), some (.int s)] ⟨rfl, rfl, rfl, rfl, trivial⟩ ?_
  refine V_iload_n hC dX4_make_0 rfl ?_
  refine V_i2l hC dX4_make_1 ?_
  refine V_lconst (v := 0) hC dX4_make_2 (by decide) ?_
  refine V_ldc2 hC dX4_make_3 q918 ?_
  refine mt3v hC m_in mw_in ⟨⟨(Nat.le_of_ble_eq_true rfl), (Nat.le_of_ble_eq_true rfl)⟩, rfl, rfl⟩ ⟨(Nat.le_of_ble_eq_true rfl), (Nat.le_of_ble_eq_true rfl)⟩ (Nat.le_of_ble_eq_true rfl) dX4_make_6 ?_
  refine V_ifb_eq (tgt := 37) hC dX4_make_9 (by decide) (fun c9 => ?_) (fun c9 => ?_)
  · refine V_bipush (v := (-3)) hC dX4_make_37 (by decide) ?_
    exact V_iret hC dX4_make_39 (Nat.le_of_ble_eq_true rfl) (Nat.le_of_ble_eq_true rfl) (RMp_i (by unfold o_make; rw [if_pos]; first | exact Or.inl (by rw [gIn_c x 4 (by decide) (by decide)] at c9; exact c9) | exact Or.inr ⟨c14, Or.inl c20⟩ | exact Or.inr ⟨c14, Or.inr (Or.inl c26)⟩ | exact Or.inr ⟨c14, Or.inr (Or.inr ⟨c30, c34⟩)⟩) hr)
  · refine V_iload_n hC dX4_make_12 rfl ?_
    refine V_iconst (v := 3) hC dX4_make_13 (by decide) ?_
    refine V_icmp_ne (tgt := 40) hC dX4_make_14 (by decide) (fun c14 => ?_) (fun c14 => ?_)
    · refine V_aload_n hC dX4_make_40 rfl ?_
      refine mg_scores hC dX4_make_41 ?_
      refine V_bipush (v := 60) hC dX4_make_44 (by decide) ?_
      rw [hr.1]
      refine V_icmp_ne (tgt := 52) hC dX4_make_46 (by decide) (fun c46 => ?_) (fun c46 => ?_)
      · refine V_iload_n hC dX4_make_52 rfl ?_
        refine V_iconst (v := 3) hC dX4_make_53 (by decide) ?_
        refine V_icmp_ne (tgt := 68) hC dX4_make_54 (by decide) (fun c54 => ?_) (fun c54 => ?_)
        · refine V_aload_n hC dX4_make_68 rfl ?_
          refine V_iload_n hC dX4_make_69 rfl ?_
          refine V_iload_n hC dX4_make_70 rfl ?_
          refine V_if_ne (tgt := 78) hC dX4_make_71 (by decide) (fun c71 => ?_) (fun c71 => ?_)
          · refine V_iload_n hC dX4_make_78 rfl ?_
            refine V_iconst (v := 3) hC dX4_make_79 (by decide) ?_
            refine V_icmp_ge (tgt := 87) hC dX4_make_80 (by decide) (fun c80 => ?_) (fun c80 => ?_)
            · refine V_iload_n hC dX4_make_87 rfl ?_
              refine V_iload_n hC dX4_make_88 rfl ?_
              refine V_iconst (v := 3) hC dX4_make_89 (by decide) ?_
              refine V_icmp_ge (tgt := 99) hC dX4_make_90 (by decide) (fun c90 => ?_) (fun c90 => ?_)
              · refine V_iload_n hC dX4_make_99 rfl ?_
                refine V_iload_n hC dX4_make_100 rfl ?_
                refine V_iadd hC dX4_make_101 ?_
                refine mc3n hC (m_lay hr.1 (by have := hw.1; omega)) rfl mw_lay ⟨⟨(Nat.le_of_ble_eq_true rfl), (Nat.le_of_ble_eq_true rfl)⟩, rfl, rfl⟩ ⟨(Nat.le_of_ble_eq_true rfl), (Nat.le_of_ble_eq_true rfl)⟩ (Nat.le_of_ble_eq_true rfl) dX4_make_102 ?_
                refine V_aload_n hC dX4_make_105 rfl ?_
                refine mc0v hC m_keepScore rfl mw_keepScore ⟨⟨(Nat.le_of_ble_eq_true rfl), (Nat.le_of_ble_eq_true rfl)⟩, rfl, rfl⟩ ⟨(Nat.le_of_ble_eq_true rfl), (Nat.le_of_ble_eq_true rfl)⟩ (Nat.le_of_ble_eq_true rfl) dX4_make_106 ?_
                exact V_iret hC dX4_make_109 (Nat.le_of_ble_eq_true rfl) (Nat.le_of_ble_eq_true rfl) (by
                      rw [n60 hw] at c46
                      have hx4 := c9
                      rw [gIn_c x 4 (by decide) (by decide)] at hx4
                      rcases x03 hx4 with rfl | rfl | rfl | rfl
                      · first | exact absurd c90 (by decide) | exact absurd c71 (by decide) | exact absurd c54 (by decide) | exact absurd c14 (by decide) | exact mk_end hr hw (o_make_ok hx4 (by simp) c46 (by simp)) mk_a (by decide) rfl rfl rfl
                      · first | exact absurd c90 (by decide) | exact absurd c80 (by decide) | exact absurd c71 (by decide) | exact absurd c54 (by decide) | exact absurd c14 (by decide) | exact mk_end hr hw (o_make_ok hx4 (by simp) c46 (by simp)) mk_b (by decide) rfl rfl rfl
                      · first | exact absurd c90 (by decide) | exact absurd c80 (by decide) | exact absurd c71 (by decide) | exact absurd c54 (by decide) | exact absurd c14 (by decide) | exact mk_end hr hw (o_make_ok hx4 (by simp) c46 (by simp)) mk_c (by decide) rfl rfl rfl
                      · first | exact absurd c90 (by decide) | exact absurd c80 (by decide) | exact absurd c71 (by decide) | exact absurd c54 (by decide) | exact absurd c14 (by decide) | exact mk_end3 hr hw hx4 c46 c20 c26 (by rintro ⟨q1, q2⟩; first | exact c30 q1 | exact c34 q2) c58 c62)
              · refine V_iload_n hC dX4_make_93 rfl ?_
                refine V_iconst (v := 1) hC dX4_make_94 (by decide) ?_
                refine V_iadd hC dX4_make_95 ?_
                refine V_goto (tgt := 102) hC dX4_make_96 (by decide) ?_
                refine mc3n hC (m_lay hr.1 (by have := hw.1; omega)) rfl mw_lay ⟨⟨(Nat.le_of_ble_eq_true rfl), (Nat.le_of_ble_eq_true rfl)⟩, rfl, rfl⟩ ⟨(Nat.le_of_ble_eq_true rfl), (Nat.le_of_ble_eq_true rfl)⟩ (Nat.le_of_ble_eq_true rfl) dX4_make_102 ?_
                refine V_aload_n hC dX4_make_105 rfl ?_
                refine mc0v hC m_keepScore rfl mw_keepScore ⟨⟨(Nat.le_of_ble_eq_true rfl), (Nat.le_of_ble_eq_true rfl)⟩, rfl, rfl⟩ ⟨(Nat.le_of_ble_eq_true rfl), (Nat.le_of_ble_eq_true rfl)⟩ (Nat.le_of_ble_eq_true rfl) dX4_make_106 ?_
                exact V_iret hC dX4_make_109 (Nat.le_of_ble_eq_true rfl) (Nat.le_of_ble_eq_true rfl) (by
                      rw [n60 hw] at c46
                      have hx4 := c9
                      rw [gIn_c x 4 (by decide) (by decide)] at hx4
                      rcases x03 hx4 with rfl | rfl | rfl | rfl
                      · first | exact absurd c90 (by decide) | exact absurd c71 (by decide) | exact absurd c54 (by decide) | exact absurd c14 (by decide) | exact mk_end hr hw (o_make_ok hx4 (by simp) c46 (by simp)) mk_a (by decide) rfl rfl rfl
                      · first | exact absurd c90 (by decide) | exact absurd c80 (by decide) | exact absurd c71 (by decide) | exact absurd c54 (by decide) | exact absurd c14 (by decide) | exact mk_end hr hw (o_make_ok hx4 (by simp) c46 (by simp)) mk_b (by decide) rfl rfl rfl
                      · first | exact absurd c90 (by decide) | exact absurd c80 (by decide) | exact absurd c71 (by decide) | exact absurd c54 (by decide) | exact absurd c14 (by decide) | exact mk_end hr hw (o_make_ok hx4 (by simp) c46 (by simp)) mk_c (by decide) rfl rfl rfl
                      · first | exact absurd c90 (by decide) | exact absurd c80 (by decide) | exact absurd c71 (by decide) | exact absurd c54 (by decide) | exact absurd c14 (by decide) | exact mk_end3 hr hw hx4 c46 c20 c26 (by rintro ⟨q1, q2⟩; first | exact c30 q1 | exact c34 q2) c58 c62)
            · refine V_iconst (v := 1) hC dX4_make_83 (by decide) ?_
              refine V_goto (tgt := 88) hC dX4_make_84 (by decide) ?_
              refine V_iload_n hC dX4_make_88 rfl ?_
              refine V_iconst (v := 3) hC dX4_make_89 (by decide) ?_
              refine V_icmp_ge (tgt := 99) hC dX4_make_90 (by decide) (fun c90 => ?_) (fun c90 => ?_)
              · refine V_iload_n hC dX4_make_99 rfl ?_
                refine V_iload_n hC dX4_make_100 rfl ?_
                refine V_iadd hC dX4_make_101 ?_
                refine mc3n hC (m_lay hr.1 (by have := hw.1; omega)) rfl mw_lay ⟨⟨(Nat.le_of_ble_eq_true rfl), (Nat.le_of_ble_eq_true rfl)⟩, rfl, rfl⟩ ⟨(Nat.le_of_ble_eq_true rfl), (Nat.le_of_ble_eq_true rfl)⟩ (Nat.le_of_ble_eq_true rfl) dX4_make_102 ?_
                refine V_aload_n hC dX4_make_105 rfl ?_
                refine mc0v hC m_keepScore rfl mw_keepScore ⟨⟨(Nat.le_of_ble_eq_true rfl), (Nat.le_of_ble_eq_true rfl)⟩, rfl, rfl⟩ ⟨(Nat.le_of_ble_eq_true rfl), (Nat.le_of_ble_eq_true rfl)⟩ (Nat.le_of_ble_eq_true rfl) dX4_make_106 ?_
                exact V_iret hC dX4_make_109 (Nat.le_of_ble_eq_true rfl) (Nat.le_of_ble_eq_true rfl) (by
                      rw [n60 hw] at c46
                      have hx4 := c9
                      rw [gIn_c x 4 (by decide) (by decide)] at hx4
                      rcases x03 hx4 with rfl | rfl | rfl | rfl
                      · first | exact absurd c90 (by decide) | exact absurd c71 (by decide) | exact absurd c54 (by decide) | exact absurd c14 (by decide) | exact mk_end hr hw (o_make_ok hx4 (by simp) c46 (by simp)) mk_a (by decide) rfl rfl rfl
                      · first | exact absurd c90 (by decide) | exact absurd c80 (by decide) | exact absurd c71 (by decide) | exact absurd c54 (by decide) | exact absurd c14 (by decide) | exact mk_end hr hw (o_make_ok hx4 (by simp) c46 (by simp)) mk_b (by decide) rfl rfl rfl
                      · first | exact absurd c90 (by decide) | exact absurd c80 (by decide) | exact absurd c71 (by decide) | exact absurd c54 (by decide) | exact absurd c14 (by decide) | exact mk_end hr hw (o_make_ok hx4 (by simp) c46 (by simp)) mk_c (by decide) rfl rfl rfl
                      · first | exact absurd c90 (by decide) | exact absurd c80 (by decide) | exact absurd c71 (by decide) | exact absurd c54 (by decide) | exact absurd c14 (by decide) | exact mk_end3 hr hw hx4 c46 c20 c26 (by rintro ⟨q1, q2⟩; first | exact c30 q1 | exact c34 q2) c58 c62)
              · refine V_iload_n hC dX4_make_93 rfl ?_
                refine V_iconst (v := 1) hC dX4_make_94 (by decide) ?_
                refine V_iadd hC dX4_make_95 ?_
                refine V_goto (tgt := 102) hC dX4_make_96 (by decide) ?_
                refine mc3n hC (m_lay hr.1 (by have := hw.1; omega)) rfl mw_lay ⟨⟨(Nat.le_of_ble_eq_true rfl), (Nat.le_of_ble_eq_true rfl)⟩, rfl, rfl⟩ ⟨(Nat.le_of_ble_eq_true rfl), (Nat.le_of_ble_eq_true rfl)⟩ (Nat.le_of_ble_eq_true rfl) dX4_make_102 ?_
                refine V_aload_n hC dX4_make_105 rfl ?_
                refine mc0v hC m_keepScore rfl mw_keepScore ⟨⟨(Nat.le_of_ble_eq_true rfl), (Nat.le_of_ble_eq_true rfl)⟩, rfl, rfl⟩ ⟨(Nat.le_of_ble_eq_true rfl), (Nat.le_of_ble_eq_true rfl)⟩ (Nat.le_of_ble_eq_true rfl) dX4_make_106 ?_
                exact V_iret hC dX4_make_109 (Nat.le_of_ble_eq_true rfl) (Nat.le_of_ble_eq_true rfl) (by
                      rw [n60 hw] at c46
                      have hx4 := c9
                      rw [gIn_c x 4 (by decide) (by decide)] at hx4
                      rcases x03 hx4 with rfl | rfl | rfl | rfl
                      · first | exact absurd c90 (by decide) | exact absurd c71 (by decide) | exact absurd c54 (by decide) | exact absurd c14 (by decide) | exact mk_end hr hw (o_make_ok hx4 (by simp) c46 (by simp)) mk_a (by decide) rfl rfl rfl
                      · first | exact absurd c90 (by decide) | exact absurd c80 (by decide) | exact absurd c71 (by decide) | exact absurd c54 (by decide) | exact absurd c14 (by decide) | exact mk_end hr hw (o_make_ok hx4 (by simp) c46 (by simp)) mk_b (by decide) rfl rfl rfl
                      · first | exact absurd c90 (by decide) | exact absurd c80 (by decide) | exact absurd c71 (by decide) | exact absurd c54 (by decide) | exact absurd c14 (by decide) | exact mk_end hr hw (o_make_ok hx4 (by simp) c46 (by simp)) mk_c (by decide) rfl rfl rfl
                      · first | exact absurd c90 (by decide) | exact absurd c80 (by decide) | exact absurd c71 (by decide) | exact absurd c54 (by decide) | exact absurd c14 (by decide) | exact mk_end3 hr hw hx4 c46 c20 c26 (by rintro ⟨q1, q2⟩; first | exact c30 q1 | exact c34 q2) c58 c62)
          · refine V_iconst (v := 0) hC dX4_make_74 (by decide) ?_
            refine V_goto (tgt := 88) hC dX4_make_75 (by decide) ?_
            refine V_iload_n hC dX4_make_88 rfl ?_
            refine V_iconst (v := 3) hC dX4_make_89 (by decide) ?_
            refine V_icmp_ge (tgt := 99) hC dX4_make_90 (by decide) (fun c90 => ?_) (fun c90 => ?_)
            · refine V_iload_n hC dX4_make_99 rfl ?_
              refine V_iload_n hC dX4_make_100 rfl ?_
              refine V_iadd hC dX4_make_101 ?_
              refine mc3n hC (m_lay hr.1 (by have := hw.1; omega)) rfl mw_lay ⟨⟨(Nat.le_of_ble_eq_true rfl), (Nat.le_of_ble_eq_true rfl)⟩, rfl, rfl⟩ ⟨(Nat.le_of_ble_eq_true rfl), (Nat.le_of_ble_eq_true rfl)⟩ (Nat.le_of_ble_eq_true rfl) dX4_make_102 ?_
              refine V_aload_n hC dX4_make_105 rfl ?_
              refine mc0v hC m_keepScore rfl mw_keepScore ⟨⟨(Nat.le_of_ble_eq_true rfl), (Nat.le_of_ble_eq_true rfl)⟩, rfl, rfl⟩ ⟨(Nat.le_of_ble_eq_true rfl), (Nat.le_of_ble_eq_true rfl)⟩ (Nat.le_of_ble_eq_true rfl) dX4_make_106 ?_
              exact V_iret hC dX4_make_109 (Nat.le_of_ble_eq_true rfl) (Nat.le_of_ble_eq_true rfl) (by
                    rw [n60 hw] at c46
                    have hx4 := c9
                    rw [gIn_c x 4 (by decide) (by decide)] at hx4
                    rcases x03 hx4 with rfl | rfl | rfl | rfl
                    · first | exact absurd c90 (by decide) | exact absurd c71 (by decide) | exact absurd c54 (by decide) | exact absurd c14 (by decide) | exact mk_end hr hw (o_make_ok hx4 (by simp) c46 (by simp)) mk_a (by decide) rfl rfl rfl
                    · first | exact absurd c90 (by decide) | exact absurd c80 (by decide) | exact absurd c71 (by decide) | exact absurd c54 (by decide) | exact absurd c14 (by decide) | exact mk_end hr hw (o_make_ok hx4 (by simp) c46 (by simp)) mk_b (by decide) rfl rfl rfl
                    · first | exact absurd c90 (by decide) | exact absurd c80 (by decide) | exact absurd c71 (by decide) | exact absurd c54 (by decide) | exact absurd c14 (by decide) | exact mk_end hr hw (o_make_ok hx4 (by simp) c46 (by simp)) mk_c (by decide) rfl rfl rfl
                    · first | exact absurd c90 (by decide) | exact absurd c80 (by decide) | exact absurd c71 (by decide) | exact absurd c54 (by decide) | exact absurd c14 (by decide) | exact mk_end3 hr hw hx4 c46 c20 c26 (by rintro ⟨q1, q2⟩; first | exact c30 q1 | exact c34 q2) c58 c62)
            · refine V_iload_n hC dX4_make_93 rfl ?_
              refine V_iconst (v := 1) hC dX4_make_94 (by decide) ?_
              refine V_iadd hC dX4_make_95 ?_
              refine V_goto (tgt := 102) hC dX4_make_96 (by decide) ?_
              refine mc3n hC (m_lay hr.1 (by have := hw.1; omega)) rfl mw_lay ⟨⟨(Nat.le_of_ble_eq_true rfl), (Nat.le_of_ble_eq_true rfl)⟩, rfl, rfl⟩ ⟨(Nat.le_of_ble_eq_true rfl), (Nat.le_of_ble_eq_true rfl)⟩ (Nat.le_of_ble_eq_true rfl) dX4_make_102 ?_
              refine V_aload_n hC dX4_make_105 rfl ?_
              refine mc0v hC m_keepScore rfl mw_keepScore ⟨⟨(Nat.le_of_ble_eq_true rfl), (Nat.le_of_ble_eq_true rfl)⟩, rfl, rfl⟩ ⟨(Nat.le_of_ble_eq_true rfl), (Nat.le_of_ble_eq_true rfl)⟩ (Nat.le_of_ble_eq_true rfl) dX4_make_106 ?_
              exact V_iret hC dX4_make_109 (Nat.le_of_ble_eq_true rfl) (Nat.le_of_ble_eq_true rfl) (by
                    rw [n60 hw] at c46
                    have hx4 := c9
                    rw [gIn_c x 4 (by decide) (by decide)] at hx4
                    rcases x03 hx4 with rfl | rfl | rfl | rfl
                    · first | exact absurd c90 (by decide) | exact absurd c71 (by decide) | exact absurd c54 (by decide) | exact absurd c14 (by decide) | exact mk_end hr hw (o_make_ok hx4 (by simp) c46 (by simp)) mk_a (by decide) rfl rfl rfl
                    · first | exact absurd c90 (by decide) | exact absurd c80 (by decide) | exact absurd c71 (by decide) | exact absurd c54 (by decide) | exact absurd c14 (by decide) | exact mk_end hr hw (o_make_ok hx4 (by simp) c46 (by simp)) mk_b (by decide) rfl rfl rfl
                    · first | exact absurd c90 (by decide) | exact absurd c80 (by decide) | exact absurd c71 (by decide) | exact absurd c54 (by decide) | exact absurd c14 (by decide) | exact mk_end hr hw (o_make_ok hx4 (by simp) c46 (by simp)) mk_c (by decide) rfl rfl rfl
                    · first | exact absurd c90 (by decide) | exact absurd c80 (by decide) | exact absurd c71 (by decide) | exact absurd c54 (by decide) | exact absurd c14 (by decide) | exact mk_end3 hr hw hx4 c46 c20 c26 (by rintro ⟨q1, q2⟩; first | exact c30 q1 | exact c34 q2) c58 c62)
        · refine V_iload_n hC dX4_make_57 rfl ?_
          refine V_if_lt (tgt := 65) hC dX4_make_58 (by decide) (fun c58 => ?_) (fun c58 => ?_)
          · refine V_bipush (v := (-14)) hC dX4_make_65 (by decide) ?_
            exact V_iret hC dX4_make_67 (Nat.le_of_ble_eq_true rfl) (Nat.le_of_ble_eq_true rfl) (RMp_i (by
                  rw [n60 hw] at c46
                  unfold o_make
                  rw [if_neg, if_neg c46, if_pos]
                  · first | exact ⟨c54, Or.inl c58⟩ | exact ⟨c54, Or.inr (by rw [Int32.lt_iff_toInt_lt]; rw [Int32.le_iff_toInt_le] at c62; omega)⟩
                  · rw [gIn_c x 4 (by decide) (by decide)] at c9
                    rintro (q | ⟨q, q1 | q1 | q1⟩)
                    · rw [c9] at q; cases q
                    · first | exact c14 q | exact c20 q1
                    · first | exact c14 q | exact c26 q1
                    · first | exact c14 q | exact c30 q1.1 | exact c34 q1.2) hr)
          · refine V_iload_n hC dX4_make_61 rfl ?_
            refine V_if_ge (tgt := 68) hC dX4_make_62 (by decide) (fun c62 => ?_) (fun c62 => ?_)
            · refine V_aload_n hC dX4_make_68 rfl ?_
              refine V_iload_n hC dX4_make_69 rfl ?_
              refine V_iload_n hC dX4_make_70 rfl ?_
              refine V_if_ne (tgt := 78) hC dX4_make_71 (by decide) (fun c71 => ?_) (fun c71 => ?_)
              · refine V_iload_n hC dX4_make_78 rfl ?_
                refine V_iconst (v := 3) hC dX4_make_79 (by decide) ?_
                refine V_icmp_ge (tgt := 87) hC dX4_make_80 (by decide) (fun c80 => ?_) (fun c80 => ?_)
                · refine V_iload_n hC dX4_make_87 rfl ?_
                  refine V_iload_n hC dX4_make_88 rfl ?_
                  refine V_iconst (v := 3) hC dX4_make_89 (by decide) ?_
                  refine V_icmp_ge (tgt := 99) hC dX4_make_90 (by decide) (fun c90 => ?_) (fun c90 => ?_)
                  · refine V_iload_n hC dX4_make_99 rfl ?_
                    refine V_iload_n hC dX4_make_100 rfl ?_
                    refine V_iadd hC dX4_make_101 ?_
                    refine mc3n hC (m_lay hr.1 (by have := hw.1; omega)) rfl mw_lay ⟨⟨(Nat.le_of_ble_eq_true rfl), (Nat.le_of_ble_eq_true rfl)⟩, rfl, rfl⟩ ⟨(Nat.le_of_ble_eq_true rfl), (Nat.le_of_ble_eq_true rfl)⟩ (Nat.le_of_ble_eq_true rfl) dX4_make_102 ?_
                    refine V_aload_n hC dX4_make_105 rfl ?_
                    refine mc0v hC m_keepScore rfl mw_keepScore ⟨⟨(Nat.le_of_ble_eq_true rfl), (Nat.le_of_ble_eq_true rfl)⟩, rfl, rfl⟩ ⟨(Nat.le_of_ble_eq_true rfl), (Nat.le_of_ble_eq_true rfl)⟩ (Nat.le_of_ble_eq_true rfl) dX4_make_106 ?_
                    exact V_iret hC dX4_make_109 (Nat.le_of_ble_eq_true rfl) (Nat.le_of_ble_eq_true rfl) (by
                          rw [n60 hw] at c46
                          have hx4 := c9
                          rw [gIn_c x 4 (by decide) (by decide)] at hx4
                          rcases x03 hx4 with rfl | rfl | rfl | rfl
                          · first | exact absurd c90 (by decide) | exact absurd c71 (by decide) | exact absurd c54 (by decide) | exact absurd c14 (by decide) | exact mk_end hr hw (o_make_ok hx4 (by simp) c46 (by simp)) mk_a (by decide) rfl rfl rfl
                          · first | exact absurd c90 (by decide) | exact absurd c80 (by decide) | exact absurd c71 (by decide) | exact absurd c54 (by decide) | exact absurd c14 (by decide) | exact mk_end hr hw (o_make_ok hx4 (by simp) c46 (by simp)) mk_b (by decide) rfl rfl rfl
                          · first | exact absurd c90 (by decide) | exact absurd c80 (by decide) | exact absurd c71 (by decide) | exact absurd c54 (by decide) | exact absurd c14 (by decide) | exact mk_end hr hw (o_make_ok hx4 (by simp) c46 (by simp)) mk_c (by decide) rfl rfl rfl
                          · first | exact absurd c90 (by decide) | exact absurd c80 (by decide) | exact absurd c71 (by decide) | exact absurd c54 (by decide) | exact absurd c14 (by decide) | exact mk_end3 hr hw hx4 c46 c20 c26 (by rintro ⟨q1, q2⟩; first | exact c30 q1 | exact c34 q2) c58 c62)
                  · refine V_iload_n hC dX4_make_93 rfl ?_
                    refine V_iconst (v := 1) hC dX4_make_94 (by decide) ?_
                    refine V_iadd hC dX4_make_95 ?_
                    refine V_goto (tgt := 102) hC dX4_make_96 (by decide) ?_
                    refine mc3n hC (m_lay hr.1 (by have := hw.1; omega)) rfl mw_lay ⟨⟨(Nat.le_of_ble_eq_true rfl), (Nat.le_of_ble_eq_true rfl)⟩, rfl, rfl⟩ ⟨(Nat.le_of_ble_eq_true rfl), (Nat.le_of_ble_eq_true rfl)⟩ (Nat.le_of_ble_eq_true rfl) dX4_make_102 ?_
                    refine V_aload_n hC dX4_make_105 rfl ?_
                    refine mc0v hC m_keepScore rfl mw_keepScore ⟨⟨(Nat.le_of_ble_eq_true rfl), (Nat.le_of_ble_eq_true rfl)⟩, rfl, rfl⟩ ⟨(Nat.le_of_ble_eq_true rfl), (Nat.le_of_ble_eq_true rfl)⟩ (Nat.le_of_ble_eq_true rfl) dX4_make_106 ?_
                    exact V_iret hC dX4_make_109 (Nat.le_of_ble_eq_true rfl) (Nat.le_of_ble_eq_true rfl) (by
                          rw [n60 hw] at c46
                          have hx4 := c9
                          rw [gIn_c x 4 (by decide) (by decide)] at hx4
                          rcases x03 hx4 with rfl | rfl | rfl | rfl
                          · first | exact absurd c90 (by decide) | exact absurd c71 (by decide) | exact absurd c54 (by decide) | exact absurd c14 (by decide) | exact mk_end hr hw (o_make_ok hx4 (by simp) c46 (by simp)) mk_a (by decide) rfl rfl rfl
                          · first | exact absurd c90 (by decide) | exact absurd c80 (by decide) | exact absurd c71 (by decide) | exact absurd c54 (by decide) | exact absurd c14 (by decide) | exact mk_end hr hw (o_make_ok hx4 (by simp) c46 (by simp)) mk_b (by decide) rfl rfl rfl
                          · first | exact absurd c90 (by decide) | exact absurd c80 (by decide) | exact absurd c71 (by decide) | exact absurd c54 (by decide) | exact absurd c14 (by decide) | exact mk_end hr hw (o_make_ok hx4 (by simp) c46 (by simp)) mk_c (by decide) rfl rfl rfl
                          · first | exact absurd c90 (by decide) | exact absurd c80 (by decide) | exact absurd c71 (by decide) | exact absurd c54 (by decide) | exact absurd c14 (by decide) | exact mk_end3 hr hw hx4 c46 c20 c26 (by rintro ⟨q1, q2⟩; first | exact c30 q1 | exact c34 q2) c58 c62)
                · refine V_iconst (v := 1) hC dX4_make_83 (by decide) ?_
                  refine V_goto (tgt := 88) hC dX4_make_84 (by decide) ?_
                  refine V_iload_n hC dX4_make_88 rfl ?_
                  refine V_iconst (v := 3) hC dX4_make_89 (by decide) ?_
                  refine V_icmp_ge (tgt := 99) hC dX4_make_90 (by decide) (fun c90 => ?_) (fun c90 => ?_)
                  · refine V_iload_n hC dX4_make_99 rfl ?_
                    refine V_iload_n hC dX4_make_100 rfl ?_
                    refine V_iadd hC dX4_make_101 ?_
                    refine mc3n hC (m_lay hr.1 (by have := hw.1; omega)) rfl mw_lay ⟨⟨(Nat.le_of_ble_eq_true rfl), (Nat.le_of_ble_eq_true rfl)⟩, rfl, rfl⟩ ⟨(Nat.le_of_ble_eq_true rfl), (Nat.le_of_ble_eq_true rfl)⟩ (Nat.le_of_ble_eq_true rfl) dX4_make_102 ?_
                    refine V_aload_n hC dX4_make_105 rfl ?_
                    refine mc0v hC m_keepScore rfl mw_keepScore ⟨⟨(Nat.le_of_ble_eq_true rfl), (Nat.le_of_ble_eq_true rfl)⟩, rfl, rfl⟩ ⟨(Nat.le_of_ble_eq_true rfl), (Nat.le_of_ble_eq_true rfl)⟩ (Nat.le_of_ble_eq_true rfl) dX4_make_106 ?_
                    exact V_iret hC dX4_make_109 (Nat.le_of_ble_eq_true rfl) (Nat.le_of_ble_eq_true rfl) (by
                          rw [n60 hw] at c46
                          have hx4 := c9
                          rw [gIn_c x 4 (by decide) (by decide)] at hx4
                          rcases x03 hx4 with rfl | rfl | rfl | rfl
                          · first | exact absurd c90 (by decide) | exact absurd c71 (by decide) | exact absurd c54 (by decide) | exact absurd c14 (by decide) | exact mk_end hr hw (o_make_ok hx4 (by simp) c46 (by simp)) mk_a (by decide) rfl rfl rfl
                          · first | exact absurd c90 (by decide) | exact absurd c80 (by decide) | exact absurd c71 (by decide) | exact absurd c54 (by decide) | exact absurd c14 (by decide) | exact mk_end hr hw (o_make_ok hx4 (by simp) c46 (by simp)) mk_b (by decide) rfl rfl rfl
                          · first | exact absurd c90 (by decide) | exact absurd c80 (by decide) | exact absurd c71 (by decide) | exact absurd c54 (by decide) | exact absurd c14 (by decide) | exact mk_end hr hw (o_make_ok hx4 (by simp) c46 (by simp)) mk_c (by decide) rfl rfl rfl
                          · first | exact absurd c90 (by decide) | exact absurd c80 (by decide) | exact absurd c71 (by decide) | exact absurd c54 (by decide) | exact absurd c14 (by decide) | exact mk_end3 hr hw hx4 c46 c20 c26 (by rintro ⟨q1, q2⟩; first | exact c30 q1 | exact c34 q2) c58 c62)
                  · refine V_iload_n hC dX4_make_93 rfl ?_
                    refine V_iconst (v := 1) hC dX4_make_94 (by decide) ?_
                    refine V_iadd hC dX4_make_95 ?_
                    refine V_goto (tgt := 102) hC dX4_make_96 (by decide) ?_
                    refine mc3n hC (m_lay hr.1 (by have := hw.1; omega)) rfl mw_lay ⟨⟨(Nat.le_of_ble_eq_true rfl), (Nat.le_of_ble_eq_true rfl)⟩, rfl, rfl⟩ ⟨(Nat.le_of_ble_eq_true rfl), (Nat.le_of_ble_eq_true rfl)⟩ (Nat.le_of_ble_eq_true rfl) dX4_make_102 ?_
                    refine V_aload_n hC dX4_make_105 rfl ?_
                    refine mc0v hC m_keepScore rfl mw_keepScore ⟨⟨(Nat.le_of_ble_eq_true rfl), (Nat.le_of_ble_eq_true rfl)⟩, rfl, rfl⟩ ⟨(Nat.le_of_ble_eq_true rfl), (Nat.le_of_ble_eq_true rfl)⟩ (Nat.le_of_ble_eq_true rfl) dX4_make_106 ?_
                    exact V_iret hC dX4_make_109 (Nat.le_of_ble_eq_true rfl) (Nat.le_of_ble_eq_true rfl) (by
                          rw [n60 hw] at c46
                          have hx4 := c9
                          rw [gIn_c x 4 (by decide) (by decide)] at hx4
                          rcases x03 hx4 with rfl | rfl | rfl | rfl
                          · first | exact absurd c90 (by decide) | exact absurd c71 (by decide) | exact absurd c54 (by decide) | exact absurd c14 (by decide) | exact mk_end hr hw (o_make_ok hx4 (by simp) c46 (by simp)) mk_a (by decide) rfl rfl rfl
                          · first | exact absurd c90 (by decide) | exact absurd c80 (by decide) | exact absurd c71 (by decide) | exact absurd c54 (by decide) | exact absurd c14 (by decide) | exact mk_end hr hw (o_make_ok hx4 (by simp) c46 (by simp)) mk_b (by decide) rfl rfl rfl
                          · first | exact absurd c90 (by decide) | exact absurd c80 (by decide) | exact absurd c71 (by decide) | exact absurd c54 (by decide) | exact absurd c14 (by decide) | exact mk_end hr hw (o_make_ok hx4 (by simp) c46 (by simp)) mk_c (by decide) rfl rfl rfl
                          · first | exact absurd c90 (by decide) | exact absurd c80 (by decide) | exact absurd c71 (by decide) | exact absurd c54 (by decide) | exact absurd c14 (by decide) | exact mk_end3 hr hw hx4 c46 c20 c26 (by rintro ⟨q1, q2⟩; first | exact c30 q1 | exact c34 q2) c58 c62)
              · refine V_iconst (v := 0) hC dX4_make_74 (by decide) ?_
                refine V_goto (tgt := 88) hC dX4_make_75 (by decide) ?_
                refine V_iload_n hC dX4_make_88 rfl ?_
                refine V_iconst (v := 3) hC dX4_make_89 (by decide) ?_
                refine V_icmp_ge (tgt := 99) hC dX4_make_90 (by decide) (fun c90 => ?_) (fun c90 => ?_)
                · refine V_iload_n hC dX4_make_99 rfl ?_
                  refine V_iload_n hC dX4_make_100 rfl ?_
                  refine V_iadd hC dX4_make_101 ?_
                  refine mc3n hC (m_lay hr.1 (by have := hw.1; omega)) rfl mw_lay ⟨⟨(Nat.le_of_ble_eq_true rfl), (Nat.le_of_ble_eq_true rfl)⟩, rfl, rfl⟩ ⟨(Nat.le_of_ble_eq_true rfl), (Nat.le_of_ble_eq_true rfl)⟩ (Nat.le_of_ble_eq_true rfl) dX4_make_102 ?_
                  refine V_aload_n hC dX4_make_105 rfl ?_
                  refine mc0v hC m_keepScore rfl mw_keepScore ⟨⟨(Nat.le_of_ble_eq_true rfl), (Nat.le_of_ble_eq_true rfl)⟩, rfl, rfl⟩ ⟨(Nat.le_of_ble_eq_true rfl), (Nat.le_of_ble_eq_true rfl)⟩ (Nat.le_of_ble_eq_true rfl) dX4_make_106 ?_
                  exact V_iret hC dX4_make_109 (Nat.le_of_ble_eq_true rfl) (Nat.le_of_ble_eq_true rfl) (by
                        rw [n60 hw] at c46
                        have hx4 := c9
                        rw [gIn_c x 4 (by decide) (by decide)] at hx4
                        rcases x03 hx4 with rfl | rfl | rfl | rfl
                        · first | exact absurd c90 (by decide) | exact absurd c71 (by decide) | exact absurd c54 (by decide) | exact absurd c14 (by decide) | exact mk_end hr hw (o_make_ok hx4 (by simp) c46 (by simp)) mk_a (by decide) rfl rfl rfl
                        · first | exact absurd c90 (by decide) | exact absurd c80 (by decide) | exact absurd c71 (by decide) | exact absurd c54 (by decide) | exact absurd c14 (by decide) | exact mk_end hr hw (o_make_ok hx4 (by simp) c46 (by simp)) mk_b (by decide) rfl rfl rfl
                        · first | exact absurd c90 (by decide) | exact absurd c80 (by decide) | exact absurd c71 (by decide) | exact absurd c54 (by decide) | exact absurd c14 (by decide) | exact mk_end hr hw (o_make_ok hx4 (by simp) c46 (by simp)) mk_c (by decide) rfl rfl rfl
                        · first | exact absurd c90 (by decide) | exact absurd c80 (by decide) | exact absurd c71 (by decide) | exact absurd c54 (by decide) | exact absurd c14 (by decide) | exact mk_end3 hr hw hx4 c46 c20 c26 (by rintro ⟨q1, q2⟩; first | exact c30 q1 | exact c34 q2) c58 c62)
                · refine V_iload_n hC dX4_make_93 rfl ?_
                  refine V_iconst (v := 1) hC dX4_make_94 (by decide) ?_
                  refine V_iadd hC dX4_make_95 ?_
                  refine V_goto (tgt := 102) hC dX4_make_96 (by decide) ?_
                  refine mc3n hC (m_lay hr.1 (by have := hw.1; omega)) rfl mw_lay ⟨⟨(Nat.le_of_ble_eq_true rfl), (Nat.le_of_ble_eq_true rfl)⟩, rfl, rfl⟩ ⟨(Nat.le_of_ble_eq_true rfl), (Nat.le_of_ble_eq_true rfl)⟩ (Nat.le_of_ble_eq_true rfl) dX4_make_102 ?_
                  refine V_aload_n hC dX4_make_105 rfl ?_
                  refine mc0v hC m_keepScore rfl mw_keepScore ⟨⟨(Nat.le_of_ble_eq_true rfl), (Nat.le_of_ble_eq_true rfl)⟩, rfl, rfl⟩ ⟨(Nat.le_of_ble_eq_true rfl), (Nat.le_of_ble_eq_true rfl)⟩ (Nat.le_of_ble_eq_true rfl) dX4_make_106 ?_
                  exact V_iret hC dX4_make_109 (Nat.le_of_ble_eq_true rfl) (Nat.le_of_ble_eq_true rfl) (by
                        rw [n60 hw] at c46
                        have hx4 := c9
                        rw [gIn_c x 4 (by decide) (by decide)] at hx4
                        rcases x03 hx4 with rfl | rfl | rfl | rfl
                        · first | exact absurd c90 (by decide) | exact absurd c71 (by decide) | exact absurd c54 (by decide) | exact absurd c14 (by decide) | exact mk_end hr hw (o_make_ok hx4 (by simp) c46 (by simp)) mk_a (by decide) rfl rfl rfl
                        · first | exact absurd c90 (by decide) | exact absurd c80 (by decide) | exact absurd c71 (by decide) | exact absurd c54 (by decide) | exact absurd c14 (by decide) | exact mk_end hr hw (o_make_ok hx4 (by simp) c46 (by simp)) mk_b (by decide) rfl rfl rfl
                        · first | exact absurd c90 (by decide) | exact absurd c80 (by decide) | exact absurd c71 (by decide) | exact absurd c54 (by decide) | exact absurd c14 (by decide) | exact mk_end hr hw (o_make_ok hx4 (by simp) c46 (by simp)) mk_c (by decide) rfl rfl rfl
                        · first | exact absurd c90 (by decide) | exact absurd c80 (by decide) | exact absurd c71 (by decide) | exact absurd c54 (by decide) | exact absurd c14 (by decide) | exact mk_end3 hr hw hx4 c46 c20 c26 (by rintro ⟨q1, q2⟩; first | exact c30 q1 | exact c34 q2) c58 c62)
            · refine V_bipush (v := (-14)) hC dX4_make_65 (by decide) ?_
              exact V_iret hC dX4_make_67 (Nat.le_of_ble_eq_true rfl) (Nat.le_of_ble_eq_true rfl) (RMp_i (by
                    rw [n60 hw] at c46
                    unfold o_make
                    rw [if_neg, if_neg c46, if_pos]
                    · first | exact ⟨c54, Or.inl c58⟩ | exact ⟨c54, Or.inr (by rw [Int32.lt_iff_toInt_lt]; rw [Int32.le_iff_toInt_le] at c62; omega)⟩
                    · rw [gIn_c x 4 (by decide) (by decide)] at c9
                      rintro (q | ⟨q, q1 | q1 | q1⟩)
                      · rw [c9] at q; cases q
                      · first | exact c14 q | exact c20 q1
                      · first | exact c14 q | exact c26 q1
                      · first | exact c14 q | exact c30 q1.1 | exact c34 q1.2) hr)
      · refine V_bipush (v := (-4)) hC dX4_make_49 (by decide) ?_
        exact V_iret hC dX4_make_51 (Nat.le_of_ble_eq_true rfl) (Nat.le_of_ble_eq_true rfl) (RMp_i (by
              unfold o_make
              rw [if_neg, if_pos ((n60 hw).mp c46)]
              rw [gIn_c x 4 (by decide) (by decide)] at c9
              rintro (q | ⟨q, q1 | q1 | q1⟩)
              · rw [c9] at q; cases q
              · first | exact c14 q | exact c20 q1
              · first | exact c14 q | exact c26 q1
              · first | exact c14 q | exact c30 q1.1 | exact c34 q1.2) hr)
    · refine V_iload_n hC dX4_make_17 rfl ?_
      refine V_bipush (v := 6) hC dX4_make_18 (by decide) ?_
      refine V_icmp_gt (tgt := 37) hC dX4_make_20 (by decide) (fun c20 => ?_) (fun c20 => ?_)
      · refine V_bipush (v := (-3)) hC dX4_make_37 (by decide) ?_
        exact V_iret hC dX4_make_39 (Nat.le_of_ble_eq_true rfl) (Nat.le_of_ble_eq_true rfl) (RMp_i (by unfold o_make; rw [if_pos]; first | exact Or.inl (by rw [gIn_c x 4 (by decide) (by decide)] at c9; exact c9) | exact Or.inr ⟨c14, Or.inl c20⟩ | exact Or.inr ⟨c14, Or.inr (Or.inl c26)⟩ | exact Or.inr ⟨c14, Or.inr (Or.inr ⟨c30, c34⟩)⟩) hr)
      · refine V_iload_n hC dX4_make_23 rfl ?_
        refine V_bipush (v := 6) hC dX4_make_24 (by decide) ?_
        refine V_icmp_gt (tgt := 37) hC dX4_make_26 (by decide) (fun c26 => ?_) (fun c26 => ?_)
        · refine V_bipush (v := (-3)) hC dX4_make_37 (by decide) ?_
          exact V_iret hC dX4_make_39 (Nat.le_of_ble_eq_true rfl) (Nat.le_of_ble_eq_true rfl) (RMp_i (by unfold o_make; rw [if_pos]; first | exact Or.inl (by rw [gIn_c x 4 (by decide) (by decide)] at c9; exact c9) | exact Or.inr ⟨c14, Or.inl c20⟩ | exact Or.inr ⟨c14, Or.inr (Or.inl c26)⟩ | exact Or.inr ⟨c14, Or.inr (Or.inr ⟨c30, c34⟩)⟩) hr)
        · refine V_iload_n hC dX4_make_29 rfl ?_
          refine V_if_ne (tgt := 40) hC dX4_make_30 (by decide) (fun c30 => ?_) (fun c30 => ?_)
          · refine V_aload_n hC dX4_make_40 rfl ?_
            refine mg_scores hC dX4_make_41 ?_
            refine V_bipush (v := 60) hC dX4_make_44 (by decide) ?_
            rw [hr.1]
            refine V_icmp_ne (tgt := 52) hC dX4_make_46 (by decide) (fun c46 => ?_) (fun c46 => ?_)
            · refine V_iload_n hC dX4_make_52 rfl ?_
              refine V_iconst (v := 3) hC dX4_make_53 (by decide) ?_
              refine V_icmp_ne (tgt := 68) hC dX4_make_54 (by decide) (fun c54 => ?_) (fun c54 => ?_)
              · refine V_aload_n hC dX4_make_68 rfl ?_
                refine V_iload_n hC dX4_make_69 rfl ?_
                refine V_iload_n hC dX4_make_70 rfl ?_
                refine V_if_ne (tgt := 78) hC dX4_make_71 (by decide) (fun c71 => ?_) (fun c71 => ?_)
                · refine V_iload_n hC dX4_make_78 rfl ?_
                  refine V_iconst (v := 3) hC dX4_make_79 (by decide) ?_
                  refine V_icmp_ge (tgt := 87) hC dX4_make_80 (by decide) (fun c80 => ?_) (fun c80 => ?_)
                  · refine V_iload_n hC dX4_make_87 rfl ?_
                    refine V_iload_n hC dX4_make_88 rfl ?_
                    refine V_iconst (v := 3) hC dX4_make_89 (by decide) ?_
                    refine V_icmp_ge (tgt := 99) hC dX4_make_90 (by decide) (fun c90 => ?_) (fun c90 => ?_)
                    · refine V_iload_n hC dX4_make_99 rfl ?_
                      refine V_iload_n hC dX4_make_100 rfl ?_
                      refine V_iadd hC dX4_make_101 ?_
                      refine mc3n hC (m_lay hr.1 (by have := hw.1; omega)) rfl mw_lay ⟨⟨(Nat.le_of_ble_eq_true rfl), (Nat.le_of_ble_eq_true rfl)⟩, rfl, rfl⟩ ⟨(Nat.le_of_ble_eq_true rfl), (Nat.le_of_ble_eq_true rfl)⟩ (Nat.le_of_ble_eq_true rfl) dX4_make_102 ?_
                      refine V_aload_n hC dX4_make_105 rfl ?_
                      refine mc0v hC m_keepScore rfl mw_keepScore ⟨⟨(Nat.le_of_ble_eq_true rfl), (Nat.le_of_ble_eq_true rfl)⟩, rfl, rfl⟩ ⟨(Nat.le_of_ble_eq_true rfl), (Nat.le_of_ble_eq_true rfl)⟩ (Nat.le_of_ble_eq_true rfl) dX4_make_106 ?_
                      exact V_iret hC dX4_make_109 (Nat.le_of_ble_eq_true rfl) (Nat.le_of_ble_eq_true rfl) (by
                            rw [n60 hw] at c46
                            have hx4 := c9
                            rw [gIn_c x 4 (by decide) (by decide)] at hx4
                            rcases x03 hx4 with rfl | rfl | rfl | rfl
                            · first | exact absurd c90 (by decide) | exact absurd c71 (by decide) | exact absurd c54 (by decide) | exact absurd c14 (by decide) | exact mk_end hr hw (o_make_ok hx4 (by simp) c46 (by simp)) mk_a (by decide) rfl rfl rfl
                            · first | exact absurd c90 (by decide) | exact absurd c80 (by decide) | exact absurd c71 (by decide) | exact absurd c54 (by decide) | exact absurd c14 (by decide) | exact mk_end hr hw (o_make_ok hx4 (by simp) c46 (by simp)) mk_b (by decide) rfl rfl rfl
                            · first | exact absurd c90 (by decide) | exact absurd c80 (by decide) | exact absurd c71 (by decide) | exact absurd c54 (by decide) | exact absurd c14 (by decide) | exact mk_end hr hw (o_make_ok hx4 (by simp) c46 (by simp)) mk_c (by decide) rfl rfl rfl
                            · first | exact absurd c90 (by decide) | exact absurd c80 (by decide) | exact absurd c71 (by decide) | exact absurd c54 (by decide) | exact absurd c14 (by decide) | exact mk_end3 hr hw hx4 c46 c20 c26 (by rintro ⟨q1, q2⟩; first | exact c30 q1 | exact c34 q2) c58 c62)
                    · refine V_iload_n hC dX4_make_93 rfl ?_
                      refine V_iconst (v := 1) hC dX4_make_94 (by decide) ?_
                      refine V_iadd hC dX4_make_95 ?_
                      refine V_goto (tgt := 102) hC dX4_make_96 (by decide) ?_
                      refine mc3n hC (m_lay hr.1 (by have := hw.1; omega)) rfl mw_lay ⟨⟨(Nat.le_of_ble_eq_true rfl), (Nat.le_of_ble_eq_true rfl)⟩, rfl, rfl⟩ ⟨(Nat.le_of_ble_eq_true rfl), (Nat.le_of_ble_eq_true rfl)⟩ (Nat.le_of_ble_eq_true rfl) dX4_make_102 ?_
                      refine V_aload_n hC dX4_make_105 rfl ?_
                      refine mc0v hC m_keepScore rfl mw_keepScore ⟨⟨(Nat.le_of_ble_eq_true rfl), (Nat.le_of_ble_eq_true rfl)⟩, rfl, rfl⟩ ⟨(Nat.le_of_ble_eq_true rfl), (Nat.le_of_ble_eq_true rfl)⟩ (Nat.le_of_ble_eq_true rfl) dX4_make_106 ?_
                      exact V_iret hC dX4_make_109 (Nat.le_of_ble_eq_true rfl) (Nat.le_of_ble_eq_true rfl) (by
                            rw [n60 hw] at c46
                            have hx4 := c9
                            rw [gIn_c x 4 (by decide) (by decide)] at hx4
                            rcases x03 hx4 with rfl | rfl | rfl | rfl
                            · first | exact absurd c90 (by decide) | exact absurd c71 (by decide) | exact absurd c54 (by decide) | exact absurd c14 (by decide) | exact mk_end hr hw (o_make_ok hx4 (by simp) c46 (by simp)) mk_a (by decide) rfl rfl rfl
                            · first | exact absurd c90 (by decide) | exact absurd c80 (by decide) | exact absurd c71 (by decide) | exact absurd c54 (by decide) | exact absurd c14 (by decide) | exact mk_end hr hw (o_make_ok hx4 (by simp) c46 (by simp)) mk_b (by decide) rfl rfl rfl
                            · first | exact absurd c90 (by decide) | exact absurd c80 (by decide) | exact absurd c71 (by decide) | exact absurd c54 (by decide) | exact absurd c14 (by decide) | exact mk_end hr hw (o_make_ok hx4 (by simp) c46 (by simp)) mk_c (by decide) rfl rfl rfl
                            · first | exact absurd c90 (by decide) | exact absurd c80 (by decide) | exact absurd c71 (by decide) | exact absurd c54 (by decide) | exact absurd c14 (by decide) | exact mk_end3 hr hw hx4 c46 c20 c26 (by rintro ⟨q1, q2⟩; first | exact c30 q1 | exact c34 q2) c58 c62)
                  · refine V_iconst (v := 1) hC dX4_make_83 (by decide) ?_
                    refine V_goto (tgt := 88) hC dX4_make_84 (by decide) ?_
                    refine V_iload_n hC dX4_make_88 rfl ?_
                    refine V_iconst (v := 3) hC dX4_make_89 (by decide) ?_
                    refine V_icmp_ge (tgt := 99) hC dX4_make_90 (by decide) (fun c90 => ?_) (fun c90 => ?_)
                    · refine V_iload_n hC dX4_make_99 rfl ?_
                      refine V_iload_n hC dX4_make_100 rfl ?_
                      refine V_iadd hC dX4_make_101 ?_
                      refine mc3n hC (m_lay hr.1 (by have := hw.1; omega)) rfl mw_lay ⟨⟨(Nat.le_of_ble_eq_true rfl), (Nat.le_of_ble_eq_true rfl)⟩, rfl, rfl⟩ ⟨(Nat.le_of_ble_eq_true rfl), (Nat.le_of_ble_eq_true rfl)⟩ (Nat.le_of_ble_eq_true rfl) dX4_make_102 ?_
                      refine V_aload_n hC dX4_make_105 rfl ?_
                      refine mc0v hC m_keepScore rfl mw_keepScore ⟨⟨(Nat.le_of_ble_eq_true rfl), (Nat.le_of_ble_eq_true rfl)⟩, rfl, rfl⟩ ⟨(Nat.le_of_ble_eq_true rfl), (Nat.le_of_ble_eq_true rfl)⟩ (Nat.le_of_ble_eq_true rfl) dX4_make_106 ?_
                      exact V_iret hC dX4_make_109 (Nat.le_of_ble_eq_true rfl) (Nat.le_of_ble_eq_true rfl) (by
                            rw [n60 hw] at c46
                            have hx4 := c9
                            rw [gIn_c x 4 (by decide) (by decide)] at hx4
                            rcases x03 hx4 with rfl | rfl | rfl | rfl
                            · first | exact absurd c90 (by decide) | exact absurd c71 (by decide) | exact absurd c54 (by decide) | exact absurd c14 (by decide) | exact mk_end hr hw (o_make_ok hx4 (by simp) c46 (by simp)) mk_a (by decide) rfl rfl rfl
                            · first | exact absurd c90 (by decide) | exact absurd c80 (by decide) | exact absurd c71 (by decide) | exact absurd c54 (by decide) | exact absurd c14 (by decide) | exact mk_end hr hw (o_make_ok hx4 (by simp) c46 (by simp)) mk_b (by decide) rfl rfl rfl
                            · first | exact absurd c90 (by decide) | exact absurd c80 (by decide) | exact absurd c71 (by decide) | exact absurd c54 (by decide) | exact absurd c14 (by decide) | exact mk_end hr hw (o_make_ok hx4 (by simp) c46 (by simp)) mk_c (by decide) rfl rfl rfl
                            · first | exact absurd c90 (by decide) | exact absurd c80 (by decide) | exact absurd c71 (by decide) | exact absurd c54 (by decide) | exact absurd c14 (by decide) | exact mk_end3 hr hw hx4 c46 c20 c26 (by rintro ⟨q1, q2⟩; first | exact c30 q1 | exact c34 q2) c58 c62)
                    · refine V_iload_n hC dX4_make_93 rfl ?_
                      refine V_iconst (v := 1) hC dX4_make_94 (by decide) ?_
                      refine V_iadd hC dX4_make_95 ?_
                      refine V_goto (tgt := 102) hC dX4_make_96 (by decide) ?_
                      refine mc3n hC (m_lay hr.1 (by have := hw.1; omega)) rfl mw_lay ⟨⟨(Nat.le_of_ble_eq_true rfl), (Nat.le_of_ble_eq_true rfl)⟩, rfl, rfl⟩ ⟨(Nat.le_of_ble_eq_true rfl), (Nat.le_of_ble_eq_true rfl)⟩ (Nat.le_of_ble_eq_true rfl) dX4_make_102 ?_
                      refine V_aload_n hC dX4_make_105 rfl ?_
                      refine mc0v hC m_keepScore rfl mw_keepScore ⟨⟨(Nat.le_of_ble_eq_true rfl), (Nat.le_of_ble_eq_true rfl)⟩, rfl, rfl⟩ ⟨(Nat.le_of_ble_eq_true rfl), (Nat.le_of_ble_eq_true rfl)⟩ (Nat.le_of_ble_eq_true rfl) dX4_make_106 ?_
                      exact V_iret hC dX4_make_109 (Nat.le_of_ble_eq_true rfl) (Nat.le_of_ble_eq_true rfl) (by
                            rw [n60 hw] at c46
                            have hx4 := c9
                            rw [gIn_c x 4 (by decide) (by decide)] at hx4
                            rcases x03 hx4 with rfl | rfl | rfl | rfl
                            · first | exact absurd c90 (by decide) | exact absurd c71 (by decide) | exact absurd c54 (by decide) | exact absurd c14 (by decide) | exact mk_end hr hw (o_make_ok hx4 (by simp) c46 (by simp)) mk_a (by decide) rfl rfl rfl
                            · first | exact absurd c90 (by decide) | exact absurd c80 (by decide) | exact absurd c71 (by decide) | exact absurd c54 (by decide) | exact absurd c14 (by decide) | exact mk_end hr hw (o_make_ok hx4 (by simp) c46 (by simp)) mk_b (by decide) rfl rfl rfl
                            · first | exact absurd c90 (by decide) | exact absurd c80 (by decide) | exact absurd c71 (by decide) | exact absurd c54 (by decide) | exact absurd c14 (by decide) | exact mk_end hr hw (o_make_ok hx4 (by simp) c46 (by simp)) mk_c (by decide) rfl rfl rfl
                            · first | exact absurd c90 (by decide) | exact absurd c80 (by decide) | exact absurd c71 (by decide) | exact absurd c54 (by decide) | exact absurd c14 (by decide) | exact mk_end3 hr hw hx4 c46 c20 c26 (by rintro ⟨q1, q2⟩; first | exact c30 q1 | exact c34 q2) c58 c62)
                · refine V_iconst (v := 0) hC dX4_make_74 (by decide) ?_
                  refine V_goto (tgt := 88) hC dX4_make_75 (by decide) ?_
                  refine V_iload_n hC dX4_make_88 rfl ?_
                  refine V_iconst (v := 3) hC dX4_make_89 (by decide) ?_
                  refine V_icmp_ge (tgt := 99) hC dX4_make_90 (by decide) (fun c90 => ?_) (fun c90 => ?_)
                  · refine V_iload_n hC dX4_make_99 rfl ?_
                    refine V_iload_n hC dX4_make_100 rfl ?_
                    refine V_iadd hC dX4_make_101 ?_
                    refine mc3n hC (m_lay hr.1 (by have := hw.1; omega)) rfl mw_lay ⟨⟨(Nat.le_of_ble_eq_true rfl), (Nat.le_of_ble_eq_true rfl)⟩, rfl, rfl⟩ ⟨(Nat.le_of_ble_eq_true rfl), (Nat.le_of_ble_eq_true rfl)⟩ (Nat.le_of_ble_eq_true rfl) dX4_make_102 ?_
                    refine V_aload_n hC dX4_make_105 rfl ?_
                    refine mc0v hC m_keepScore rfl mw_keepScore ⟨⟨(Nat.le_of_ble_eq_true rfl), (Nat.le_of_ble_eq_true rfl)⟩, rfl, rfl⟩ ⟨(Nat.le_of_ble_eq_true rfl), (Nat.le_of_ble_eq_true rfl)⟩ (Nat.le_of_ble_eq_true rfl) dX4_make_106 ?_
                    exact V_iret hC dX4_make_109 (Nat.le_of_ble_eq_true rfl) (Nat.le_of_ble_eq_true rfl) (by
                          rw [n60 hw] at c46
                          have hx4 := c9
                          rw [gIn_c x 4 (by decide) (by decide)] at hx4
                          rcases x03 hx4 with rfl | rfl | rfl | rfl
                          · first | exact absurd c90 (by decide) | exact absurd c71 (by decide) | exact absurd c54 (by decide) | exact absurd c14 (by decide) | exact mk_end hr hw (o_make_ok hx4 (by simp) c46 (by simp)) mk_a (by decide) rfl rfl rfl
                          · first | exact absurd c90 (by decide) | exact absurd c80 (by decide) | exact absurd c71 (by decide) | exact absurd c54 (by decide) | exact absurd c14 (by decide) | exact mk_end hr hw (o_make_ok hx4 (by simp) c46 (by simp)) mk_b (by decide) rfl rfl rfl
                          · first | exact absurd c90 (by decide) | exact absurd c80 (by decide) | exact absurd c71 (by decide) | exact absurd c54 (by decide) | exact absurd c14 (by decide) | exact mk_end hr hw (o_make_ok hx4 (by simp) c46 (by simp)) mk_c (by decide) rfl rfl rfl
                          · first | exact absurd c90 (by decide) | exact absurd c80 (by decide) | exact absurd c71 (by decide) | exact absurd c54 (by decide) | exact absurd c14 (by decide) | exact mk_end3 hr hw hx4 c46 c20 c26 (by rintro ⟨q1, q2⟩; first | exact c30 q1 | exact c34 q2) c58 c62)
                  · refine V_iload_n hC dX4_make_93 rfl ?_
                    refine V_iconst (v := 1) hC dX4_make_94 (by decide) ?_
                    refine V_iadd hC dX4_make_95 ?_
                    refine V_goto (tgt := 102) hC dX4_make_96 (by decide) ?_
                    refine mc3n hC (m_lay hr.1 (by have := hw.1; omega)) rfl mw_lay ⟨⟨(Nat.le_of_ble_eq_true rfl), (Nat.le_of_ble_eq_true rfl)⟩, rfl, rfl⟩ ⟨(Nat.le_of_ble_eq_true rfl), (Nat.le_of_ble_eq_true rfl)⟩ (Nat.le_of_ble_eq_true rfl) dX4_make_102 ?_
                    refine V_aload_n hC dX4_make_105 rfl ?_
                    refine mc0v hC m_keepScore rfl mw_keepScore ⟨⟨(Nat.le_of_ble_eq_true rfl), (Nat.le_of_ble_eq_true rfl)⟩, rfl, rfl⟩ ⟨(Nat.le_of_ble_eq_true rfl), (Nat.le_of_ble_eq_true rfl)⟩ (Nat.le_of_ble_eq_true rfl) dX4_make_106 ?_
                    exact V_iret hC dX4_make_109 (Nat.le_of_ble_eq_true rfl) (Nat.le_of_ble_eq_true rfl) (by
                          rw [n60 hw] at c46
                          have hx4 := c9
                          rw [gIn_c x 4 (by decide) (by decide)] at hx4
                          rcases x03 hx4 with rfl | rfl | rfl | rfl
                          · first | exact absurd c90 (by decide) | exact absurd c71 (by decide) | exact absurd c54 (by decide) | exact absurd c14 (by decide) | exact mk_end hr hw (o_make_ok hx4 (by simp) c46 (by simp)) mk_a (by decide) rfl rfl rfl
                          · first | exact absurd c90 (by decide) | exact absurd c80 (by decide) | exact absurd c71 (by decide) | exact absurd c54 (by decide) | exact absurd c14 (by decide) | exact mk_end hr hw (o_make_ok hx4 (by simp) c46 (by simp)) mk_b (by decide) rfl rfl rfl
                          · first | exact absurd c90 (by decide) | exact absurd c80 (by decide) | exact absurd c71 (by decide) | exact absurd c54 (by decide) | exact absurd c14 (by decide) | exact mk_end hr hw (o_make_ok hx4 (by simp) c46 (by simp)) mk_c (by decide) rfl rfl rfl
                          · first | exact absurd c90 (by decide) | exact absurd c80 (by decide) | exact absurd c71 (by decide) | exact absurd c54 (by decide) | exact absurd c14 (by decide) | exact mk_end3 hr hw hx4 c46 c20 c26 (by rintro ⟨q1, q2⟩; first | exact c30 q1 | exact c34 q2) c58 c62)
              · refine V_iload_n hC dX4_make_57 rfl ?_
                refine V_if_lt (tgt := 65) hC dX4_make_58 (by decide) (fun c58 => ?_) (fun c58 => ?_)
                · refine V_bipush (v := (-14)) hC dX4_make_65 (by decide) ?_
                  exact V_iret hC dX4_make_67 (Nat.le_of_ble_eq_true rfl) (Nat.le_of_ble_eq_true rfl) (RMp_i (by
                        rw [n60 hw] at c46
                        unfold o_make
                        rw [if_neg, if_neg c46, if_pos]
                        · first | exact ⟨c54, Or.inl c58⟩ | exact ⟨c54, Or.inr (by rw [Int32.lt_iff_toInt_lt]; rw [Int32.le_iff_toInt_le] at c62; omega)⟩
                        · rw [gIn_c x 4 (by decide) (by decide)] at c9
                          rintro (q | ⟨q, q1 | q1 | q1⟩)
                          · rw [c9] at q; cases q
                          · first | exact c14 q | exact c20 q1
                          · first | exact c14 q | exact c26 q1
                          · first | exact c14 q | exact c30 q1.1 | exact c34 q1.2) hr)
                · refine V_iload_n hC dX4_make_61 rfl ?_
                  refine V_if_ge (tgt := 68) hC dX4_make_62 (by decide) (fun c62 => ?_) (fun c62 => ?_)
                  · refine V_aload_n hC dX4_make_68 rfl ?_
                    refine V_iload_n hC dX4_make_69 rfl ?_
                    refine V_iload_n hC dX4_make_70 rfl ?_
                    refine V_if_ne (tgt := 78) hC dX4_make_71 (by decide) (fun c71 => ?_) (fun c71 => ?_)
                    · refine V_iload_n hC dX4_make_78 rfl ?_
                      refine V_iconst (v := 3) hC dX4_make_79 (by decide) ?_
                      refine V_icmp_ge (tgt := 87) hC dX4_make_80 (by decide) (fun c80 => ?_) (fun c80 => ?_)
                      · refine V_iload_n hC dX4_make_87 rfl ?_
                        refine V_iload_n hC dX4_make_88 rfl ?_
                        refine V_iconst (v := 3) hC dX4_make_89 (by decide) ?_
                        refine V_icmp_ge (tgt := 99) hC dX4_make_90 (by decide) (fun c90 => ?_) (fun c90 => ?_)
                        · refine V_iload_n hC dX4_make_99 rfl ?_
                          refine V_iload_n hC dX4_make_100 rfl ?_
                          refine V_iadd hC dX4_make_101 ?_
                          refine mc3n hC (m_lay hr.1 (by have := hw.1; omega)) rfl mw_lay ⟨⟨(Nat.le_of_ble_eq_true rfl), (Nat.le_of_ble_eq_true rfl)⟩, rfl, rfl⟩ ⟨(Nat.le_of_ble_eq_true rfl), (Nat.le_of_ble_eq_true rfl)⟩ (Nat.le_of_ble_eq_true rfl) dX4_make_102 ?_
                          refine V_aload_n hC dX4_make_105 rfl ?_
                          refine mc0v hC m_keepScore rfl mw_keepScore ⟨⟨(Nat.le_of_ble_eq_true rfl), (Nat.le_of_ble_eq_true rfl)⟩, rfl, rfl⟩ ⟨(Nat.le_of_ble_eq_true rfl), (Nat.le_of_ble_eq_true rfl)⟩ (Nat.le_of_ble_eq_true rfl) dX4_make_106 ?_
                          exact V_iret hC dX4_make_109 (Nat.le_of_ble_eq_true rfl) (Nat.le_of_ble_eq_true rfl) (by
                                rw [n60 hw] at c46
                                have hx4 := c9
                                rw [gIn_c x 4 (by decide) (by decide)] at hx4
                                rcases x03 hx4 with rfl | rfl | rfl | rfl
                                · first | exact absurd c90 (by decide) | exact absurd c71 (by decide) | exact absurd c54 (by decide) | exact absurd c14 (by decide) | exact mk_end hr hw (o_make_ok hx4 (by simp) c46 (by simp)) mk_a (by decide) rfl rfl rfl
                                · first | exact absurd c90 (by decide) | exact absurd c80 (by decide) | exact absurd c71 (by decide) | exact absurd c54 (by decide) | exact absurd c14 (by decide) | exact mk_end hr hw (o_make_ok hx4 (by simp) c46 (by simp)) mk_b (by decide) rfl rfl rfl
                                · first | exact absurd c90 (by decide) | exact absurd c80 (by decide) | exact absurd c71 (by decide) | exact absurd c54 (by decide) | exact absurd c14 (by decide) | exact mk_end hr hw (o_make_ok hx4 (by simp) c46 (by simp)) mk_c (by decide) rfl rfl rfl
                                · first | exact absurd c90 (by decide) | exact absurd c80 (by decide) | exact absurd c71 (by decide) | exact absurd c54 (by decide) | exact absurd c14 (by decide) | exact mk_end3 hr hw hx4 c46 c20 c26 (by rintro ⟨q1, q2⟩; first | exact c30 q1 | exact c34 q2) c58 c62)
                        · refine V_iload_n hC dX4_make_93 rfl ?_
                          refine V_iconst (v := 1) hC dX4_make_94 (by decide) ?_
                          refine V_iadd hC dX4_make_95 ?_
                          refine V_goto (tgt := 102) hC dX4_make_96 (by decide) ?_
                          refine mc3n hC (m_lay hr.1 (by have := hw.1; omega)) rfl mw_lay ⟨⟨(Nat.le_of_ble_eq_true rfl), (Nat.le_of_ble_eq_true rfl)⟩, rfl, rfl⟩ ⟨(Nat.le_of_ble_eq_true rfl), (Nat.le_of_ble_eq_true rfl)⟩ (Nat.le_of_ble_eq_true rfl) dX4_make_102 ?_
                          refine V_aload_n hC dX4_make_105 rfl ?_
                          refine mc0v hC m_keepScore rfl mw_keepScore ⟨⟨(Nat.le_of_ble_eq_true rfl), (Nat.le_of_ble_eq_true rfl)⟩, rfl, rfl⟩ ⟨(Nat.le_of_ble_eq_true rfl), (Nat.le_of_ble_eq_true rfl)⟩ (Nat.le_of_ble_eq_true rfl) dX4_make_106 ?_
                          exact V_iret hC dX4_make_109 (Nat.le_of_ble_eq_true rfl) (Nat.le_of_ble_eq_true rfl) (by
                                rw [n60 hw] at c46
                                have hx4 := c9
                                rw [gIn_c x 4 (by decide) (by decide)] at hx4
                                rcases x03 hx4 with rfl | rfl | rfl | rfl
                                · first | exact absurd c90 (by decide) | exact absurd c71 (by decide) | exact absurd c54 (by decide) | exact absurd c14 (by decide) | exact mk_end hr hw (o_make_ok hx4 (by simp) c46 (by simp)) mk_a (by decide) rfl rfl rfl
                                · first | exact absurd c90 (by decide) | exact absurd c80 (by decide) | exact absurd c71 (by decide) | exact absurd c54 (by decide) | exact absurd c14 (by decide) | exact mk_end hr hw (o_make_ok hx4 (by simp) c46 (by simp)) mk_b (by decide) rfl rfl rfl
                                · first | exact absurd c90 (by decide) | exact absurd c80 (by decide) | exact absurd c71 (by decide) | exact absurd c54 (by decide) | exact absurd c14 (by decide) | exact mk_end hr hw (o_make_ok hx4 (by simp) c46 (by simp)) mk_c (by decide) rfl rfl rfl
                                · first | exact absurd c90 (by decide) | exact absurd c80 (by decide) | exact absurd c71 (by decide) | exact absurd c54 (by decide) | exact absurd c14 (by decide) | exact mk_end3 hr hw hx4 c46 c20 c26 (by rintro ⟨q1, q2⟩; first | exact c30 q1 | exact c34 q2) c58 c62)
                      · refine V_iconst (v := 1) hC dX4_make_83 (by decide) ?_
                        refine V_goto (tgt := 88) hC dX4_make_84 (by decide) ?_
                        refine V_iload_n hC dX4_make_88 rfl ?_
                        refine V_iconst (v := 3) hC dX4_make_89 (by decide) ?_
                        refine V_icmp_ge (tgt := 99) hC dX4_make_90 (by decide) (fun c90 => ?_) (fun c90 => ?_)
                        · refine V_iload_n hC dX4_make_99 rfl ?_
                          refine V_iload_n hC dX4_make_100 rfl ?_
                          refine V_iadd hC dX4_make_101 ?_
                          refine mc3n hC (m_lay hr.1 (by have := hw.1; omega)) rfl mw_lay ⟨⟨(Nat.le_of_ble_eq_true rfl), (Nat.le_of_ble_eq_true rfl)⟩, rfl, rfl⟩ ⟨(Nat.le_of_ble_eq_true rfl), (Nat.le_of_ble_eq_true rfl)⟩ (Nat.le_of_ble_eq_true rfl) dX4_make_102 ?_
                          refine V_aload_n hC dX4_make_105 rfl ?_
                          refine mc0v hC m_keepScore rfl mw_keepScore ⟨⟨(Nat.le_of_ble_eq_true rfl), (Nat.le_of_ble_eq_true rfl)⟩, rfl, rfl⟩ ⟨(Nat.le_of_ble_eq_true rfl), (Nat.le_of_ble_eq_true rfl)⟩ (Nat.le_of_ble_eq_true rfl) dX4_make_106 ?_
                          exact V_iret hC dX4_make_109 (Nat.le_of_ble_eq_true rfl) (Nat.le_of_ble_eq_true rfl) (by
                                rw [n60 hw] at c46
                                have hx4 := c9
                                rw [gIn_c x 4 (by decide) (by decide)] at hx4
                                rcases x03 hx4 with rfl | rfl | rfl | rfl
                                · first | exact absurd c90 (by decide) | exact absurd c71 (by decide) | exact absurd c54 (by decide) | exact absurd c14 (by decide) | exact mk_end hr hw (o_make_ok hx4 (by simp) c46 (by simp)) mk_a (by decide) rfl rfl rfl
                                · first | exact absurd c90 (by decide) | exact absurd c80 (by decide) | exact absurd c71 (by decide) | exact absurd c54 (by decide) | exact absurd c14 (by decide) | exact mk_end hr hw (o_make_ok hx4 (by simp) c46 (by simp)) mk_b (by decide) rfl rfl rfl
                                · first | exact absurd c90 (by decide) | exact absurd c80 (by decide) | exact absurd c71 (by decide) | exact absurd c54 (by decide) | exact absurd c14 (by decide) | exact mk_end hr hw (o_make_ok hx4 (by simp) c46 (by simp)) mk_c (by decide) rfl rfl rfl
                                · first | exact absurd c90 (by decide) | exact absurd c80 (by decide) | exact absurd c71 (by decide) | exact absurd c54 (by decide) | exact absurd c14 (by decide) | exact mk_end3 hr hw hx4 c46 c20 c26 (by rintro ⟨q1, q2⟩; first | exact c30 q1 | exact c34 q2) c58 c62)
                        · refine V_iload_n hC dX4_make_93 rfl ?_
                          refine V_iconst (v := 1) hC dX4_make_94 (by decide) ?_
                          refine V_iadd hC dX4_make_95 ?_
                          refine V_goto (tgt := 102) hC dX4_make_96 (by decide) ?_
                          refine mc3n hC (m_lay hr.1 (by have := hw.1; omega)) rfl mw_lay ⟨⟨(Nat.le_of_ble_eq_true rfl), (Nat.le_of_ble_eq_true rfl)⟩, rfl, rfl⟩ ⟨(Nat.le_of_ble_eq_true rfl), (Nat.le_of_ble_eq_true rfl)⟩ (Nat.le_of_ble_eq_true rfl) dX4_make_102 ?_
                          refine V_aload_n hC dX4_make_105 rfl ?_
                          refine mc0v hC m_keepScore rfl mw_keepScore ⟨⟨(Nat.le_of_ble_eq_true rfl), (Nat.le_of_ble_eq_true rfl)⟩, rfl, rfl⟩ ⟨(Nat.le_of_ble_eq_true rfl), (Nat.le_of_ble_eq_true rfl)⟩ (Nat.le_of_ble_eq_true rfl) dX4_make_106 ?_
                          exact V_iret hC dX4_make_109 (Nat.le_of_ble_eq_true rfl) (Nat.le_of_ble_eq_true rfl) (by
                                rw [n60 hw] at c46
                                have hx4 := c9
                                rw [gIn_c x 4 (by decide) (by decide)] at hx4
                                rcases x03 hx4 with rfl | rfl | rfl | rfl
                                · first | exact absurd c90 (by decide) | exact absurd c71 (by decide) | exact absurd c54 (by decide) | exact absurd c14 (by decide) | exact mk_end hr hw (o_make_ok hx4 (by simp) c46 (by simp)) mk_a (by decide) rfl rfl rfl
                                · first | exact absurd c90 (by decide) | exact absurd c80 (by decide) | exact absurd c71 (by decide) | exact absurd c54 (by decide) | exact absurd c14 (by decide) | exact mk_end hr hw (o_make_ok hx4 (by simp) c46 (by simp)) mk_b (by decide) rfl rfl rfl
                                · first | exact absurd c90 (by decide) | exact absurd c80 (by decide) | exact absurd c71 (by decide) | exact absurd c54 (by decide) | exact absurd c14 (by decide) | exact mk_end hr hw (o_make_ok hx4 (by simp) c46 (by simp)) mk_c (by decide) rfl rfl rfl
                                · first | exact absurd c90 (by decide) | exact absurd c80 (by decide) | exact absurd c71 (by decide) | exact absurd c54 (by decide) | exact absurd c14 (by decide) | exact mk_end3 hr hw hx4 c46 c20 c26 (by rintro ⟨q1, q2⟩; first | exact c30 q1 | exact c34 q2) c58 c62)
                    · refine V_iconst (v := 0) hC dX4_make_74 (by decide) ?_
                      refine V_goto (tgt := 88) hC dX4_make_75 (by decide) ?_
                      refine V_iload_n hC dX4_make_88 rfl ?_
                      refine V_iconst (v := 3) hC dX4_make_89 (by decide) ?_
                      refine V_icmp_ge (tgt := 99) hC dX4_make_90 (by decide) (fun c90 => ?_) (fun c90 => ?_)
                      · refine V_iload_n hC dX4_make_99 rfl ?_
                        refine V_iload_n hC dX4_make_100 rfl ?_
                        refine V_iadd hC dX4_make_101 ?_
                        refine mc3n hC (m_lay hr.1 (by have := hw.1; omega)) rfl mw_lay ⟨⟨(Nat.le_of_ble_eq_true rfl), (Nat.le_of_ble_eq_true rfl)⟩, rfl, rfl⟩ ⟨(Nat.le_of_ble_eq_true rfl), (Nat.le_of_ble_eq_true rfl)⟩ (Nat.le_of_ble_eq_true rfl) dX4_make_102 ?_
                        refine V_aload_n hC dX4_make_105 rfl ?_
                        refine mc0v hC m_keepScore rfl mw_keepScore ⟨⟨(Nat.le_of_ble_eq_true rfl), (Nat.le_of_ble_eq_true rfl)⟩, rfl, rfl⟩ ⟨(Nat.le_of_ble_eq_true rfl), (Nat.le_of_ble_eq_true rfl)⟩ (Nat.le_of_ble_eq_true rfl) dX4_make_106 ?_
                        exact V_iret hC dX4_make_109 (Nat.le_of_ble_eq_true rfl) (Nat.le_of_ble_eq_true rfl) (by
                              rw [n60 hw] at c46
                              have hx4 := c9
                              rw [gIn_c x 4 (by decide) (by decide)] at hx4
                              rcases x03 hx4 with rfl | rfl | rfl | rfl
                              · first | exact absurd c90 (by decide) | exact absurd c71 (by decide) | exact absurd c54 (by decide) | exact absurd c14 (by decide) | exact mk_end hr hw (o_make_ok hx4 (by simp) c46 (by simp)) mk_a (by decide) rfl rfl rfl
                              · first | exact absurd c90 (by decide) | exact absurd c80 (by decide) | exact absurd c71 (by decide) | exact absurd c54 (by decide) | exact absurd c14 (by decide) | exact mk_end hr hw (o_make_ok hx4 (by simp) c46 (by simp)) mk_b (by decide) rfl rfl rfl
                              · first | exact absurd c90 (by decide) | exact absurd c80 (by decide) | exact absurd c71 (by decide) | exact absurd c54 (by decide) | exact absurd c14 (by decide) | exact mk_end hr hw (o_make_ok hx4 (by simp) c46 (by simp)) mk_c (by decide) rfl rfl rfl
                              · first | exact absurd c90 (by decide) | exact absurd c80 (by decide) | exact absurd c71 (by decide) | exact absurd c54 (by decide) | exact absurd c14 (by decide) | exact mk_end3 hr hw hx4 c46 c20 c26 (by rintro ⟨q1, q2⟩; first | exact c30 q1 | exact c34 q2) c58 c62)
                      · refine V_iload_n hC dX4_make_93 rfl ?_
                        refine V_iconst (v := 1) hC dX4_make_94 (by decide) ?_
                        refine V_iadd hC dX4_make_95 ?_
                        refine V_goto (tgt := 102) hC dX4_make_96 (by decide) ?_
                        refine mc3n hC (m_lay hr.1 (by have := hw.1; omega)) rfl mw_lay ⟨⟨(Nat.le_of_ble_eq_true rfl), (Nat.le_of_ble_eq_true rfl)⟩, rfl, rfl⟩ ⟨(Nat.le_of_ble_eq_true rfl), (Nat.le_of_ble_eq_true rfl)⟩ (Nat.le_of_ble_eq_true rfl) dX4_make_102 ?_
                        refine V_aload_n hC dX4_make_105 rfl ?_
                        refine mc0v hC m_keepScore rfl mw_keepScore ⟨⟨(Nat.le_of_ble_eq_true rfl), (Nat.le_of_ble_eq_true rfl)⟩, rfl, rfl⟩ ⟨(Nat.le_of_ble_eq_true rfl), (Nat.le_of_ble_eq_true rfl)⟩ (Nat.le_of_ble_eq_true rfl) dX4_make_106 ?_
                        exact V_iret hC dX4_make_109 (Nat.le_of_ble_eq_true rfl) (Nat.le_of_ble_eq_true rfl) (by
                              rw [n60 hw] at c46
                              have hx4 := c9
                              rw [gIn_c x 4 (by decide) (by decide)] at hx4
                              rcases x03 hx4 with rfl | rfl | rfl | rfl
                              · first | exact absurd c90 (by decide) | exact absurd c71 (by decide) | exact absurd c54 (by decide) | exact absurd c14 (by decide) | exact mk_end hr hw (o_make_ok hx4 (by simp) c46 (by simp)) mk_a (by decide) rfl rfl rfl
                              · first | exact absurd c90 (by decide) | exact absurd c80 (by decide) | exact absurd c71 (by decide) | exact absurd c54 (by decide) | exact absurd c14 (by decide) | exact mk_end hr hw (o_make_ok hx4 (by simp) c46 (by simp)) mk_b (by decide) rfl rfl rfl
                              · first | exact absurd c90 (by decide) | exact absurd c80 (by decide) | exact absurd c71 (by decide) | exact absurd c54 (by decide) | exact absurd c14 (by decide) | exact mk_end hr hw (o_make_ok hx4 (by simp) c46 (by simp)) mk_c (by decide) rfl rfl rfl
                              · first | exact absurd c90 (by decide) | exact absurd c80 (by decide) | exact absurd c71 (by decide) | exact absurd c54 (by decide) | exact absurd c14 (by decide) | exact mk_end3 hr hw hx4 c46 c20 c26 (by rintro ⟨q1, q2⟩; first | exact c30 q1 | exact c34 q2) c58 c62)
                  · refine V_bipush (v := (-14)) hC dX4_make_65 (by decide) ?_
                    exact V_iret hC dX4_make_67 (Nat.le_of_ble_eq_true rfl) (Nat.le_of_ble_eq_true rfl) (RMp_i (by
                          rw [n60 hw] at c46
                          unfold o_make
                          rw [if_neg, if_neg c46, if_pos]
                          · first | exact ⟨c54, Or.inl c58⟩ | exact ⟨c54, Or.inr (by rw [Int32.lt_iff_toInt_lt]; rw [Int32.le_iff_toInt_le] at c62; omega)⟩
                          · rw [gIn_c x 4 (by decide) (by decide)] at c9
                            rintro (q | ⟨q, q1 | q1 | q1⟩)
                            · rw [c9] at q; cases q
                            · first | exact c14 q | exact c20 q1
                            · first | exact c14 q | exact c26 q1
                            · first | exact c14 q | exact c30 q1.1 | exact c34 q1.2) hr)
            · refine V_bipush (v := (-4)) hC dX4_make_49 (by decide) ?_
              exact V_iret hC dX4_make_51 (Nat.le_of_ble_eq_true rfl) (Nat.le_of_ble_eq_true rfl) (RMp_i (by
                    unfold o_make
                    rw [if_neg, if_pos ((n60 hw).mp c46)]
                    rw [gIn_c x 4 (by decide) (by decide)] at c9
                    rintro (q | ⟨q, q1 | q1 | q1⟩)
                    · rw [c9] at q; cases q
                    · first | exact c14 q | exact c20 q1
                    · first | exact c14 q | exact c26 q1
                    · first | exact c14 q | exact c30 q1.1 | exact c34 q1.2) hr)
          · refine V_iload_n hC dX4_make_33 rfl ?_
            refine V_if_ne (tgt := 40) hC dX4_make_34 (by decide) (fun c34 => ?_) (fun c34 => ?_)
            · refine V_aload_n hC dX4_make_40 rfl ?_
              refine mg_scores hC dX4_make_41 ?_
              refine V_bipush (v := 60) hC dX4_make_44 (by decide) ?_
              rw [hr.1]
              refine V_icmp_ne (tgt := 52) hC dX4_make_46 (by decide) (fun c46 => ?_) (fun c46 => ?_)
              · refine V_iload_n hC dX4_make_52 rfl ?_
                refine V_iconst (v := 3) hC dX4_make_53 (by decide) ?_
                refine V_icmp_ne (tgt := 68) hC dX4_make_54 (by decide) (fun c54 => ?_) (fun c54 => ?_)
                · refine V_aload_n hC dX4_make_68 rfl ?_
                  refine V_iload_n hC dX4_make_69 rfl ?_
                  refine V_iload_n hC dX4_make_70 rfl ?_
                  refine V_if_ne (tgt := 78) hC dX4_make_71 (by decide) (fun c71 => ?_) (fun c71 => ?_)
                  · refine V_iload_n hC dX4_make_78 rfl ?_
                    refine V_iconst (v := 3) hC dX4_make_79 (by decide) ?_
                    refine V_icmp_ge (tgt := 87) hC dX4_make_80 (by decide) (fun c80 => ?_) (fun c80 => ?_)
                    · refine V_iload_n hC dX4_make_87 rfl ?_
                      refine V_iload_n hC dX4_make_88 rfl ?_
                      refine V_iconst (v := 3) hC dX4_make_89 (by decide) ?_
                      refine V_icmp_ge (tgt := 99) hC dX4_make_90 (by decide) (fun c90 => ?_) (fun c90 => ?_)
                      · refine V_iload_n hC dX4_make_99 rfl ?_
                        refine V_iload_n hC dX4_make_100 rfl ?_
                        refine V_iadd hC dX4_make_101 ?_
                        refine mc3n hC (m_lay hr.1 (by have := hw.1; omega)) rfl mw_lay ⟨⟨(Nat.le_of_ble_eq_true rfl), (Nat.le_of_ble_eq_true rfl)⟩, rfl, rfl⟩ ⟨(Nat.le_of_ble_eq_true rfl), (Nat.le_of_ble_eq_true rfl)⟩ (Nat.le_of_ble_eq_true rfl) dX4_make_102 ?_
                        refine V_aload_n hC dX4_make_105 rfl ?_
                        refine mc0v hC m_keepScore rfl mw_keepScore ⟨⟨(Nat.le_of_ble_eq_true rfl), (Nat.le_of_ble_eq_true rfl)⟩, rfl, rfl⟩ ⟨(Nat.le_of_ble_eq_true rfl), (Nat.le_of_ble_eq_true rfl)⟩ (Nat.le_of_ble_eq_true rfl) dX4_make_106 ?_
                        exact V_iret hC dX4_make_109 (Nat.le_of_ble_eq_true rfl) (Nat.le_of_ble_eq_true rfl) (by
                              rw [n60 hw] at c46
                              have hx4 := c9
                              rw [gIn_c x 4 (by decide) (by decide)] at hx4
                              rcases x03 hx4 with rfl | rfl | rfl | rfl
                              · first | exact absurd c90 (by decide) | exact absurd c71 (by decide) | exact absurd c54 (by decide) | exact absurd c14 (by decide) | exact mk_end hr hw (o_make_ok hx4 (by simp) c46 (by simp)) mk_a (by decide) rfl rfl rfl
                              · first | exact absurd c90 (by decide) | exact absurd c80 (by decide) | exact absurd c71 (by decide) | exact absurd c54 (by decide) | exact absurd c14 (by decide) | exact mk_end hr hw (o_make_ok hx4 (by simp) c46 (by simp)) mk_b (by decide) rfl rfl rfl
                              · first | exact absurd c90 (by decide) | exact absurd c80 (by decide) | exact absurd c71 (by decide) | exact absurd c54 (by decide) | exact absurd c14 (by decide) | exact mk_end hr hw (o_make_ok hx4 (by simp) c46 (by simp)) mk_c (by decide) rfl rfl rfl
                              · first | exact absurd c90 (by decide) | exact absurd c80 (by decide) | exact absurd c71 (by decide) | exact absurd c54 (by decide) | exact absurd c14 (by decide) | exact mk_end3 hr hw hx4 c46 c20 c26 (by rintro ⟨q1, q2⟩; first | exact c30 q1 | exact c34 q2) c58 c62)
                      · refine V_iload_n hC dX4_make_93 rfl ?_
                        refine V_iconst (v := 1) hC dX4_make_94 (by decide) ?_
                        refine V_iadd hC dX4_make_95 ?_
                        refine V_goto (tgt := 102) hC dX4_make_96 (by decide) ?_
                        refine mc3n hC (m_lay hr.1 (by have := hw.1; omega)) rfl mw_lay ⟨⟨(Nat.le_of_ble_eq_true rfl), (Nat.le_of_ble_eq_true rfl)⟩, rfl, rfl⟩ ⟨(Nat.le_of_ble_eq_true rfl), (Nat.le_of_ble_eq_true rfl)⟩ (Nat.le_of_ble_eq_true rfl) dX4_make_102 ?_
                        refine V_aload_n hC dX4_make_105 rfl ?_
                        refine mc0v hC m_keepScore rfl mw_keepScore ⟨⟨(Nat.le_of_ble_eq_true rfl), (Nat.le_of_ble_eq_true rfl)⟩, rfl, rfl⟩ ⟨(Nat.le_of_ble_eq_true rfl), (Nat.le_of_ble_eq_true rfl)⟩ (Nat.le_of_ble_eq_true rfl) dX4_make_106 ?_
                        exact V_iret hC dX4_make_109 (Nat.le_of_ble_eq_true rfl) (Nat.le_of_ble_eq_true rfl) (by
                              rw [n60 hw] at c46
                              have hx4 := c9
                              rw [gIn_c x 4 (by decide) (by decide)] at hx4
                              rcases x03 hx4 with rfl | rfl | rfl | rfl
                              · first | exact absurd c90 (by decide) | exact absurd c71 (by decide) | exact absurd c54 (by decide) | exact absurd c14 (by decide) | exact mk_end hr hw (o_make_ok hx4 (by simp) c46 (by simp)) mk_a (by decide) rfl rfl rfl
                              · first | exact absurd c90 (by decide) | exact absurd c80 (by decide) | exact absurd c71 (by decide) | exact absurd c54 (by decide) | exact absurd c14 (by decide) | exact mk_end hr hw (o_make_ok hx4 (by simp) c46 (by simp)) mk_b (by decide) rfl rfl rfl
                              · first | exact absurd c90 (by decide) | exact absurd c80 (by decide) | exact absurd c71 (by decide) | exact absurd c54 (by decide) | exact absurd c14 (by decide) | exact mk_end hr hw (o_make_ok hx4 (by simp) c46 (by simp)) mk_c (by decide) rfl rfl rfl
                              · first | exact absurd c90 (by decide) | exact absurd c80 (by decide) | exact absurd c71 (by decide) | exact absurd c54 (by decide) | exact absurd c14 (by decide) | exact mk_end3 hr hw hx4 c46 c20 c26 (by rintro ⟨q1, q2⟩; first | exact c30 q1 | exact c34 q2) c58 c62)
                    · refine V_iconst (v := 1) hC dX4_make_83 (by decide) ?_
                      refine V_goto (tgt := 88) hC dX4_make_84 (by decide) ?_
                      refine V_iload_n hC dX4_make_88 rfl ?_
                      refine V_iconst (v := 3) hC dX4_make_89 (by decide) ?_
                      refine V_icmp_ge (tgt := 99) hC dX4_make_90 (by decide) (fun c90 => ?_) (fun c90 => ?_)
                      · refine V_iload_n hC dX4_make_99 rfl ?_
                        refine V_iload_n hC dX4_make_100 rfl ?_
                        refine V_iadd hC dX4_make_101 ?_
                        refine mc3n hC (m_lay hr.1 (by have := hw.1; omega)) rfl mw_lay ⟨⟨(Nat.le_of_ble_eq_true rfl), (Nat.le_of_ble_eq_true rfl)⟩, rfl, rfl⟩ ⟨(Nat.le_of_ble_eq_true rfl), (Nat.le_of_ble_eq_true rfl)⟩ (Nat.le_of_ble_eq_true rfl) dX4_make_102 ?_
                        refine V_aload_n hC dX4_make_105 rfl ?_
                        refine mc0v hC m_keepScore rfl mw_keepScore ⟨⟨(Nat.le_of_ble_eq_true rfl), (Nat.le_of_ble_eq_true rfl)⟩, rfl, rfl⟩ ⟨(Nat.le_of_ble_eq_true rfl), (Nat.le_of_ble_eq_true rfl)⟩ (Nat.le_of_ble_eq_true rfl) dX4_make_106 ?_
                        exact V_iret hC dX4_make_109 (Nat.le_of_ble_eq_true rfl) (Nat.le_of_ble_eq_true rfl) (by
                              rw [n60 hw] at c46
                              have hx4 := c9
                              rw [gIn_c x 4 (by decide) (by decide)] at hx4
                              rcases x03 hx4 with rfl | rfl | rfl | rfl
                              · first | exact absurd c90 (by decide) | exact absurd c71 (by decide) | exact absurd c54 (by decide) | exact absurd c14 (by decide) | exact mk_end hr hw (o_make_ok hx4 (by simp) c46 (by simp)) mk_a (by decide) rfl rfl rfl
                              · first | exact absurd c90 (by decide) | exact absurd c80 (by decide) | exact absurd c71 (by decide) | exact absurd c54 (by decide) | exact absurd c14 (by decide) | exact mk_end hr hw (o_make_ok hx4 (by simp) c46 (by simp)) mk_b (by decide) rfl rfl rfl
                              · first | exact absurd c90 (by decide) | exact absurd c80 (by decide) | exact absurd c71 (by decide) | exact absurd c54 (by decide) | exact absurd c14 (by decide) | exact mk_end hr hw (o_make_ok hx4 (by simp) c46 (by simp)) mk_c (by decide) rfl rfl rfl
                              · first | exact absurd c90 (by decide) | exact absurd c80 (by decide) | exact absurd c71 (by decide) | exact absurd c54 (by decide) | exact absurd c14 (by decide) | exact mk_end3 hr hw hx4 c46 c20 c26 (by rintro ⟨q1, q2⟩; first | exact c30 q1 | exact c34 q2) c58 c62)
                      · refine V_iload_n hC dX4_make_93 rfl ?_
                        refine V_iconst (v := 1) hC dX4_make_94 (by decide) ?_
                        refine V_iadd hC dX4_make_95 ?_
                        refine V_goto (tgt := 102) hC dX4_make_96 (by decide) ?_
                        refine mc3n hC (m_lay hr.1 (by have := hw.1; omega)) rfl mw_lay ⟨⟨(Nat.le_of_ble_eq_true rfl), (Nat.le_of_ble_eq_true rfl)⟩, rfl, rfl⟩ ⟨(Nat.le_of_ble_eq_true rfl), (Nat.le_of_ble_eq_true rfl)⟩ (Nat.le_of_ble_eq_true rfl) dX4_make_102 ?_
                        refine V_aload_n hC dX4_make_105 rfl ?_
                        refine mc0v hC m_keepScore rfl mw_keepScore ⟨⟨(Nat.le_of_ble_eq_true rfl), (Nat.le_of_ble_eq_true rfl)⟩, rfl, rfl⟩ ⟨(Nat.le_of_ble_eq_true rfl), (Nat.le_of_ble_eq_true rfl)⟩ (Nat.le_of_ble_eq_true rfl) dX4_make_106 ?_
                        exact V_iret hC dX4_make_109 (Nat.le_of_ble_eq_true rfl) (Nat.le_of_ble_eq_true rfl) (by
                              rw [n60 hw] at c46
                              have hx4 := c9
                              rw [gIn_c x 4 (by decide) (by decide)] at hx4
                              rcases x03 hx4 with rfl | rfl | rfl | rfl
                              · first | exact absurd c90 (by decide) | exact absurd c71 (by decide) | exact absurd c54 (by decide) | exact absurd c14 (by decide) | exact mk_end hr hw (o_make_ok hx4 (by simp) c46 (by simp)) mk_a (by decide) rfl rfl rfl
                              · first | exact absurd c90 (by decide) | exact absurd c80 (by decide) | exact absurd c71 (by decide) | exact absurd c54 (by decide) | exact absurd c14 (by decide) | exact mk_end hr hw (o_make_ok hx4 (by simp) c46 (by simp)) mk_b (by decide) rfl rfl rfl
                              · first | exact absurd c90 (by decide) | exact absurd c80 (by decide) | exact absurd c71 (by decide) | exact absurd c54 (by decide) | exact absurd c14 (by decide) | exact mk_end hr hw (o_make_ok hx4 (by simp) c46 (by simp)) mk_c (by decide) rfl rfl rfl
                              · first | exact absurd c90 (by decide) | exact absurd c80 (by decide) | exact absurd c71 (by decide) | exact absurd c54 (by decide) | exact absurd c14 (by decide) | exact mk_end3 hr hw hx4 c46 c20 c26 (by rintro ⟨q1, q2⟩; first | exact c30 q1 | exact c34 q2) c58 c62)
                  · refine V_iconst (v := 0) hC dX4_make_74 (by decide) ?_
                    refine V_goto (tgt := 88) hC dX4_make_75 (by decide) ?_
                    refine V_iload_n hC dX4_make_88 rfl ?_
                    refine V_iconst (v := 3) hC dX4_make_89 (by decide) ?_
                    refine V_icmp_ge (tgt := 99) hC dX4_make_90 (by decide) (fun c90 => ?_) (fun c90 => ?_)
                    · refine V_iload_n hC dX4_make_99 rfl ?_
                      refine V_iload_n hC dX4_make_100 rfl ?_
                      refine V_iadd hC dX4_make_101 ?_
                      refine mc3n hC (m_lay hr.1 (by have := hw.1; omega)) rfl mw_lay ⟨⟨(Nat.le_of_ble_eq_true rfl), (Nat.le_of_ble_eq_true rfl)⟩, rfl, rfl⟩ ⟨(Nat.le_of_ble_eq_true rfl), (Nat.le_of_ble_eq_true rfl)⟩ (Nat.le_of_ble_eq_true rfl) dX4_make_102 ?_
                      refine V_aload_n hC dX4_make_105 rfl ?_
                      refine mc0v hC m_keepScore rfl mw_keepScore ⟨⟨(Nat.le_of_ble_eq_true rfl), (Nat.le_of_ble_eq_true rfl)⟩, rfl, rfl⟩ ⟨(Nat.le_of_ble_eq_true rfl), (Nat.le_of_ble_eq_true rfl)⟩ (Nat.le_of_ble_eq_true rfl) dX4_make_106 ?_
                      exact V_iret hC dX4_make_109 (Nat.le_of_ble_eq_true rfl) (Nat.le_of_ble_eq_true rfl) (by
                            rw [n60 hw] at c46
                            have hx4 := c9
                            rw [gIn_c x 4 (by decide) (by decide)] at hx4
                            rcases x03 hx4 with rfl | rfl | rfl | rfl
                            · first | exact absurd c90 (by decide) | exact absurd c71 (by decide) | exact absurd c54 (by decide) | exact absurd c14 (by decide) | exact mk_end hr hw (o_make_ok hx4 (by simp) c46 (by simp)) mk_a (by decide) rfl rfl rfl
                            · first | exact absurd c90 (by decide) | exact absurd c80 (by decide) | exact absurd c71 (by decide) | exact absurd c54 (by decide) | exact absurd c14 (by decide) | exact mk_end hr hw (o_make_ok hx4 (by simp) c46 (by simp)) mk_b (by decide) rfl rfl rfl
                            · first | exact absurd c90 (by decide) | exact absurd c80 (by decide) | exact absurd c71 (by decide) | exact absurd c54 (by decide) | exact absurd c14 (by decide) | exact mk_end hr hw (o_make_ok hx4 (by simp) c46 (by simp)) mk_c (by decide) rfl rfl rfl
                            · first | exact absurd c90 (by decide) | exact absurd c80 (by decide) | exact absurd c71 (by decide) | exact absurd c54 (by decide) | exact absurd c14 (by decide) | exact mk_end3 hr hw hx4 c46 c20 c26 (by rintro ⟨q1, q2⟩; first | exact c30 q1 | exact c34 q2) c58 c62)
                    · refine V_iload_n hC dX4_make_93 rfl ?_
                      refine V_iconst (v := 1) hC dX4_make_94 (by decide) ?_
                      refine V_iadd hC dX4_make_95 ?_
                      refine V_goto (tgt := 102) hC dX4_make_96 (by decide) ?_
                      refine mc3n hC (m_lay hr.1 (by have := hw.1; omega)) rfl mw_lay ⟨⟨(Nat.le_of_ble_eq_true rfl), (Nat.le_of_ble_eq_true rfl)⟩, rfl, rfl⟩ ⟨(Nat.le_of_ble_eq_true rfl), (Nat.le_of_ble_eq_true rfl)⟩ (Nat.le_of_ble_eq_true rfl) dX4_make_102 ?_
                      refine V_aload_n hC dX4_make_105 rfl ?_
                      refine mc0v hC m_keepScore rfl mw_keepScore ⟨⟨(Nat.le_of_ble_eq_true rfl), (Nat.le_of_ble_eq_true rfl)⟩, rfl, rfl⟩ ⟨(Nat.le_of_ble_eq_true rfl), (Nat.le_of_ble_eq_true rfl)⟩ (Nat.le_of_ble_eq_true rfl) dX4_make_106 ?_
                      exact V_iret hC dX4_make_109 (Nat.le_of_ble_eq_true rfl) (Nat.le_of_ble_eq_true rfl) (by
                            rw [n60 hw] at c46
                            have hx4 := c9
                            rw [gIn_c x 4 (by decide) (by decide)] at hx4
                            rcases x03 hx4 with rfl | rfl | rfl | rfl
                            · first | exact absurd c90 (by decide) | exact absurd c71 (by decide) | exact absurd c54 (by decide) | exact absurd c14 (by decide) | exact mk_end hr hw (o_make_ok hx4 (by simp) c46 (by simp)) mk_a (by decide) rfl rfl rfl
                            · first | exact absurd c90 (by decide) | exact absurd c80 (by decide) | exact absurd c71 (by decide) | exact absurd c54 (by decide) | exact absurd c14 (by decide) | exact mk_end hr hw (o_make_ok hx4 (by simp) c46 (by simp)) mk_b (by decide) rfl rfl rfl
                            · first | exact absurd c90 (by decide) | exact absurd c80 (by decide) | exact absurd c71 (by decide) | exact absurd c54 (by decide) | exact absurd c14 (by decide) | exact mk_end hr hw (o_make_ok hx4 (by simp) c46 (by simp)) mk_c (by decide) rfl rfl rfl
                            · first | exact absurd c90 (by decide) | exact absurd c80 (by decide) | exact absurd c71 (by decide) | exact absurd c54 (by decide) | exact absurd c14 (by decide) | exact mk_end3 hr hw hx4 c46 c20 c26 (by rintro ⟨q1, q2⟩; first | exact c30 q1 | exact c34 q2) c58 c62)
                · refine V_iload_n hC dX4_make_57 rfl ?_
                  refine V_if_lt (tgt := 65) hC dX4_make_58 (by decide) (fun c58 => ?_) (fun c58 => ?_)
                  · refine V_bipush (v := (-14)) hC dX4_make_65 (by decide) ?_
                    exact V_iret hC dX4_make_67 (Nat.le_of_ble_eq_true rfl) (Nat.le_of_ble_eq_true rfl) (RMp_i (by
                          rw [n60 hw] at c46
                          unfold o_make
                          rw [if_neg, if_neg c46, if_pos]
                          · first | exact ⟨c54, Or.inl c58⟩ | exact ⟨c54, Or.inr (by rw [Int32.lt_iff_toInt_lt]; rw [Int32.le_iff_toInt_le] at c62; omega)⟩
                          · rw [gIn_c x 4 (by decide) (by decide)] at c9
                            rintro (q | ⟨q, q1 | q1 | q1⟩)
                            · rw [c9] at q; cases q
                            · first | exact c14 q | exact c20 q1
                            · first | exact c14 q | exact c26 q1
                            · first | exact c14 q | exact c30 q1.1 | exact c34 q1.2) hr)
                  · refine V_iload_n hC dX4_make_61 rfl ?_
                    refine V_if_ge (tgt := 68) hC dX4_make_62 (by decide) (fun c62 => ?_) (fun c62 => ?_)
                    · refine V_aload_n hC dX4_make_68 rfl ?_
                      refine V_iload_n hC dX4_make_69 rfl ?_
                      refine V_iload_n hC dX4_make_70 rfl ?_
                      refine V_if_ne (tgt := 78) hC dX4_make_71 (by decide) (fun c71 => ?_) (fun c71 => ?_)
                      · refine V_iload_n hC dX4_make_78 rfl ?_
                        refine V_iconst (v := 3) hC dX4_make_79 (by decide) ?_
                        refine V_icmp_ge (tgt := 87) hC dX4_make_80 (by decide) (fun c80 => ?_) (fun c80 => ?_)
                        · refine V_iload_n hC dX4_make_87 rfl ?_
                          refine V_iload_n hC dX4_make_88 rfl ?_
                          refine V_iconst (v := 3) hC dX4_make_89 (by decide) ?_
                          refine V_icmp_ge (tgt := 99) hC dX4_make_90 (by decide) (fun c90 => ?_) (fun c90 => ?_)
                          · refine V_iload_n hC dX4_make_99 rfl ?_
                            refine V_iload_n hC dX4_make_100 rfl ?_
                            refine V_iadd hC dX4_make_101 ?_
                            refine mc3n hC (m_lay hr.1 (by have := hw.1; omega)) rfl mw_lay ⟨⟨(Nat.le_of_ble_eq_true rfl), (Nat.le_of_ble_eq_true rfl)⟩, rfl, rfl⟩ ⟨(Nat.le_of_ble_eq_true rfl), (Nat.le_of_ble_eq_true rfl)⟩ (Nat.le_of_ble_eq_true rfl) dX4_make_102 ?_
                            refine V_aload_n hC dX4_make_105 rfl ?_
                            refine mc0v hC m_keepScore rfl mw_keepScore ⟨⟨(Nat.le_of_ble_eq_true rfl), (Nat.le_of_ble_eq_true rfl)⟩, rfl, rfl⟩ ⟨(Nat.le_of_ble_eq_true rfl), (Nat.le_of_ble_eq_true rfl)⟩ (Nat.le_of_ble_eq_true rfl) dX4_make_106 ?_
                            exact V_iret hC dX4_make_109 (Nat.le_of_ble_eq_true rfl) (Nat.le_of_ble_eq_true rfl) (by
                                  rw [n60 hw] at c46
                                  have hx4 := c9
                                  rw [gIn_c x 4 (by decide) (by decide)] at hx4
                                  rcases x03 hx4 with rfl | rfl | rfl | rfl
                                  · first | exact absurd c90 (by decide) | exact absurd c71 (by decide) | exact absurd c54 (by decide) | exact absurd c14 (by decide) | exact mk_end hr hw (o_make_ok hx4 (by simp) c46 (by simp)) mk_a (by decide) rfl rfl rfl
                                  · first | exact absurd c90 (by decide) | exact absurd c80 (by decide) | exact absurd c71 (by decide) | exact absurd c54 (by decide) | exact absurd c14 (by decide) | exact mk_end hr hw (o_make_ok hx4 (by simp) c46 (by simp)) mk_b (by decide) rfl rfl rfl
                                  · first | exact absurd c90 (by decide) | exact absurd c80 (by decide) | exact absurd c71 (by decide) | exact absurd c54 (by decide) | exact absurd c14 (by decide) | exact mk_end hr hw (o_make_ok hx4 (by simp) c46 (by simp)) mk_c (by decide) rfl rfl rfl
                                  · first | exact absurd c90 (by decide) | exact absurd c80 (by decide) | exact absurd c71 (by decide) | exact absurd c54 (by decide) | exact absurd c14 (by decide) | exact mk_end3 hr hw hx4 c46 c20 c26 (by rintro ⟨q1, q2⟩; first | exact c30 q1 | exact c34 q2) c58 c62)
                          · refine V_iload_n hC dX4_make_93 rfl ?_
                            refine V_iconst (v := 1) hC dX4_make_94 (by decide) ?_
                            refine V_iadd hC dX4_make_95 ?_
                            refine V_goto (tgt := 102) hC dX4_make_96 (by decide) ?_
                            refine mc3n hC (m_lay hr.1 (by have := hw.1; omega)) rfl mw_lay ⟨⟨(Nat.le_of_ble_eq_true rfl), (Nat.le_of_ble_eq_true rfl)⟩, rfl, rfl⟩ ⟨(Nat.le_of_ble_eq_true rfl), (Nat.le_of_ble_eq_true rfl)⟩ (Nat.le_of_ble_eq_true rfl) dX4_make_102 ?_
                            refine V_aload_n hC dX4_make_105 rfl ?_
                            refine mc0v hC m_keepScore rfl mw_keepScore ⟨⟨(Nat.le_of_ble_eq_true rfl), (Nat.le_of_ble_eq_true rfl)⟩, rfl, rfl⟩ ⟨(Nat.le_of_ble_eq_true rfl), (Nat.le_of_ble_eq_true rfl)⟩ (Nat.le_of_ble_eq_true rfl) dX4_make_106 ?_
                            exact V_iret hC dX4_make_109 (Nat.le_of_ble_eq_true rfl) (Nat.le_of_ble_eq_true rfl) (by
                                  rw [n60 hw] at c46
                                  have hx4 := c9
                                  rw [gIn_c x 4 (by decide) (by decide)] at hx4
                                  rcases x03 hx4 with rfl | rfl | rfl | rfl
                                  · first | exact absurd c90 (by decide) | exact absurd c71 (by decide) | exact absurd c54 (by decide) | exact absurd c14 (by decide) | exact mk_end hr hw (o_make_ok hx4 (by simp) c46 (by simp)) mk_a (by decide) rfl rfl rfl
                                  · first | exact absurd c90 (by decide) | exact absurd c80 (by decide) | exact absurd c71 (by decide) | exact absurd c54 (by decide) | exact absurd c14 (by decide) | exact mk_end hr hw (o_make_ok hx4 (by simp) c46 (by simp)) mk_b (by decide) rfl rfl rfl
                                  · first | exact absurd c90 (by decide) | exact absurd c80 (by decide) | exact absurd c71 (by decide) | exact absurd c54 (by decide) | exact absurd c14 (by decide) | exact mk_end hr hw (o_make_ok hx4 (by simp) c46 (by simp)) mk_c (by decide) rfl rfl rfl
                                  · first | exact absurd c90 (by decide) | exact absurd c80 (by decide) | exact absurd c71 (by decide) | exact absurd c54 (by decide) | exact absurd c14 (by decide) | exact mk_end3 hr hw hx4 c46 c20 c26 (by rintro ⟨q1, q2⟩; first | exact c30 q1 | exact c34 q2) c58 c62)
                        · refine V_iconst (v := 1) hC dX4_make_83 (by decide) ?_
                          refine V_goto (tgt := 88) hC dX4_make_84 (by decide) ?_
                          refine V_iload_n hC dX4_make_88 rfl ?_
                          refine V_iconst (v := 3) hC dX4_make_89 (by decide) ?_
                          refine V_icmp_ge (tgt := 99) hC dX4_make_90 (by decide) (fun c90 => ?_) (fun c90 => ?_)
                          · refine V_iload_n hC dX4_make_99 rfl ?_
                            refine V_iload_n hC dX4_make_100 rfl ?_
                            refine V_iadd hC dX4_make_101 ?_
                            refine mc3n hC (m_lay hr.1 (by have := hw.1; omega)) rfl mw_lay ⟨⟨(Nat.le_of_ble_eq_true rfl), (Nat.le_of_ble_eq_true rfl)⟩, rfl, rfl⟩ ⟨(Nat.le_of_ble_eq_true rfl), (Nat.le_of_ble_eq_true rfl)⟩ (Nat.le_of_ble_eq_true rfl) dX4_make_102 ?_
                            refine V_aload_n hC dX4_make_105 rfl ?_
                            refine mc0v hC m_keepScore rfl mw_keepScore ⟨⟨(Nat.le_of_ble_eq_true rfl), (Nat.le_of_ble_eq_true rfl)⟩, rfl, rfl⟩ ⟨(Nat.le_of_ble_eq_true rfl), (Nat.le_of_ble_eq_true rfl)⟩ (Nat.le_of_ble_eq_true rfl) dX4_make_106 ?_
                            exact V_iret hC dX4_make_109 (Nat.le_of_ble_eq_true rfl) (Nat.le_of_ble_eq_true rfl) (by
                                  rw [n60 hw] at c46
                                  have hx4 := c9
                                  rw [gIn_c x 4 (by decide) (by decide)] at hx4
                                  rcases x03 hx4 with rfl | rfl | rfl | rfl
                                  · first | exact absurd c90 (by decide) | exact absurd c71 (by decide) | exact absurd c54 (by decide) | exact absurd c14 (by decide) | exact mk_end hr hw (o_make_ok hx4 (by simp) c46 (by simp)) mk_a (by decide) rfl rfl rfl
                                  · first | exact absurd c90 (by decide) | exact absurd c80 (by decide) | exact absurd c71 (by decide) | exact absurd c54 (by decide) | exact absurd c14 (by decide) | exact mk_end hr hw (o_make_ok hx4 (by simp) c46 (by simp)) mk_b (by decide) rfl rfl rfl
                                  · first | exact absurd c90 (by decide) | exact absurd c80 (by decide) | exact absurd c71 (by decide) | exact absurd c54 (by decide) | exact absurd c14 (by decide) | exact mk_end hr hw (o_make_ok hx4 (by simp) c46 (by simp)) mk_c (by decide) rfl rfl rfl
                                  · first | exact absurd c90 (by decide) | exact absurd c80 (by decide) | exact absurd c71 (by decide) | exact absurd c54 (by decide) | exact absurd c14 (by decide) | exact mk_end3 hr hw hx4 c46 c20 c26 (by rintro ⟨q1, q2⟩; first | exact c30 q1 | exact c34 q2) c58 c62)
                          · refine V_iload_n hC dX4_make_93 rfl ?_
                            refine V_iconst (v := 1) hC dX4_make_94 (by decide) ?_
                            refine V_iadd hC dX4_make_95 ?_
                            refine V_goto (tgt := 102) hC dX4_make_96 (by decide) ?_
                            refine mc3n hC (m_lay hr.1 (by have := hw.1; omega)) rfl mw_lay ⟨⟨(Nat.le_of_ble_eq_true rfl), (Nat.le_of_ble_eq_true rfl)⟩, rfl, rfl⟩ ⟨(Nat.le_of_ble_eq_true rfl), (Nat.le_of_ble_eq_true rfl)⟩ (Nat.le_of_ble_eq_true rfl) dX4_make_102 ?_
                            refine V_aload_n hC dX4_make_105 rfl ?_
                            refine mc0v hC m_keepScore rfl mw_keepScore ⟨⟨(Nat.le_of_ble_eq_true rfl), (Nat.le_of_ble_eq_true rfl)⟩, rfl, rfl⟩ ⟨(Nat.le_of_ble_eq_true rfl), (Nat.le_of_ble_eq_true rfl)⟩ (Nat.le_of_ble_eq_true rfl) dX4_make_106 ?_
                            exact V_iret hC dX4_make_109 (Nat.le_of_ble_eq_true rfl) (Nat.le_of_ble_eq_true rfl) (by
                                  rw [n60 hw] at c46
                                  have hx4 := c9
                                  rw [gIn_c x 4 (by decide) (by decide)] at hx4
                                  rcases x03 hx4 with rfl | rfl | rfl | rfl
                                  · first | exact absurd c90 (by decide) | exact absurd c71 (by decide) | exact absurd c54 (by decide) | exact absurd c14 (by decide) | exact mk_end hr hw (o_make_ok hx4 (by simp) c46 (by simp)) mk_a (by decide) rfl rfl rfl
                                  · first | exact absurd c90 (by decide) | exact absurd c80 (by decide) | exact absurd c71 (by decide) | exact absurd c54 (by decide) | exact absurd c14 (by decide) | exact mk_end hr hw (o_make_ok hx4 (by simp) c46 (by simp)) mk_b (by decide) rfl rfl rfl
                                  · first | exact absurd c90 (by decide) | exact absurd c80 (by decide) | exact absurd c71 (by decide) | exact absurd c54 (by decide) | exact absurd c14 (by decide) | exact mk_end hr hw (o_make_ok hx4 (by simp) c46 (by simp)) mk_c (by decide) rfl rfl rfl
                                  · first | exact absurd c90 (by decide) | exact absurd c80 (by decide) | exact absurd c71 (by decide) | exact absurd c54 (by decide) | exact absurd c14 (by decide) | exact mk_end3 hr hw hx4 c46 c20 c26 (by rintro ⟨q1, q2⟩; first | exact c30 q1 | exact c34 q2) c58 c62)
                      · refine V_iconst (v := 0) hC dX4_make_74 (by decide) ?_
                        refine V_goto (tgt := 88) hC dX4_make_75 (by decide) ?_
                        refine V_iload_n hC dX4_make_88 rfl ?_
                        refine V_iconst (v := 3) hC dX4_make_89 (by decide) ?_
                        refine V_icmp_ge (tgt := 99) hC dX4_make_90 (by decide) (fun c90 => ?_) (fun c90 => ?_)
                        · refine V_iload_n hC dX4_make_99 rfl ?_
                          refine V_iload_n hC dX4_make_100 rfl ?_
                          refine V_iadd hC dX4_make_101 ?_
                          refine mc3n hC (m_lay hr.1 (by have := hw.1; omega)) rfl mw_lay ⟨⟨(Nat.le_of_ble_eq_true rfl), (Nat.le_of_ble_eq_true rfl)⟩, rfl, rfl⟩ ⟨(Nat.le_of_ble_eq_true rfl), (Nat.le_of_ble_eq_true rfl)⟩ (Nat.le_of_ble_eq_true rfl) dX4_make_102 ?_
                          refine V_aload_n hC dX4_make_105 rfl ?_
                          refine mc0v hC m_keepScore rfl mw_keepScore ⟨⟨(Nat.le_of_ble_eq_true rfl), (Nat.le_of_ble_eq_true rfl)⟩, rfl, rfl⟩ ⟨(Nat.le_of_ble_eq_true rfl), (Nat.le_of_ble_eq_true rfl)⟩ (Nat.le_of_ble_eq_true rfl) dX4_make_106 ?_
                          exact V_iret hC dX4_make_109 (Nat.le_of_ble_eq_true rfl) (Nat.le_of_ble_eq_true rfl) (by
                                rw [n60 hw] at c46
                                have hx4 := c9
                                rw [gIn_c x 4 (by decide) (by decide)] at hx4
                                rcases x03 hx4 with rfl | rfl | rfl | rfl
                                · first | exact absurd c90 (by decide) | exact absurd c71 (by decide) | exact absurd c54 (by decide) | exact absurd c14 (by decide) | exact mk_end hr hw (o_make_ok hx4 (by simp) c46 (by simp)) mk_a (by decide) rfl rfl rfl
                                · first | exact absurd c90 (by decide) | exact absurd c80 (by decide) | exact absurd c71 (by decide) | exact absurd c54 (by decide) | exact absurd c14 (by decide) | exact mk_end hr hw (o_make_ok hx4 (by simp) c46 (by simp)) mk_b (by decide) rfl rfl rfl
                                · first | exact absurd c90 (by decide) | exact absurd c80 (by decide) | exact absurd c71 (by decide) | exact absurd c54 (by decide) | exact absurd c14 (by decide) | exact mk_end hr hw (o_make_ok hx4 (by simp) c46 (by simp)) mk_c (by decide) rfl rfl rfl
                                · first | exact absurd c90 (by decide) | exact absurd c80 (by decide) | exact absurd c71 (by decide) | exact absurd c54 (by decide) | exact absurd c14 (by decide) | exact mk_end3 hr hw hx4 c46 c20 c26 (by rintro ⟨q1, q2⟩; first | exact c30 q1 | exact c34 q2) c58 c62)
                        · refine V_iload_n hC dX4_make_93 rfl ?_
                          refine V_iconst (v := 1) hC dX4_make_94 (by decide) ?_
                          refine V_iadd hC dX4_make_95 ?_
                          refine V_goto (tgt := 102) hC dX4_make_96 (by decide) ?_
                          refine mc3n hC (m_lay hr.1 (by have := hw.1; omega)) rfl mw_lay ⟨⟨(Nat.le_of_ble_eq_true rfl), (Nat.le_of_ble_eq_true rfl)⟩, rfl, rfl⟩ ⟨(Nat.le_of_ble_eq_true rfl), (Nat.le_of_ble_eq_true rfl)⟩ (Nat.le_of_ble_eq_true rfl) dX4_make_102 ?_
                          refine V_aload_n hC dX4_make_105 rfl ?_
                          refine mc0v hC m_keepScore rfl mw_keepScore ⟨⟨(Nat.le_of_ble_eq_true rfl), (Nat.le_of_ble_eq_true rfl)⟩, rfl, rfl⟩ ⟨(Nat.le_of_ble_eq_true rfl), (Nat.le_of_ble_eq_true rfl)⟩ (Nat.le_of_ble_eq_true rfl) dX4_make_106 ?_
                          exact V_iret hC dX4_make_109 (Nat.le_of_ble_eq_true rfl) (Nat.le_of_ble_eq_true rfl) (by
                                rw [n60 hw] at c46
                                have hx4 := c9
                                rw [gIn_c x 4 (by decide) (by decide)] at hx4
                                rcases x03 hx4 with rfl | rfl | rfl | rfl
                                · first | exact absurd c90 (by decide) | exact absurd c71 (by decide) | exact absurd c54 (by decide) | exact absurd c14 (by decide) | exact mk_end hr hw (o_make_ok hx4 (by simp) c46 (by simp)) mk_a (by decide) rfl rfl rfl
                                · first | exact absurd c90 (by decide) | exact absurd c80 (by decide) | exact absurd c71 (by decide) | exact absurd c54 (by decide) | exact absurd c14 (by decide) | exact mk_end hr hw (o_make_ok hx4 (by simp) c46 (by simp)) mk_b (by decide) rfl rfl rfl
                                · first | exact absurd c90 (by decide) | exact absurd c80 (by decide) | exact absurd c71 (by decide) | exact absurd c54 (by decide) | exact absurd c14 (by decide) | exact mk_end hr hw (o_make_ok hx4 (by simp) c46 (by simp)) mk_c (by decide) rfl rfl rfl
                                · first | exact absurd c90 (by decide) | exact absurd c80 (by decide) | exact absurd c71 (by decide) | exact absurd c54 (by decide) | exact absurd c14 (by decide) | exact mk_end3 hr hw hx4 c46 c20 c26 (by rintro ⟨q1, q2⟩; first | exact c30 q1 | exact c34 q2) c58 c62)
                    · refine V_bipush (v := (-14)) hC dX4_make_65 (by decide) ?_
                      exact V_iret hC dX4_make_67 (Nat.le_of_ble_eq_true rfl) (Nat.le_of_ble_eq_true rfl) (RMp_i (by
                            rw [n60 hw] at c46
                            unfold o_make
                            rw [if_neg, if_neg c46, if_pos]
                            · first | exact ⟨c54, Or.inl c58⟩ | exact ⟨c54, Or.inr (by rw [Int32.lt_iff_toInt_lt]; rw [Int32.le_iff_toInt_le] at c62; omega)⟩
                            · rw [gIn_c x 4 (by decide) (by decide)] at c9
                              rintro (q | ⟨q, q1 | q1 | q1⟩)
                              · rw [c9] at q; cases q
                              · first | exact c14 q | exact c20 q1
                              · first | exact c14 q | exact c26 q1
                              · first | exact c14 q | exact c30 q1.1 | exact c34 q1.2) hr)
              · refine V_bipush (v := (-4)) hC dX4_make_49 (by decide) ?_
                exact V_iret hC dX4_make_51 (Nat.le_of_ble_eq_true rfl) (Nat.le_of_ble_eq_true rfl) (RMp_i (by
                      unfold o_make
                      rw [if_neg, if_pos ((n60 hw).mp c46)]
                      rw [gIn_c x 4 (by decide) (by decide)] at c9
                      rintro (q | ⟨q, q1 | q1 | q1⟩)
                      · rw [c9] at q; cases q
                      · first | exact c14 q | exact c20 q1
                      · first | exact c14 q | exact c26 q1
                      · first | exact c14 q | exact c30 q1.1 | exact c34 q1.2) hr)
            · refine V_bipush (v := (-3)) hC dX4_make_37 (by decide) ?_
              exact V_iret hC dX4_make_39 (Nat.le_of_ble_eq_true rfl) (Nat.le_of_ble_eq_true rfl) (RMp_i (by unfold o_make; rw [if_pos]; first | exact Or.inl (by rw [gIn_c x 4 (by decide) (by decide)] at c9; exact c9) | exact Or.inr ⟨c14, Or.inl c20⟩ | exact Or.inr ⟨c14, Or.inr (Or.inl c26)⟩ | exact Or.inr ⟨c14, Or.inr (Or.inr ⟨c30, c34⟩)⟩) hr)
set_option maxHeartbeats 2000000 in
theorem m_nothing {l : Launch} {G : gG} {a : Nat} {I : Nat → Int32} {J : Nat → Int64} {P : Nat → Nat → Int32} {Q : Nat → Nat → Int64} {M0 : gM} {σ : Sy} (hw : Sw σ) (hr : RM σ I P Q)  : gMet l yX4_nothing (gWs yX4_nothing cX4_nothing 1 (some .int) []) ({ frames := 1, cells := 0, slots := 0, locals := 24 } : Room) G [.ref a] (mkM G a I J P Q M0) (RMp G a M0 (o_nothing σ)) := by
  refine gMet.intro (by decide) (Nat.le_of_ble_eq_true rfl) (fun C hl hC hN => ?_)
  subst hl
  replace hC : Ck G C [] cX4_nothing RX4 1 (some .int) ({ frames := 1, cells := 0, slots := 0, locals := 24 } : Room) (RMp G a M0 (o_nothing σ)) := hC
  refine V.loc [some (.ref a)] ⟨rfl, trivial⟩ ?_
  refine V_aload_n hC dX4_nothing_0 rfl ?_
  refine mg_scores hC dX4_nothing_1 ?_
  refine V_bipush (v := 60) hC dX4_nothing_4 (by decide) ?_
  rw [hr.1]
  refine V_icmp_ne (tgt := 12) hC dX4_nothing_6 (by decide) (fun c6 => ?_) (fun c6 => ?_)
  · refine V_aload_n hC dX4_nothing_12 rfl ?_
    refine V_iconst (v := (-1)) hC dX4_nothing_13 (by decide) ?_
    refine V_iconst (v := 0) hC dX4_nothing_14 (by decide) ?_
    refine V_iconst (v := 0) hC dX4_nothing_15 (by decide) ?_
    refine mc3n hC (m_lay hr.1 (by have := hw.1; omega)) rfl mw_lay ⟨⟨(Nat.le_of_ble_eq_true rfl), (Nat.le_of_ble_eq_true rfl)⟩, rfl, rfl⟩ ⟨(Nat.le_of_ble_eq_true rfl), (Nat.le_of_ble_eq_true rfl)⟩ (Nat.le_of_ble_eq_true rfl) dX4_nothing_16 ?_
    refine V_aload_n hC dX4_nothing_19 rfl ?_
    refine mc0v hC m_keepScore rfl mw_keepScore ⟨⟨(Nat.le_of_ble_eq_true rfl), (Nat.le_of_ble_eq_true rfl)⟩, rfl, rfl⟩ ⟨(Nat.le_of_ble_eq_true rfl), (Nat.le_of_ble_eq_true rfl)⟩ (Nat.le_of_ble_eq_true rfl) dX4_nothing_20 ?_
    exact V_iret hC dX4_nothing_23 (Nat.le_of_ble_eq_true rfl) (Nat.le_of_ble_eq_true rfl) (by rw [show I 0 + 1 - 1 = nI σ.sc.length by rw [hr.1, g_pm]]; exact RMp_i (by unfold o_nothing; rw [if_neg (fun q => c6 ((n60 hw).mpr q))]) (hr.laidN hw))
  · refine V_bipush (v := (-4)) hC dX4_nothing_9 (by decide) ?_
    exact V_iret hC dX4_nothing_11 (Nat.le_of_ble_eq_true rfl) (Nat.le_of_ble_eq_true rfl) (RMp_i (by unfold o_nothing; rw [if_pos ((n60 hw).mp c6)]) hr)
