/-! MODEL 10: count, weight -/
theorem up_back {α : Type} (f : Nat → Nat → α) (r i : Nat) (x : α) : va_up (va_up f r (va_up (f r) i x)) r (va_up ((va_up f r (va_up (f r) i x)) r) i (f r i)) = f := by
  funext q z
  by_cases h : q = r
  · subst h
    rw [va_up_self, va_up_self]
    by_cases h2 : z = i
    · subst h2
      rw [va_up_self]
    · rw [va_up_ne _ _ h2, va_up_ne _ _ h2]
  · rw [va_up_ne _ _ h, va_up_ne _ _ h]
theorem setAt' {α : Type} {l : List α} {i j : Nat} {x y : α} (h : (l.set i x)[j]? = some y) : (j = i ∧ i < l.length ∧ x = y) ∨ (j ≠ i ∧ l[j]? = some y) := by
  by_cases q : j = i
  · subst q
    have hl : j < l.length := by
      have := (List.getElem?_eq_some_iff.mp h).1
      rwa [List.length_set] at this
    rw [List.getElem?_set_self hl] at h
    exact Or.inl ⟨rfl, hl, Option.some.inj h⟩
  · rw [List.getElem?_set_ne (fun z => q z.symm)] at h
    exact Or.inr ⟨q, h⟩
theorem RR.cnt {ru : List (List Int64 × Nat)} {n : Nat} {I : Nat → Int32} {P : Nat → Nat → Int32} {Q : Nat → Nat → Int64} (h : RR ru n I P Q) {i m : Nat} {q : List Int64 × Nat} (hi : ru[i]? = some q) (hm : m ≤ 1000000) : RR (ru.set i (q.1, m)) n I (va_up P 3 (va_up (P 3) i (nI m))) Q := by
  obtain ⟨h1, h2, h3, h4, h5⟩ := h
  refine ⟨h1, h2, by rw [List.length_set]; exact h3, by rw [List.length_set]; exact h4, fun r p hp => ?_⟩
  rcases setAt' hp with ⟨rfl, -, rfl⟩ | ⟨g1, g2⟩
  · obtain ⟨a1, a2, a3, a4⟩ := h5 r q hi
    exact ⟨a1, hm, by rw [va_up_self, va_up_self], a4⟩
  · obtain ⟨a1, a2, a3, a4⟩ := h5 r p g2
    exact ⟨a1, a2, by rw [va_up_self, va_up_ne _ _ g1]; exact a3, a4⟩
/-- the rules are others, all else stays -/
theorem RM.ru {σ : Sy} {I : Nat → Int32} {P P' : Nat → Nat → Int32} {Q Q' : Nat → Nat → Int64} (h : RM σ I P Q) {ru : List (List Int64 × Nat)} (hl : ru.length = σ.ru.length) (hP : ∀ j, j ≠ 3 → P' j = P j) (hQ : ∀ j, j ≠ 1 → j ≤ 2 → Q' j = Q j) (hq : ∀ (r : Nat) (q : List Int64 × Nat), ru[r]? = some q → P' 3 r = nI q.2 ∧ ∀ (k : Nat) (v : Int64), q.1[k]? = some v → Q' 1 (12 * r + k) = v) : RM (σ.sc, σ.tp, σ.ou, σ.pl, ru, σ.be) I P' Q' := by
  obtain ⟨h0, h1, h2, h3, h6, h7, h8, h9, h10, h11, h12, h13⟩ := h
  refine ⟨h0, ?_, ?_, h3, ?_, hq, h8, ?_, h10, ?_, h12, ?_⟩
  · rw [hP 0 (by decide)]; exact h1
  · rw [hP 0 (by decide), hP 1 (by decide), hP 2 (by decide), hQ 0 (by decide) (by decide)]; exact h2
  · rw [h6]; exact congrArg nI hl.symm
  · rw [hQ 2 (by decide) (by decide)]; exact h9
  · rw [hP 4 (by decide)]; exact h11
  · rw [hP 5 (by decide)]; exact h13
theorem count_ok {σ : Sy} {i m : Nat} {q : List Int64 × Nat} (hq : σ.ru[i]? = some q) (hi : i < 2 ^ 31) (hm : m ≤ 1000000) (h : rroom (σ.ru.set i (q.1, m)) σ.pl.2.2) : o_count σ (nI i) (nI m) = (nI q.2, (σ.sc, σ.tp, σ.ou, σ.pl, σ.ru.set i (q.1, m), σ.be)) := by
  have hl := (List.getElem?_eq_some_iff.mp hq).1
  have e : σ.ru.getD i ([], 0) = q := by rw [List.getD_eq_getElem?_getD, hq]; rfl
  unfold o_count
  rw [gIx_nI hi, decide_eq_true hl, if_neg (by decide), gIx_nI (by omega), decide_eq_true (by omega), if_neg (by decide)]
  simp only [nI_clamp hi, nI_clamp (show m < 2 ^ 31 by omega), e]
  rw [if_pos (by rw [nI_clamp hi, nI_clamp (show m < 2 ^ 31 by omega), e]; exact h)]
theorem count_no {σ : Sy} {i m : Nat} {q : List Int64 × Nat} (hq : σ.ru[i]? = some q) (hi : i < 2 ^ 31) (hm : m ≤ 1000000) (h : ¬ rroom (σ.ru.set i (q.1, m)) σ.pl.2.2) : o_count σ (nI i) (nI m) = (-16, σ) := by
  have hl := (List.getElem?_eq_some_iff.mp hq).1
  have e : σ.ru.getD i ([], 0) = q := by rw [List.getD_eq_getElem?_getD, hq]; rfl
  unfold o_count
  rw [gIx_nI hi, decide_eq_true hl, if_neg (by decide), gIx_nI (by omega), decide_eq_true (by omega), if_neg (by decide)]
  simp only [nI_clamp hi, nI_clamp (show m < 2 ^ 31 by omega), e]
  rw [if_neg (by rw [nI_clamp hi, nI_clamp (show m < 2 ^ 31 by omega), e]; exact h)]
theorem weight_ok {σ : Sy} {i : Nat} {x : Int32} {s : Sc} {q : List Int64 × Nat} (hq : σ.ru[i]? = some q) (hi : i < 2 ^ 31) (hs : scAt σ x = some (some s)) (hl : likeP s σ.pl = true) (h : rroom (σ.ru.set i (s.2.2, q.2)) σ.pl.2.2) : o_weight σ (nI i) x = (1, (σ.sc, σ.tp, σ.ou, σ.pl, σ.ru.set i (s.2.2, q.2), σ.be)) := by
  have hl2 := (List.getElem?_eq_some_iff.mp hq).1
  have e : σ.ru.getD i ([], 0) = q := by rw [List.getD_eq_getElem?_getD, hq]; rfl
  unfold o_weight
  rw [gIx_nI hi, decide_eq_true hl2, if_neg (by decide), hs]
  simp only [nI_clamp hi, e, hl]
  rw [if_neg (by decide), if_pos (by rw [nI_clamp hi, e]; exact h)]
theorem weight_no {σ : Sy} {i : Nat} {x : Int32} {s : Sc} {q : List Int64 × Nat} (hq : σ.ru[i]? = some q) (hi : i < 2 ^ 31) (hs : scAt σ x = some (some s)) (hl : likeP s σ.pl = true) (h : ¬ rroom (σ.ru.set i (s.2.2, q.2)) σ.pl.2.2) : o_weight σ (nI i) x = (-16, σ) := by
  have hl2 := (List.getElem?_eq_some_iff.mp hq).1
  have e : σ.ru.getD i ([], 0) = q := by rw [List.getD_eq_getElem?_getD, hq]; rfl
  unfold o_weight
  rw [gIx_nI hi, decide_eq_true hl2, if_neg (by decide), hs]
  simp only [nI_clamp hi, e, hl]
  rw [if_neg (by decide), if_neg (by rw [nI_clamp hi, e]; exact h)]
set_option maxHeartbeats 4000000 in
theorem m_count {l : Launch} {G : gG} {a : Nat} {I : Nat → Int32} {J : Nat → Int64} {P : Nat → Nat → Int32} {Q : Nat → Nat → Int64} {M0 : gM} {σ : Sy} (hw : Sw σ) (hr : RM σ I P Q) {r m : Int32} : gMet l yX4_count (gWs yX4_count cX4_count 4 (some .int) []) ({ frames := 3, cells := 0, slots := 0, locals := 69 } : Room) G [.ref a, .int r, .int m] (mkM G a I J P Q M0) (RMp G a M0 (o_count σ r m)) := by
  refine gMet.intro (by decide) (Nat.le_of_ble_eq_true rfl) (fun C hl hC hN => ?_)
  subst hl
  replace hC : Ck G C [] cX4_count RX4 4 (some .int) ({ frames := 3, cells := 0, slots := 0, locals := 69 } : Room) (RMp G a M0 (o_count σ r m)) := hC
  refine V.loc [some (.ref a), some (.int r), some (.int m)] ⟨rfl, rfl, rfl, trivial⟩ ?_
  refine V_iload_n hC dX4_count_0 rfl ?_
  refine V_i2l hC dX4_count_1 ?_
  refine V_lconst (v := 0) hC dX4_count_2 (by decide) ?_
  refine V_aload_n hC dX4_count_3 rfl ?_
  refine mg_rules hC dX4_count_4 ?_
  refine V_iconst (v := 1) hC dX4_count_7 (by decide) ?_
  refine V_isub hC dX4_count_8 ?_
  refine V_i2l hC dX4_count_9 ?_
  refine mt3v hC m_in mw_in ⟨⟨(Nat.le_of_ble_eq_true rfl), (Nat.le_of_ble_eq_true rfl)⟩, rfl, rfl⟩ ⟨(Nat.le_of_ble_eq_true rfl), (Nat.le_of_ble_eq_true rfl)⟩ (Nat.le_of_ble_eq_true rfl) dX4_count_10 ?_
  rw [show I 4 = nI σ.ru.length from hr.2.2.2.2.1, gIn_ix r (by have := hw.rul; omega)]
  refine V_ifb_ne (tgt := 19) hC dX4_count_13 (by decide) (fun c13 => ?_) (fun c13 => ?_)
  · have c13' := c13
    obtain ⟨i, hi, rfl⟩ := gIx_of c13 (by have := hw.rul; omega)
    have hb := hw.rul
    have eq := List.getElem?_eq_getElem hi
    obtain ⟨q1, q2⟩ := hr.2.2.2.2.2.1 i _ eq
    refine V_iload_n hC dX4_count_19 rfl ?_
    refine V_i2l hC dX4_count_20 ?_
    refine V_lconst (v := 0) hC dX4_count_21 (by decide) ?_
    refine V_ldc2 hC dX4_count_22 q1097 ?_
    refine mt3v hC m_in mw_in ⟨⟨(Nat.le_of_ble_eq_true rfl), (Nat.le_of_ble_eq_true rfl)⟩, rfl, rfl⟩ ⟨(Nat.le_of_ble_eq_true rfl), (Nat.le_of_ble_eq_true rfl)⟩ (Nat.le_of_ble_eq_true rfl) dX4_count_25 ?_
    rw [gIn_c m 1000001 (by decide) (by decide)]
    refine V_ifb_ne (tgt := 34) hC dX4_count_28 (by decide) (fun c28 => ?_) (fun c28 => ?_)
    · obtain ⟨z, hz, rfl⟩ := gIx_of c28 (by decide)
      refine V_aload_n hC dX4_count_34 rfl ?_
      refine mg_counts hC dX4_count_35 ?_
      refine V_iload_n hC dX4_count_38 rfl ?_
      refine ml_counts hC i rfl (by omega) dX4_count_39 ?_
      refine V_istore_n hC dX4_count_40 (Nat.le_of_ble_eq_true rfl) ?_
      refine V_aload_n hC dX4_count_41 rfl ?_
      refine mg_counts hC dX4_count_42 ?_
      refine V_iload_n hC dX4_count_45 rfl ?_
      refine V_iload_n hC dX4_count_46 rfl ?_
      refine ms_counts hC i rfl (by omega) dX4_count_47 ?_
      refine V_aload_n hC dX4_count_48 rfl ?_
      refine mc0g hC (m_hasRoom ((hr.rr hw).cnt eq (show z ≤ 1000000 by omega))) rfl mw_hasRoom ⟨⟨(Nat.le_of_ble_eq_true rfl), (Nat.le_of_ble_eq_true rfl)⟩, rfl, rfl⟩ ⟨(Nat.le_of_ble_eq_true rfl), (Nat.le_of_ble_eq_true rfl)⟩ (Nat.le_of_ble_eq_true rfl) dX4_count_49 (fun X M' h => by obtain ⟨b, J', h1, -⟩ := h; cases h1) (fun v M' h => ?_)
      obtain ⟨b, K, h1, h2, hbr⟩ := h
      cases h1
      subst h2
      refine V_ifb_ne (tgt := 65) hC dX4_count_52 (by decide) (fun c52 => ?_) (fun c52 => ?_)
      · refine V_iload_n hC dX4_count_65 rfl ?_
        exact V_iret hC dX4_count_66 (Nat.le_of_ble_eq_true rfl) (Nat.le_of_ble_eq_true rfl) (by
              rw [q1]
              refine RMp_i (count_ok eq (by omega) (by omega) (hbr.mp c52)) (hr.ru (by rw [List.length_set]) (fun j hj => va_up_ne _ _ hj) (fun _ _ _ => rfl) (fun r p hp => ?_))
              obtain ⟨-, -, g3, g4⟩ := ((hr.rr hw).cnt eq (show z ≤ 1000000 by omega)).2.2.2.2 r p hp
              exact ⟨g3, g4⟩)
      · refine V_aload_n hC dX4_count_55 rfl ?_
        refine mg_counts hC dX4_count_56 ?_
        refine V_iload_n hC dX4_count_59 rfl ?_
        refine V_iload_n hC dX4_count_60 rfl ?_
        refine ms_counts hC i rfl (by omega) dX4_count_61 ?_
        refine V_bipush (v := (-16)) hC dX4_count_62 (by decide) ?_
        exact V_iret hC dX4_count_64 (Nat.le_of_ble_eq_true rfl) (Nat.le_of_ble_eq_true rfl) (by
              rw [up_back]
              exact RMp_i (count_no eq (by omega) (by omega) (fun h => absurd (c52.symm.trans (hbr.mpr h)) (by decide))) hr)
    · refine V_bipush (v := (-3)) hC dX4_count_31 (by decide) ?_
      exact V_iret hC dX4_count_33 (Nat.le_of_ble_eq_true rfl) (Nat.le_of_ble_eq_true rfl) (RMp_i (by unfold o_count; rw [c13, if_neg (by decide), c28, if_pos rfl]) hr)
  · refine V_bipush (v := (-2)) hC dX4_count_16 (by decide) ?_
    exact V_iret hC dX4_count_18 (Nat.le_of_ble_eq_true rfl) (Nat.le_of_ble_eq_true rfl) (RMp_i (by unfold o_count; rw [c13, if_pos rfl]) hr)
theorem up2_s (Q : Nat → Nat → Int64) (F F' E E' : Nat → Int64) : va_up (va_up (va_up (va_up Q 3 F) 1 E) 3 F') 1 E' = va_up (va_up Q 3 F') 1 E' := by
  funext q
  by_cases h1 : q = 1
  · subst h1
    rw [va_up_self, va_up_self]
  · rw [va_up_ne _ _ h1, va_up_ne _ _ h1]
    by_cases h3 : q = 3
    · subst h3
      rw [va_up_self, va_up_self]
    · rw [va_up_ne _ _ h3, va_up_ne _ _ h3, va_up_ne _ _ h1, va_up_ne _ _ h3]
theorem up2_0 (Q : Nat → Nat → Int64) : va_up (va_up Q 3 (Q 3)) 1 (Q 1) = Q := by
  funext q
  by_cases h1 : q = 1
  · subst h1
    rw [va_up_self]
  · rw [va_up_ne _ _ h1]
    by_cases h3 : q = 3
    · subst h3
      rw [va_up_self]
    · rw [va_up_ne _ _ h3]
theorem gCpy_undo (f g : Nat → Int64) (s t k : Nat) : gCpy (gCpy f s g t k) s f s k = f := by
  funext j
  by_cases h : s ≤ j ∧ j < s + k
  · obtain ⟨d, rfl⟩ := Nat.exists_eq_add_of_le h.1
    rw [gCpy_in _ (by omega)]
  · rw [gCpy_out _ (by omega), gCpy_out _ (by omega)]
theorem RR.wgt {ru : List (List Int64 × Nat)} {n : Nat} {I : Nat → Int32} {P : Nat → Nat → Int32} {Q Q' : Nat → Nat → Int64} (h : RR ru n I P Q) {i j : Nat} {q : List Int64 × Nat} {lv : List Int64} (hi : ru[i]? = some q) (hn : lv.length = n) (hv : ∀ (k : Nat) (v : Int64), lv[k]? = some v → Q 0 (12 * j + k) = v) (hQ : Q' 1 = gCpy (Q 1) (12 * i) (Q 0) (12 * j) 12) : RR (ru.set i (lv, q.2)) n I P Q' := by
  obtain ⟨h1, h2, h3, h4, h5⟩ := h
  refine ⟨h1, h2, by rw [List.length_set]; exact h3, by rw [List.length_set]; exact h4, fun r p hp => ?_⟩
  rcases setAt' hp with ⟨rfl, -, rfl⟩ | ⟨g1, g2⟩
  · obtain ⟨a1, a2, a3, a4⟩ := h5 r q hi
    refine ⟨hn, a2, a3, fun k v hk => ?_⟩
    have hkl := (List.getElem?_eq_some_iff.mp hk).1
    replace hkl : k < lv.length := hkl
    rw [hQ, gCpy_in _ (by omega)]
    exact hv k v hk
  · obtain ⟨a1, a2, a3, a4⟩ := h5 r p g2
    refine ⟨a1, a2, a3, fun k v hk => ?_⟩
    have hkl := (List.getElem?_eq_some_iff.mp hk).1
    rw [hQ, gCpy_out _ (by omega)]
    exact a4 k v hk
set_option maxHeartbeats 4000000 in
theorem m_weight {l : Launch} {G : gG} {a : Nat} {I : Nat → Int32} {J : Nat → Int64} {P : Nat → Nat → Int32} {Q : Nat → Nat → Int64} {M0 : gM} {σ : Sy} (hw : Sw σ) (hr : RM σ I P Q) {r x : Int32} : gMet l yX4_weight (gWs yX4_weight cX4_weight 4 (some .int) []) ({ frames := 3, cells := 0, slots := 0, locals := 69 } : Room) G [.ref a, .int r, .int x] (mkM G a I J P Q M0) (RMp G a M0 (o_weight σ r x)) := by
  refine gMet.intro (by decide) (Nat.le_of_ble_eq_true rfl) (fun C hl hC hN => ?_)
  subst hl
  replace hC : Ck G C [] cX4_weight RX4 4 (some .int) ({ frames := 3, cells := 0, slots := 0, locals := 69 } : Room) (RMp G a M0 (o_weight σ r x)) := hC
  refine V.loc [some (.ref a), some (.int r), some (.int x)] ⟨rfl, rfl, rfl, trivial⟩ ?_
  refine V_iload_n hC dX4_weight_0 rfl ?_
  refine V_i2l hC dX4_weight_1 ?_
  refine V_lconst (v := 0) hC dX4_weight_2 (by decide) ?_
  refine V_aload_n hC dX4_weight_3 rfl ?_
  refine mg_rules hC dX4_weight_4 ?_
  refine V_iconst (v := 1) hC dX4_weight_7 (by decide) ?_
  refine V_isub hC dX4_weight_8 ?_
  refine V_i2l hC dX4_weight_9 ?_
  refine mt3v hC m_in mw_in ⟨⟨(Nat.le_of_ble_eq_true rfl), (Nat.le_of_ble_eq_true rfl)⟩, rfl, rfl⟩ ⟨(Nat.le_of_ble_eq_true rfl), (Nat.le_of_ble_eq_true rfl)⟩ (Nat.le_of_ble_eq_true rfl) dX4_weight_10 ?_
  rw [show I 4 = nI σ.ru.length from hr.2.2.2.2.1, gIn_ix r (by have := hw.rul; omega)]
  refine V_ifb_eq (tgt := 24) hC dX4_weight_13 (by decide) (fun c13 => ?_) (fun c13 => ?_)
  · refine V_bipush (v := (-2)) hC dX4_weight_24 (by decide) ?_
    exact V_iret hC dX4_weight_26 (Nat.le_of_ble_eq_true rfl) (Nat.le_of_ble_eq_true rfl) (by first | exact RMp_i (by unfold o_weight; rw [c13, if_pos rfl]) hr | exact RMp_i (by unfold o_weight; rw [c13, if_neg (by decide), scAt_no c21]) hr)
  · obtain ⟨i, hi, rfl⟩ := gIx_of c13 (by have := hw.rul; omega)
    have hrl := hw.rul
    have eq := List.getElem?_eq_getElem hi
    refine V_aload_n hC dX4_weight_16 rfl ?_
    refine V_iload_n hC dX4_weight_17 rfl ?_
    refine mc1v hC (m_isNumber hr.1 (by have := hw.1; omega)) rfl mw_isNumber ⟨⟨(Nat.le_of_ble_eq_true rfl), (Nat.le_of_ble_eq_true rfl)⟩, rfl, rfl⟩ ⟨(Nat.le_of_ble_eq_true rfl), (Nat.le_of_ble_eq_true rfl)⟩ (Nat.le_of_ble_eq_true rfl) dX4_weight_18 ?_
    refine V_ifb_ne (tgt := 27) hC dX4_weight_21 (by decide) (fun c21 => ?_) (fun c21 => ?_)
    · obtain ⟨j, hj, rfl⟩ := gIx_of c21 (by have := hw.1; omega)
      have hb := hw.1
      have ej := scAt_nI hj hb
      refine V_aload_n hC dX4_weight_27 rfl ?_
      refine V_iload_n hC dX4_weight_28 rfl ?_
      refine mc1v hC (m_isNothing (j := j) (by omega)) rfl mw_isNothing ⟨⟨(Nat.le_of_ble_eq_true rfl), (Nat.le_of_ble_eq_true rfl)⟩, rfl, rfl⟩ ⟨(Nat.le_of_ble_eq_true rfl), (Nat.le_of_ble_eq_true rfl)⟩ (Nat.le_of_ble_eq_true rfl) dX4_weight_29 ?_
      refine V_ifb_eq (tgt := 38) hC dX4_weight_32 (by decide) (fun c32 => ?_) (fun c32 => ?_)
      · obtain ⟨s, hs1, hs2⟩ := hr.yes hw hj c32
        obtain ⟨p1, p2, p3, p4⟩ := hr.2.2.1 j s hs2
        have hl := hw.len hs2
        refine V_aload_n hC dX4_weight_38 rfl ?_
        refine V_iload_n hC dX4_weight_39 rfl ?_
        refine mc1v hC (m_isLikePlan (i := j) (by omega)) rfl mw_isLikePlan ⟨⟨(Nat.le_of_ble_eq_true rfl), (Nat.le_of_ble_eq_true rfl)⟩, rfl, rfl⟩ ⟨(Nat.le_of_ble_eq_true rfl), (Nat.le_of_ble_eq_true rfl)⟩ (Nat.le_of_ble_eq_true rfl) dX4_weight_40 ?_
        rw [hr.lkP hw hs2]
        refine V_ifb_ne (tgt := 49) hC dX4_weight_43 (by decide) (fun c43 => ?_) (fun c43 => ?_)
        · have hlp := (of_decide_eq_true c43).2.2
          refine V_iconst (v := 0) hC dX4_weight_49 (by decide) ?_
          refine V_istore_n hC dX4_weight_50 (Nat.le_of_ble_eq_true rfl) ?_
          have loop : ∀ (fuel : Nat) (k : Nat), 12 < k + fuel → k ≤ 12 → V G C (mkM G a I J P (va_up (va_up Q 3 (gCpy (Q 3) 0 (Q 1) (12 * i) k)) 1 (gCpy (Q 1) (12 * i) (Q 0) (12 * j) k)) M0) 0 0 51 (gl [some (.ref a), some (.int (nI i)), some (.int (nI j)), some (.int (nI k))]) [] := by
            intro fuel
            induction fuel with
            | zero => intros; omega
            | succ fuel ih =>
              intro k h1 h2
              refine V_iload_n hC dX4_weight_51 rfl ?_
              refine V_bipush (v := 12) hC dX4_weight_52 (by decide) ?_
              refine V_icmp_ge (tgt := 102) hC dX4_weight_54 (by decide) (fun c54 => ?_) (fun c54 => ?_)
              · have hk : k = 12 := Nat.le_antisymm h2 (Nat.le_of_not_lt fun q => nI_ge q (by omega) c54)
                subst hk
                refine V_aload_n hC dX4_weight_102 rfl ?_
                refine mc0g hC (m_hasRoom (Q := (va_up (va_up Q 3 (gCpy (Q 3) 0 (Q 1) (12 * i) 12)) 1 (gCpy (Q 1) (12 * i) (Q 0) (12 * j) 12))) ((hr.rr hw).wgt eq hlp p4 rfl)) rfl mw_hasRoom ⟨⟨(Nat.le_of_ble_eq_true rfl), (Nat.le_of_ble_eq_true rfl)⟩, rfl, rfl⟩ ⟨(Nat.le_of_ble_eq_true rfl), (Nat.le_of_ble_eq_true rfl)⟩ (Nat.le_of_ble_eq_true rfl) dX4_weight_103 (fun X M' h => by obtain ⟨b, J', h1, -⟩ := h; cases h1) (fun v M' h => ?_)
                obtain ⟨b, K, h1, h2, hbr⟩ := h
                cases h1
                subst h2
                refine V_ifb_eq (tgt := 111) hC dX4_weight_106 (by decide) (fun c106 => ?_) (fun c106 => ?_)
                · refine V_iconst (v := 0) hC dX4_weight_111 (by decide) ?_
                  refine V_istore_n hC dX4_weight_112 (Nat.le_of_ble_eq_true rfl) ?_
                  have loop2 : ∀ (f2 : Nat) (k : Nat), 12 < k + f2 → k ≤ 12 → V G C (mkM G a I K P (va_up (va_up Q 3 (gCpy (Q 3) 0 (Q 1) (12 * i) 12)) 1 (gCpy (gCpy (Q 1) (12 * i) (Q 0) (12 * j) 12) (12 * i) (Q 1) (12 * i) k)) M0) 0 0 113 (gl [some (.ref a), some (.int (nI i)), some (.int (nI j)), some (.int (nI k))]) [] := by
                    intro f2
                    induction f2 with
                    | zero => intros; omega
                    | succ f2 ih2 =>
                      intro k g1 g2
                      refine V_iload_n hC dX4_weight_113 rfl ?_
                      refine V_bipush (v := 12) hC dX4_weight_114 (by decide) ?_
                      refine V_icmp_ge (tgt := 142) hC dX4_weight_116 (by decide) (fun c116 => ?_) (fun c116 => ?_)
                      · refine V_bipush (v := (-16)) hC dX4_weight_142 (by decide) ?_
                        exact V_iret hC dX4_weight_144 (Nat.le_of_ble_eq_true rfl) (Nat.le_of_ble_eq_true rfl) (by
                              have hk : k = 12 := Nat.le_antisymm g2 (Nat.le_of_not_lt fun q => nI_ge q (by omega) c116)
                              subst hk
                              refine RMp_i (weight_no eq (by omega) hs1 c43 (fun h => absurd (c106.symm.trans (hbr.mpr h)) (by decide))) ?_
                              have e := hr.ru (ru := σ.ru) (P' := P) (Q' := (va_up (va_up Q 3 (gCpy (Q 3) 0 (Q 1) (12 * i) 12)) 1 (gCpy (gCpy (Q 1) (12 * i) (Q 0) (12 * j) 12) (12 * i) (Q 1) (12 * i) 12))) rfl (fun _ _ => rfl) (fun j h1 h3 => by rw [va_up_ne _ _ h1, va_up_ne _ _ (by omega)]) (by rw [va_up_self, gCpy_undo]; exact hr.2.2.2.2.2.1)
                              exact e)
                      · have g4 : k < 12 := Nat.lt_of_not_le fun q => c116 (nI_le q (by omega))
                        refine V_aload_n hC dX4_weight_119 rfl ?_
                        refine mg_weights hC dX4_weight_120 ?_
                        refine V_bipush (v := 12) hC dX4_weight_123 (by decide) ?_
                        refine V_iload_n hC dX4_weight_125 rfl ?_
                        refine V_imul hC dX4_weight_126 ?_
                        refine V_iload_n hC dX4_weight_127 rfl ?_
                        refine V_iadd hC dX4_weight_128 ?_
                        refine V_aload_n hC dX4_weight_129 rfl ?_
                        refine mg_had hC dX4_weight_130 ?_
                        refine V_iload_n hC dX4_weight_133 rfl ?_
                        refine ml_had hC k rfl (by omega) dX4_weight_134 ?_
                        refine ms_weights hC (12 * i + k) (g12 i k) (by omega) dX4_weight_135 ?_
                        refine V_iinc (v := nI (k + 1)) hC dX4_weight_136 rfl (gI_inc k) (Nat.le_of_ble_eq_true rfl) ?_
                        refine V_goto (tgt := 113) hC dX4_weight_139 (by decide) ?_
                        refine V.eqM (mkM_Q ?_) (V.loc [some (.ref a), some (.int (nI i)), some (.int (nI j)), some (.int (nI (k + 1)))] ⟨rfl, rfl, rfl, rfl, trivial⟩ (ih2 (k + 1) (by omega) (by omega)))
                        refine (gUU _ 1 _ _).trans (congrArg (va_up _ 1) ?_)
                        refine Eq.trans ?_ (gCpy_s _ (12 * i) (Q 1) (12 * i) k)
                        rw [va_up_self]
                        congr 1
                        show gCpy (Q 3) 0 (Q 1) (12 * i) 12 k = _
                        have := gCpy_in (Q 3) (s := 0) (g := Q 1) (t := 12 * i) g4
                        rwa [Nat.zero_add] at this
                  refine V.eqM (mkM_Q (show (va_up (va_up Q 3 (gCpy (Q 3) 0 (Q 1) (12 * i) 12)) 1 (gCpy (Q 1) (12 * i) (Q 0) (12 * j) 12)) = (va_up (va_up Q 3 (gCpy (Q 3) 0 (Q 1) (12 * i) 12)) 1 (gCpy (gCpy (Q 1) (12 * i) (Q 0) (12 * j) 12) (12 * i) (Q 1) (12 * i) 0)) by rw [gCpy_0])) (V.loc [some (.ref a), some (.int (nI i)), some (.int (nI j)), some (.int (nI 0))] ⟨rfl, rfl, rfl, rfl, trivial⟩ (loop2 13 0 (by omega) (by omega)))
                · refine V_iconst (v := 1) hC dX4_weight_109 (by decide) ?_
                  exact V_iret hC dX4_weight_110 (Nat.le_of_ble_eq_true rfl) (Nat.le_of_ble_eq_true rfl) (RMp_i (weight_ok eq (by omega) hs1 c43 (hbr.mp c106)) (hr.ru (by rw [List.length_set]) (fun _ _ => rfl) (fun j h1 h3 => by rw [va_up_ne _ _ h1, va_up_ne _ _ (by omega)]) (fun r p hp => by
                        obtain ⟨-, -, g3, g4⟩ := ((hr.rr hw).wgt (Q' := (va_up (va_up Q 3 (gCpy (Q 3) 0 (Q 1) (12 * i) 12)) 1 (gCpy (Q 1) (12 * i) (Q 0) (12 * j) 12))) eq hlp p4 rfl).2.2.2.2 r p hp
                        exact ⟨g3, g4⟩)))
              · have h4 : k < 12 := Nat.lt_of_not_le fun q => c54 (nI_le q (by omega))
                refine V_aload_n hC dX4_weight_57 rfl ?_
                refine mg_had hC dX4_weight_58 ?_
                refine V_iload_n hC dX4_weight_61 rfl ?_
                refine V_aload_n hC dX4_weight_62 rfl ?_
                refine mg_weights hC dX4_weight_63 ?_
                refine V_bipush (v := 12) hC dX4_weight_66 (by decide) ?_
                refine V_iload_n hC dX4_weight_68 rfl ?_
                refine V_imul hC dX4_weight_69 ?_
                refine V_iload_n hC dX4_weight_70 rfl ?_
                refine V_iadd hC dX4_weight_71 ?_
                refine ml_weights hC (12 * i + k) (g12 i k) (by omega) dX4_weight_72 ?_
                refine ms_had hC k rfl (by omega) dX4_weight_73 ?_
                rw [show (va_up (va_up Q 3 (gCpy (Q 3) 0 (Q 1) (12 * i) k)) 1 (gCpy (Q 1) (12 * i) (Q 0) (12 * j) k)) 1 (12 * i + k) = Q 1 (12 * i + k) by rw [va_up_self, gCpy_out _ (by omega)]]
                refine V_aload_n hC dX4_weight_74 rfl ?_
                refine mg_weights hC dX4_weight_75 ?_
                refine V_bipush (v := 12) hC dX4_weight_78 (by decide) ?_
                refine V_iload_n hC dX4_weight_80 rfl ?_
                refine V_imul hC dX4_weight_81 ?_
                refine V_iload_n hC dX4_weight_82 rfl ?_
                refine V_iadd hC dX4_weight_83 ?_
                refine V_aload_n hC dX4_weight_84 rfl ?_
                refine mg_levels hC dX4_weight_85 ?_
                refine V_bipush (v := 12) hC dX4_weight_88 (by decide) ?_
                refine V_iload_n hC dX4_weight_90 rfl ?_
                refine V_imul hC dX4_weight_91 ?_
                refine V_iload_n hC dX4_weight_92 rfl ?_
                refine V_iadd hC dX4_weight_93 ?_
                refine ml_levels hC (12 * j + k) (g12 j k) (by omega) dX4_weight_94 ?_
                refine ms_weights hC (12 * i + k) (g12 i k) (by omega) dX4_weight_95 ?_
                refine V_iinc (v := nI (k + 1)) hC dX4_weight_96 rfl (gI_inc k) (Nat.le_of_ble_eq_true rfl) ?_
                refine V_goto (tgt := 51) hC dX4_weight_99 (by decide) ?_
                refine V.eqM (mkM_Q ?_) (V.loc [some (.ref a), some (.int (nI i)), some (.int (nI j)), some (.int (nI (k + 1)))] ⟨rfl, rfl, rfl, rfl, trivial⟩ (ih (k + 1) (by omega) (by omega)))
                refine (up2_s Q _ _ _ _).trans ?_
                have e1 := gCpy_s (Q 3) 0 (Q 1) (12 * i) k
                rw [Nat.zero_add] at e1
                have e2 := gCpy_s (Q 1) (12 * i) (Q 0) (12 * j) k
                exact (congrArg (fun w => va_up (va_up Q 3 w) 1 _) e1).trans (congrArg (fun w => va_up (va_up Q 3 _) 1 w) e2)
          refine V.eqM (mkM_Q (show Q = (va_up (va_up Q 3 (gCpy (Q 3) 0 (Q 1) (12 * i) 0)) 1 (gCpy (Q 1) (12 * i) (Q 0) (12 * j) 0)) by rw [gCpy_0, gCpy_0, up2_0])) (V.loc [some (.ref a), some (.int (nI i)), some (.int (nI j)), some (.int (nI 0))] ⟨rfl, rfl, rfl, rfl, trivial⟩ (loop 13 0 (by omega) (by omega)))
        · refine V_bipush (v := (-12)) hC dX4_weight_46 (by decide) ?_
          exact V_iret hC dX4_weight_48 (Nat.le_of_ble_eq_true rfl) (Nat.le_of_ble_eq_true rfl) (RMp_i (by unfold o_weight; rw [c13, if_neg (by decide), hs1]; simp only [c43, if_true]) hr)
      · refine V_bipush (v := (-11)) hC dX4_weight_35 (by decide) ?_
        exact V_iret hC dX4_weight_37 (Nat.le_of_ble_eq_true rfl) (Nat.le_of_ble_eq_true rfl) (RMp_i (by unfold o_weight; rw [c13, if_neg (by decide), hr.no hw hj c32]) hr)
    · refine V_bipush (v := (-2)) hC dX4_weight_24 (by decide) ?_
      exact V_iret hC dX4_weight_26 (Nat.le_of_ble_eq_true rfl) (Nat.le_of_ble_eq_true rfl) (by first | exact RMp_i (by unfold o_weight; rw [c13, if_pos rfl]) hr | exact RMp_i (by unfold o_weight; rw [c13, if_neg (by decide), scAt_no c21]) hr)
