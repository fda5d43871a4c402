/-! MODEL 5: at, compare, refusal, order, told, rule, kept -/
def RMat (G : gG) (a : Nat) (J : Nat → Int64) (P : Nat → Nat → Int32) (Q : Nat → Nat → Int64) (M0 : gM) (σ : Sy) (r : Int32 × Int64) : gRes → gM → Prop := fun res M' => res = .inl (some (.long r.2)) ∧ ∃ I : Nat → Int32, M' = mkM G a I J P Q M0 ∧ RM σ I P Q ∧ I 8 = r.1
theorem RMat_i {G : gG} {a : Nat} {I : Nat → Int32} {J : Nat → Int64} {P : Nat → Nat → Int32} {Q : Nat → Nat → Int64} {M0 : gM} {σ : Sy} {r : Int32 × Int64} {c : Int32} {v : Int64} (h : r = (c, v)) (hr : RM σ I P Q) (hc : I 8 = c) : RMat G a J P Q M0 σ r (.inl (some (.long v))) (mkM G a I J P Q M0) := by
  subst h
  exact ⟨rfl, I, rfl, hr, hc⟩
/-- the first difference among m levels from k on -/
def cmpN (f : Nat → Int64) (s : Nat) (g : Nat → Int64) (t : Nat) : Nat → Nat → Int32
  | _, 0 => 0
  | k, m + 1 => if f (s + k) = g (t + k) then cmpN f s g t (k + 1) m else if f (s + k) < g (t + k) then -1 else 1
theorem cmpN_L (f : Nat → Int64) (s : Nat) (g : Nat → Int64) (t : Nat) : ∀ (x y : List Int64) (k : Nat), x.length = y.length → (∀ i v, x[i]? = some v → f (s + (k + i)) = v) → (∀ i v, y[i]? = some v → g (t + (k + i)) = v) → cmpN f s g t k x.length = cmpL x y
  | [], [], k, _, _, _ => rfl
  | [], _ :: _, k, h, _, _ => by simp at h
  | _ :: _, [], k, h, _, _ => by simp at h
  | u :: x, v :: y, k, h, h1, h2 => by
    have e1 := h1 0 u rfl
    have e2 := h2 0 v rfl
    rw [Nat.add_zero] at e1 e2
    have ih := cmpN_L f s g t x y (k + 1) (by simpa using h) (fun i w hi => by rw [show k + 1 + i = k + (i + 1) by omega]; exact h1 (i + 1) w (by simpa using hi)) (fun i w hi => by rw [show k + 1 + i = k + (i + 1) by omega]; exact h2 (i + 1) w (by simpa using hi))
    show (if f (s + k) = g (t + k) then cmpN f s g t (k + 1) x.length else if f (s + k) < g (t + k) then -1 else 1) = (if u = v then cmpL x y else if u < v then -1 else 1)
    rw [e1, e2, ih]
def feaN (f : Nat → Int64) (s : Nat) : Nat → Bool
  | 0 => true
  | k + 1 => feaN f s k && decide (0 ≤ f (s + k))
theorem feaN_take (f : Nat → Int64) (s : Nat) (lv : List Int64) (h : ∀ i v, lv[i]? = some v → f (s + i) = v) : ∀ k, k ≤ lv.length → feaN f s k = (lv.take k).all (fun v => decide (0 ≤ v))
  | 0, _ => by simp [feaN]
  | k + 1, hk => by
    have ih := feaN_take f s lv h k (by omega)
    have e := List.getElem?_eq_getElem (show k < lv.length by omega)
    rw [feaN, ih, List.take_succ, e, List.all_append, h k _ e]
    simp
theorem g12' (n : Nat) : (12 : Int32) * nI n = nI (12 * n) := by rw [show (12 : Int32) = nI 12 from rfl, pk_mul]
/-- k places of g from t on, laid over f from s on -/
def gCpy (f : Nat → Int64) (s : Nat) (g : Nat → Int64) (t k : Nat) : Nat → Int64 := fun j => if s ≤ j ∧ j < s + k then g (t + (j - s)) else f j
theorem gCpy_0 (f : Nat → Int64) (s : Nat) (g : Nat → Int64) (t : Nat) : gCpy f s g t 0 = f := by
  funext j
  unfold gCpy
  rw [if_neg (by omega)]
theorem gCpy_s (f : Nat → Int64) (s : Nat) (g : Nat → Int64) (t k : Nat) : va_up (gCpy f s g t k) (s + k) (g (t + k)) = gCpy f s g t (k + 1) := by
  funext j
  unfold gCpy va_up
  by_cases h : j = s + k
  · rw [if_pos h, if_pos (by omega), show j - s = k by omega]
  · rw [if_neg h]
    show (if s ≤ j ∧ j < s + k then g (t + (j - s)) else f j) = _
    by_cases h2 : s ≤ j ∧ j < s + k
    · rw [if_pos h2, if_pos (by omega)]
    · rw [if_neg h2, if_neg (by omega)]
theorem gCpy_in (f : Nat → Int64) {s : Nat} {g : Nat → Int64} {t k j : Nat} (h : j < k) : gCpy f s g t k (s + j) = g (t + j) := by
  unfold gCpy
  rw [if_pos (by omega), show s + j - s = j by omega]
theorem gCpy_out (f : Nat → Int64) {s : Nat} {g : Nat → Int64} {t k j : Nat} (h : j < s ∨ s + k ≤ j) : gCpy f s g t k j = f j := by
  unfold gCpy
  rw [if_neg (by omega)]
set_option maxHeartbeats 2000000 in
theorem m_at {l : Launch} {G : gG} {a : Nat} {I : Nat → Int32} {J : Nat → Int64} {P : Nat → Nat → Int32} {Q : Nat → Nat → Int64} {M0 : gM} {σ : Sy} (hw : Sw σ) (hr : RM σ I P Q) {x lev : Int32} : gMet l yX4_at (gWs yX4_at cX4_at 3 (some .long) []) ({ frames := 2, cells := 0, slots := 0, locals := 46 } : Room) G [.ref a, .int x, .int lev] (mkM G a I J P Q M0) (RMat G a J P Q M0 σ (o_at σ x lev)) := by
  refine gMet.intro (by decide) (Nat.le_of_ble_eq_true rfl) (fun C hl hC hN => ?_)
  subst hl
  replace hC : Ck G C [] cX4_at RX4 3 (some .long) ({ frames := 2, cells := 0, slots := 0, locals := 46 } : Room) (RMat G a J P Q M0 σ (o_at σ x lev)) := hC
  refine V.loc [some (.ref a), some (.int x), some (.int lev)] ⟨rfl, rfl, rfl, trivial⟩ ?_
  refine V_aload_n hC dX4_at_0 rfl ?_
  refine V_aload_n hC dX4_at_1 rfl ?_
  refine V_iload_n hC dX4_at_2 rfl ?_
  refine mc1v hC (m_isNumber hr.1 (by have := hw.1; omega)) rfl mw_isNumber ⟨⟨(Nat.le_of_ble_eq_true rfl), (Nat.le_of_ble_eq_true rfl)⟩, rfl, rfl⟩ ⟨(Nat.le_of_ble_eq_true rfl), (Nat.le_of_ble_eq_true rfl)⟩ (Nat.le_of_ble_eq_true rfl) dX4_at_3 ?_
  refine V_ifb_ne (tgt := 13) hC dX4_at_6 (by decide) (fun c6 => ?_) (fun c6 => ?_)
  · obtain ⟨j, hj, rfl⟩ := gIx_of c6 (by have := hw.1; omega)
    have hj60 := hw.1
    refine V_aload_n hC dX4_at_13 rfl ?_
    refine V_iload_n hC dX4_at_14 rfl ?_
    refine mc1v hC (m_isNothing (j := j) (by omega)) rfl mw_isNothing ⟨⟨(Nat.le_of_ble_eq_true rfl), (Nat.le_of_ble_eq_true rfl)⟩, rfl, rfl⟩ ⟨(Nat.le_of_ble_eq_true rfl), (Nat.le_of_ble_eq_true rfl)⟩ (Nat.le_of_ble_eq_true rfl) dX4_at_15 ?_
    refine V_ifb_eq (tgt := 25) hC dX4_at_18 (by decide) (fun c18 => ?_) (fun c18 => ?_)
    · obtain ⟨s, hs1, hs2⟩ := hr.yes hw hj c18
      obtain ⟨p1, p2, p3, p4⟩ := hr.2.2.1 j s hs2
      have hl := hw.len hs2
      refine V_iload_n hC dX4_at_25 rfl ?_
      refine V_i2l hC dX4_at_26 ?_
      refine V_lconst (v := 0) hC dX4_at_27 (by decide) ?_
      refine V_aload_n hC dX4_at_28 rfl ?_
      refine mg_sizes hC dX4_at_29 ?_
      refine V_iload_n hC dX4_at_32 rfl ?_
      refine ml_sizes hC j rfl (by omega) dX4_at_33 ?_
      rw [p3]
      refine V_iconst (v := 1) hC dX4_at_34 (by decide) ?_
      refine V_isub hC dX4_at_35 ?_
      refine V_i2l hC dX4_at_36 ?_
      refine mt3v hC m_in mw_in ⟨⟨(Nat.le_of_ble_eq_true rfl), (Nat.le_of_ble_eq_true rfl)⟩, rfl, rfl⟩ ⟨(Nat.le_of_ble_eq_true rfl), (Nat.le_of_ble_eq_true rfl)⟩ (Nat.le_of_ble_eq_true rfl) dX4_at_37 ?_
      rw [gIn_ix lev (by omega)]
      refine V_ifb_ne (tgt := 47) hC dX4_at_40 (by decide) (fun c40 => ?_) (fun c40 => ?_)
      · obtain ⟨i, hi, rfl⟩ := gIx_of c40 (by omega)
        refine V_iconst (v := 0) hC dX4_at_47 (by decide) ?_
        refine mp_thrown hC dX4_at_48 ?_
        refine V_aload_n hC dX4_at_51 rfl ?_
        refine mg_thrown hC dX4_at_52 ?_
        rw [va_up_self]
        refine V_if_le (tgt := 62) hC dX4_at_55 (by decide) (fun _ => ?_) (fun c => absurd c (by decide))
        refine V_aload_n hC dX4_at_62 rfl ?_
        refine mg_levels hC dX4_at_63 ?_
        refine V_bipush (v := 12) hC dX4_at_66 (by decide) ?_
        refine V_iload_n hC dX4_at_68 rfl ?_
        refine V_imul hC dX4_at_69 ?_
        refine V_iload_n hC dX4_at_70 rfl ?_
        refine V_iadd hC dX4_at_71 ?_
        refine ml_levels hC (12 * j + i) (g12 j i) (by omega) dX4_at_72 ?_
        exact V_lret hC dX4_at_73 (Nat.le_of_ble_eq_true rfl) (Nat.le_of_ble_eq_true rfl) (by first | exact RMat_i (c := 1) (by unfold o_at; rw [scAt_no c6]) hr rfl | exact RMat_i (c := 2) (by unfold o_at; rw [hr.no hw hj c18]) hr rfl | exact RMat_i (c := 1) (by unfold o_at; rw [hs1]; simp only [c40]; rfl) hr rfl | exact RMat_i (c := 0) (by unfold o_at; rw [hs1]; simp only [c40]; rw [if_pos trivial, nI_clamp (by omega), p4 i _ (List.getElem?_eq_getElem hi), List.getD_eq_getElem?_getD, List.getElem?_eq_getElem hi]; rfl) hr rfl | exact absurd c55 (by decide))
      · refine V_iconst (v := 1) hC dX4_at_43 (by decide) ?_
        refine V_goto (tgt := 48) hC dX4_at_44 (by decide) ?_
        refine mp_thrown hC dX4_at_48 ?_
        refine V_aload_n hC dX4_at_51 rfl ?_
        refine mg_thrown hC dX4_at_52 ?_
        rw [va_up_self]
        refine V_if_le (tgt := 62) hC dX4_at_55 (by decide) (fun c => absurd c (by decide)) (fun _ => ?_)
        refine V_lconst (v := 0) hC dX4_at_58 (by decide) ?_
        refine V_goto (tgt := 73) hC dX4_at_59 (by decide) ?_
        exact V_lret hC dX4_at_73 (Nat.le_of_ble_eq_true rfl) (Nat.le_of_ble_eq_true rfl) (by first | exact RMat_i (c := 1) (by unfold o_at; rw [scAt_no c6]) hr rfl | exact RMat_i (c := 2) (by unfold o_at; rw [hr.no hw hj c18]) hr rfl | exact RMat_i (c := 1) (by unfold o_at; rw [hs1]; simp only [c40]; rfl) hr rfl | exact RMat_i (c := 0) (by unfold o_at; rw [hs1]; simp only [c40]; rw [if_pos trivial, nI_clamp (by omega), p4 i _ (List.getElem?_eq_getElem hi), List.getD_eq_getElem?_getD, List.getElem?_eq_getElem hi]; rfl) hr rfl | exact absurd c55 (by decide))
    · refine V_iconst (v := 2) hC dX4_at_21 (by decide) ?_
      refine V_goto (tgt := 48) hC dX4_at_22 (by decide) ?_
      refine mp_thrown hC dX4_at_48 ?_
      refine V_aload_n hC dX4_at_51 rfl ?_
      refine mg_thrown hC dX4_at_52 ?_
      rw [va_up_self]
      refine V_if_le (tgt := 62) hC dX4_at_55 (by decide) (fun c => absurd c (by decide)) (fun _ => ?_)
      refine V_lconst (v := 0) hC dX4_at_58 (by decide) ?_
      refine V_goto (tgt := 73) hC dX4_at_59 (by decide) ?_
      exact V_lret hC dX4_at_73 (Nat.le_of_ble_eq_true rfl) (Nat.le_of_ble_eq_true rfl) (by first | exact RMat_i (c := 1) (by unfold o_at; rw [scAt_no c6]) hr rfl | exact RMat_i (c := 2) (by unfold o_at; rw [hr.no hw hj c18]) hr rfl | exact RMat_i (c := 1) (by unfold o_at; rw [hs1]; simp only [c40]; rfl) hr rfl | exact RMat_i (c := 0) (by unfold o_at; rw [hs1]; simp only [c40]; rw [if_pos trivial, nI_clamp (by omega), p4 i _ (List.getElem?_eq_getElem hi), List.getD_eq_getElem?_getD, List.getElem?_eq_getElem hi]; rfl) hr rfl | exact absurd c55 (by decide))
  · refine V_iconst (v := 1) hC dX4_at_9 (by decide) ?_
    refine V_goto (tgt := 48) hC dX4_at_10 (by decide) ?_
    refine mp_thrown hC dX4_at_48 ?_
    refine V_aload_n hC dX4_at_51 rfl ?_
    refine mg_thrown hC dX4_at_52 ?_
    rw [va_up_self]
    refine V_if_le (tgt := 62) hC dX4_at_55 (by decide) (fun c => absurd c (by decide)) (fun _ => ?_)
    refine V_lconst (v := 0) hC dX4_at_58 (by decide) ?_
    refine V_goto (tgt := 73) hC dX4_at_59 (by decide) ?_
    exact V_lret hC dX4_at_73 (Nat.le_of_ble_eq_true rfl) (Nat.le_of_ble_eq_true rfl) (by first | exact RMat_i (c := 1) (by unfold o_at; rw [scAt_no c6]) hr rfl | exact RMat_i (c := 2) (by unfold o_at; rw [hr.no hw hj c18]) hr rfl | exact RMat_i (c := 1) (by unfold o_at; rw [hs1]; simp only [c40]; rfl) hr rfl | exact RMat_i (c := 0) (by unfold o_at; rw [hs1]; simp only [c40]; rw [if_pos trivial, nI_clamp (by omega), p4 i _ (List.getElem?_eq_getElem hi), List.getD_eq_getElem?_getD, List.getElem?_eq_getElem hi]; rfl) hr rfl | exact absurd c55 (by decide))
set_option maxHeartbeats 2000000 in
theorem m_compare {l : Launch} {G : gG} {a : Nat} {I : Nat → Int32} {J : Nat → Int64} {P : Nat → Nat → Int32} {Q : Nat → Nat → Int64} {M0 : gM} {ax ay s t n Nx Ny : Nat} {f g : Nat → Int64} (hx : (mkM G a I J P Q M0).1 ax = some (.inl (G.2.1 1, Nx, .inr (.inl f)))) (hy : (mkM G a I J P Q M0).1 ay = some (.inl (G.2.1 1, Ny, .inr (.inl g)))) (hsx : s + n ≤ Nx) (hty : t + n ≤ Ny) (hNx : Nx < 2 ^ 20) (hNy : Ny < 2 ^ 20) : gMet l yX4_compare (gWs yX4_compare cX4_compare 7 (some .int) []) ({ frames := 0, cells := 0, slots := 0, locals := 0 } : Room) G [.ref a, .ref ax, .int (nI s), .ref ay, .int (nI t), .int (nI n)] (mkM G a I J P Q M0) (gRv (.int (cmpN f s g t 0 n)) (mkM G a I J P Q M0)) := by
  refine gMet.intro (by decide) (Nat.le_of_ble_eq_true rfl) (fun C hl hC hN => ?_)
  subst hl
  replace hC : Ck G C [] cX4_compare RX4 7 (some .int) ({ frames := 0, cells := 0, slots := 0, locals := 0 } : Room) (gRv (.int (cmpN f s g t 0 n)) (mkM G a I J P Q M0)) := hC
  refine V.loc [some (.ref a), some (.ref ax), some (.int (nI s)), some (.ref ay), some (.int (nI t)), some (.int (nI n))] ⟨rfl, rfl, rfl, rfl, rfl, rfl, trivial⟩ ?_
  have loop : ∀ (fuel : Nat) (k : Nat), n < k + fuel → k ≤ n → cmpN f s g t k (n - k) = cmpN f s g t 0 n → V G C (mkM G a I J P Q M0) 0 0 3 (gl [some (.ref a), some (.ref ax), some (.int (nI s)), some (.ref ay), some (.int (nI t)), some (.int (nI n)), some (.int (nI k))]) [] := by
    intro fuel
    induction fuel with
    | zero => intros; omega
    | succ fuel ih =>
      intro k h1 h2 h3
      refine V_iload hC dX4_compare_3 rfl ?_
      refine V_iload hC dX4_compare_5 rfl ?_
      refine V_icmp_ge (tgt := 56) hC dX4_compare_7 (by decide) (fun c7 => ?_) (fun c7 => ?_)
      · refine V_iconst (v := 0) hC dX4_compare_56 (by decide) ?_
        exact V_iret hC dX4_compare_57 (Nat.le_of_ble_eq_true rfl) (Nat.le_of_ble_eq_true rfl) ⟨by rw [← h3, show n - k = 0 by have : n ≤ k := Nat.le_of_not_lt (fun q => nI_ge q (by omega) c7); omega]; rfl, rfl⟩
      · have h4 : k < n := Nat.lt_of_not_le fun q => c7 (nI_le q (by omega))
        have h5 : cmpN f s g t k (n - k) = (if f (s + k) = g (t + k) then cmpN f s g t (k + 1) (n - (k + 1)) else if f (s + k) < g (t + k) then -1 else 1) := by
          rw [show n - k = n - (k + 1) + 1 by omega]
          rfl
        refine V_aload_n hC dX4_compare_10 rfl ?_
        refine V_iload_n hC dX4_compare_11 rfl ?_
        refine V_iload hC dX4_compare_12 rfl ?_
        refine V_iadd hC dX4_compare_14 ?_
        refine V_lald hC hx (s + k) (nI_add s k) (by omega) (by omega) dX4_compare_15 ?_
        refine V_aload_n hC dX4_compare_16 rfl ?_
        refine V_iload hC dX4_compare_17 rfl ?_
        refine V_iload hC dX4_compare_19 rfl ?_
        refine V_iadd hC dX4_compare_21 ?_
        refine V_lald hC hy (t + k) (nI_add t k) (by omega) (by omega) dX4_compare_22 ?_
        refine V_lc_eq (tgt := 50) hC dX4_compare_23 rfl dX4_compare_24 (by decide) (fun c24 => ?_) (fun c24 => ?_)
        · refine V_iinc (v := nI (k + 1)) hC dX4_compare_50 rfl (gI_inc k) (Nat.le_of_ble_eq_true rfl) ?_
          refine V_goto (tgt := 3) hC dX4_compare_53 (by decide) ?_
          refine V.loc [some (.ref a), some (.ref ax), some (.int (nI s)), some (.ref ay), some (.int (nI t)), some (.int (nI n)), some (.int (nI (k + 1)))] ⟨rfl, rfl, rfl, rfl, rfl, rfl, rfl, trivial⟩ (ih (k + 1) (by omega) (by omega) (by rw [← h3, h5, if_pos c24]))
        · refine V_aload_n hC dX4_compare_27 rfl ?_
          refine V_iload_n hC dX4_compare_28 rfl ?_
          refine V_iload hC dX4_compare_29 rfl ?_
          refine V_iadd hC dX4_compare_31 ?_
          refine V_lald hC hx (s + k) (nI_add s k) (by omega) (by omega) dX4_compare_32 ?_
          refine V_aload_n hC dX4_compare_33 rfl ?_
          refine V_iload hC dX4_compare_34 rfl ?_
          refine V_iload hC dX4_compare_36 rfl ?_
          refine V_iadd hC dX4_compare_38 ?_
          refine V_lald hC hy (t + k) (nI_add t k) (by omega) (by omega) dX4_compare_39 ?_
          refine V_lc_ge (tgt := 48) hC dX4_compare_40 rfl dX4_compare_41 (by decide) (fun c41 => ?_) (fun c41 => ?_)
          · refine V_iconst (v := 1) hC dX4_compare_48 (by decide) ?_
            exact V_iret hC dX4_compare_49 (Nat.le_of_ble_eq_true rfl) (Nat.le_of_ble_eq_true rfl) ⟨by rw [← h3, h5, if_neg c24, if_neg (by rw [Int64.lt_iff_toInt_lt]; rw [Int64.le_iff_toInt_le] at c41; omega)], rfl⟩
          · refine V_iconst (v := (-1)) hC dX4_compare_44 (by decide) ?_
            refine V_goto (tgt := 49) hC dX4_compare_45 (by decide) ?_
            exact V_iret hC dX4_compare_49 (Nat.le_of_ble_eq_true rfl) (Nat.le_of_ble_eq_true rfl) ⟨by rw [← h3, h5, if_neg c24, if_pos (by rw [Int64.lt_iff_toInt_lt]; rw [Int64.le_iff_toInt_le] at c41; omega)], rfl⟩
  refine V_iconst (v := 0) hC dX4_compare_0 (by decide) ?_
  refine V_istore hC dX4_compare_1 (Nat.le_of_ble_eq_true rfl) ?_
  refine V.loc [some (.ref a), some (.ref ax), some (.int (nI s)), some (.ref ay), some (.int (nI t)), some (.int (nI n)), some (.int (nI 0))] ⟨rfl, rfl, rfl, rfl, rfl, rfl, rfl, trivial⟩ (loop (n + 1) 0 (by omega) (by omega) rfl)
def refu (σ : Sy) (i j : Nat) : Int32 := match σ.sc[i]?, σ.sc[j]? with
  | some (some s), some (some t) => if like s t = true then 0 else -12
  | _, _ => -11
theorem RM.lk {σ : Sy} {I : Nat → Int32} {P : Nat → Nat → Int32} {Q : Nat → Nat → Int64} (h : RM σ I P Q) (hw : Sw σ) {i j : Nat} {s t : Sc} (hs : σ.sc[i]? = some (some s)) (ht : σ.sc[j]? = some (some t)) : decide (P 0 i = P 0 j ∧ P 1 i = P 1 j ∧ P 2 i = P 2 j) = like s t := by
  obtain ⟨a1, a2, a3, -⟩ := h.2.2.1 i s hs
  obtain ⟨b1, b2, b3, -⟩ := h.2.2.1 j t ht
  have l1 := hw.len hs
  have l2 := hw.len ht
  unfold like
  rw [Bool.eq_iff_iff, decide_eq_true_eq, decide_eq_true_eq, a1, a2, a3, b1, b2, b3, nI_eq (by omega) (by omega), nI_eq (by omega) (by omega), nI_eq (by omega) (by omega)]
set_option maxHeartbeats 2000000 in
theorem m_refusal {l : Launch} {G : gG} {a : Nat} {I : Nat → Int32} {J : Nat → Int64} {P : Nat → Nat → Int32} {Q : Nat → Nat → Int64} {M0 : gM} {σ : Sy} (hw : Sw σ) (hr : RM σ I P Q) {i j : Nat} (hi : i < σ.sc.length) (hj : j < σ.sc.length) : gMet l yX4_refusal (gWs yX4_refusal cX4_refusal 3 (some .int) []) ({ frames := 1, cells := 0, slots := 0, locals := 22 } : Room) G [.ref a, .int (nI i), .int (nI j)] (mkM G a I J P Q M0) (gRv (.int (refu σ i j)) (mkM G a I J P Q M0)) := by
  refine gMet.intro (by decide) (Nat.le_of_ble_eq_true rfl) (fun C hl hC hN => ?_)
  subst hl
  replace hC : Ck G C [] cX4_refusal RX4 3 (some .int) ({ frames := 1, cells := 0, slots := 0, locals := 22 } : Room) (gRv (.int (refu σ i j)) (mkM G a I J P Q M0)) := hC
  refine V.loc [some (.ref a), some (.int (nI i)), some (.int (nI j))] ⟨rfl, rfl, rfl, trivial⟩ ?_
  have hb := hw.1
  refine V_aload_n hC dX4_refusal_0 rfl ?_
  refine V_iload_n hC dX4_refusal_1 rfl ?_
  refine mc1v hC (m_isNothing (j := i) (by omega)) rfl mw_isNothing ⟨⟨(Nat.le_of_ble_eq_true rfl), (Nat.le_of_ble_eq_true rfl)⟩, rfl, rfl⟩ ⟨(Nat.le_of_ble_eq_true rfl), (Nat.le_of_ble_eq_true rfl)⟩ (Nat.le_of_ble_eq_true rfl) dX4_refusal_2 ?_
  refine V_ifb_ne (tgt := 16) hC dX4_refusal_5 (by decide) (fun c5 => ?_) (fun c5 => ?_)
  · refine V_bipush (v := (-11)) hC dX4_refusal_16 (by decide) ?_
    refine V_goto (tgt := 36) hC dX4_refusal_18 (by decide) ?_
    exact V_iret hC dX4_refusal_36 (Nat.le_of_ble_eq_true rfl) (Nat.le_of_ble_eq_true rfl) ⟨by first | (have e := hr.no hw hi c5; rw [scAt_nI hi hb] at e; unfold refu; rw [e]) | (have e := hr.no hw hj c13; rw [scAt_nI hj hb] at e; unfold refu; rw [e]; cases σ.sc[i]? with | none => rfl | some y => cases y <;> rfl), rfl⟩
  · refine V_aload_n hC dX4_refusal_8 rfl ?_
    refine V_iload_n hC dX4_refusal_9 rfl ?_
    refine mc1v hC (m_isNothing (j := j) (by omega)) rfl mw_isNothing ⟨⟨(Nat.le_of_ble_eq_true rfl), (Nat.le_of_ble_eq_true rfl)⟩, rfl, rfl⟩ ⟨(Nat.le_of_ble_eq_true rfl), (Nat.le_of_ble_eq_true rfl)⟩ (Nat.le_of_ble_eq_true rfl) dX4_refusal_10 ?_
    refine V_ifb_eq (tgt := 21) hC dX4_refusal_13 (by decide) (fun c13 => ?_) (fun c13 => ?_)
    · obtain ⟨s, -, hs⟩ := hr.yes hw hi c5
      obtain ⟨t, -, ht⟩ := hr.yes hw hj c13
      refine V_aload_n hC dX4_refusal_21 rfl ?_
      refine V_iload_n hC dX4_refusal_22 rfl ?_
      refine V_iload_n hC dX4_refusal_23 rfl ?_
      refine mc2v hC (m_areLike (i := i) (j := j) (by omega) (by omega)) rfl mw_areLike ⟨⟨(Nat.le_of_ble_eq_true rfl), (Nat.le_of_ble_eq_true rfl)⟩, rfl, rfl⟩ ⟨(Nat.le_of_ble_eq_true rfl), (Nat.le_of_ble_eq_true rfl)⟩ (Nat.le_of_ble_eq_true rfl) dX4_refusal_24 ?_
      rw [hr.lk hw hs ht]
      refine V_ifb_eq (tgt := 34) hC dX4_refusal_27 (by decide) (fun c27 => ?_) (fun c27 => ?_)
      · refine V_bipush (v := (-12)) hC dX4_refusal_34 (by decide) ?_
        exact V_iret hC dX4_refusal_36 (Nat.le_of_ble_eq_true rfl) (Nat.le_of_ble_eq_true rfl) ⟨by unfold refu; rw [hs, ht]; simp only [c27]; rfl, rfl⟩
      · refine V_iconst (v := 0) hC dX4_refusal_30 (by decide) ?_
        refine V_goto (tgt := 36) hC dX4_refusal_31 (by decide) ?_
        exact V_iret hC dX4_refusal_36 (Nat.le_of_ble_eq_true rfl) (Nat.le_of_ble_eq_true rfl) ⟨by unfold refu; rw [hs, ht]; simp only [c27]; rfl, rfl⟩
    · refine V_bipush (v := (-11)) hC dX4_refusal_16 (by decide) ?_
      refine V_goto (tgt := 36) hC dX4_refusal_18 (by decide) ?_
      exact V_iret hC dX4_refusal_36 (Nat.le_of_ble_eq_true rfl) (Nat.le_of_ble_eq_true rfl) ⟨by first | (have e := hr.no hw hi c5; rw [scAt_nI hi hb] at e; unfold refu; rw [e]) | (have e := hr.no hw hj c13; rw [scAt_nI hj hb] at e; unfold refu; rw [e]; cases σ.sc[i]? with | none => rfl | some y => cases y <;> rfl), rfl⟩
set_option maxHeartbeats 2000000 in
theorem m_order {l : Launch} {G : gG} {a : Nat} {I : Nat → Int32} {J : Nat → Int64} {P : Nat → Nat → Int32} {Q : Nat → Nat → Int64} {M0 : gM} {σ : Sy} (hw : Sw σ) (hr : RM σ I P Q) {x y : Int32} : gMet l yX4_order (gWs yX4_order cX4_order 4 (some .int) []) ({ frames := 2, cells := 0, slots := 0, locals := 46 } : Room) G [.ref a, .int x, .int y] (mkM G a I J P Q M0) (RMp G a M0 (o_order σ x y, σ)) := by
  refine gMet.intro (by decide) (Nat.le_of_ble_eq_true rfl) (fun C hl hC hN => ?_)
  subst hl
  replace hC : Ck G C [] cX4_order RX4 4 (some .int) ({ frames := 2, cells := 0, slots := 0, locals := 46 } : Room) (RMp G a M0 (o_order σ x y, σ)) := hC
  refine V.loc [some (.ref a), some (.int x), some (.int y)] ⟨rfl, rfl, rfl, trivial⟩ ?_
  refine V_aload_n hC dX4_order_0 rfl ?_
  refine V_iload_n hC dX4_order_1 rfl ?_
  refine mc1v hC (m_isNumber hr.1 (by have := hw.1; omega)) rfl mw_isNumber ⟨⟨(Nat.le_of_ble_eq_true rfl), (Nat.le_of_ble_eq_true rfl)⟩, rfl, rfl⟩ ⟨(Nat.le_of_ble_eq_true rfl), (Nat.le_of_ble_eq_true rfl)⟩ (Nat.le_of_ble_eq_true rfl) dX4_order_2 ?_
  refine V_ifb_eq (tgt := 16) hC dX4_order_5 (by decide) (fun c5 => ?_) (fun c5 => ?_)
  · refine V_bipush (v := (-2)) hC dX4_order_16 (by decide) ?_
    exact V_iret hC dX4_order_18 (Nat.le_of_ble_eq_true rfl) (Nat.le_of_ble_eq_true rfl) (by first | exact RMp_i (by unfold o_order; rw [scAt_no c5]) hr | exact RMp_i (by unfold o_order; rw [scAt_no c13, ei]; cases σ.sc[i]? with | none => rfl | some y => cases y <;> rfl) hr)
  · obtain ⟨i, hi, rfl⟩ := gIx_of c5 (by have := hw.1; omega)
    have hb := hw.1
    have ei := scAt_nI hi hb
    refine V_aload_n hC dX4_order_8 rfl ?_
    refine V_iload_n hC dX4_order_9 rfl ?_
    refine mc1v hC (m_isNumber hr.1 (by have := hw.1; omega)) rfl mw_isNumber ⟨⟨(Nat.le_of_ble_eq_true rfl), (Nat.le_of_ble_eq_true rfl)⟩, rfl, rfl⟩ ⟨(Nat.le_of_ble_eq_true rfl), (Nat.le_of_ble_eq_true rfl)⟩ (Nat.le_of_ble_eq_true rfl) dX4_order_10 ?_
    refine V_ifb_ne (tgt := 19) hC dX4_order_13 (by decide) (fun c13 => ?_) (fun c13 => ?_)
    · obtain ⟨j, hj, rfl⟩ := gIx_of c13 (by have := hw.1; omega)
      have ej := scAt_nI hj hb
      refine V_aload_n hC dX4_order_19 rfl ?_
      refine V_iload_n hC dX4_order_20 rfl ?_
      refine V_iload_n hC dX4_order_21 rfl ?_
      refine mc2v hC (m_refusal hw hr hi hj) rfl mw_refusal ⟨⟨(Nat.le_of_ble_eq_true rfl), (Nat.le_of_ble_eq_true rfl)⟩, rfl, rfl⟩ ⟨(Nat.le_of_ble_eq_true rfl), (Nat.le_of_ble_eq_true rfl)⟩ (Nat.le_of_ble_eq_true rfl) dX4_order_22 ?_
      refine V_istore_n hC dX4_order_25 (Nat.le_of_ble_eq_true rfl) ?_
      refine V_iload_n hC dX4_order_26 rfl ?_
      refine V_if_ge (tgt := 34) hC dX4_order_27 (by decide) (fun c27 => ?_) (fun c27 => ?_)
      · obtain ⟨s, t, hs, ht, hlk⟩ : ∃ s t : Sc, σ.sc[i]? = some (some s) ∧ σ.sc[j]? = some (some t) ∧ like s t = true := by
          unfold refu at c27
          split at c27
          · rename_i s t q1 q2
            refine ⟨s, t, q1, q2, ?_⟩
            cases hq : like s t with
            | true => rfl
            | false => rw [hq] at c27; exact absurd c27 (by decide)
          · exact absurd c27 (by decide)
        have l1 := hw.len hs
        have l2 := hw.len ht
        obtain ⟨-, -, p3, p4⟩ := hr.2.2.1 i s hs
        obtain ⟨-, -, r3, r4⟩ := hr.2.2.1 j t ht
        have hle : s.2.2.length = t.2.2.length := (of_decide_eq_true hlk).2.2
        refine V_iconst (v := 2) hC dX4_order_34 (by decide) ?_
        refine V_aload_n hC dX4_order_35 rfl ?_
        refine V_aload_n hC dX4_order_36 rfl ?_
        refine mg_levels hC dX4_order_37 ?_
        refine V_bipush (v := 12) hC dX4_order_40 (by decide) ?_
        refine V_iload_n hC dX4_order_42 rfl ?_
        refine V_imul hC dX4_order_43 ?_
        rw [g12' i]
        refine V_aload_n hC dX4_order_44 rfl ?_
        refine mg_levels hC dX4_order_45 ?_
        refine V_bipush (v := 12) hC dX4_order_48 (by decide) ?_
        refine V_iload_n hC dX4_order_50 rfl ?_
        refine V_imul hC dX4_order_51 ?_
        rw [g12' j]
        refine V_aload_n hC dX4_order_52 rfl ?_
        refine mg_sizes hC dX4_order_53 ?_
        refine V_iload_n hC dX4_order_56 rfl ?_
        refine ml_sizes hC i rfl (by omega) dX4_order_57 ?_
        rw [p3]
        refine mc5v hC (m_compare (s := 12 * i) (t := 12 * j) (n := s.2.2.length) (mkM_at 4 (by decide)) (mkM_at 4 (by decide)) (by omega) (by omega) (by decide) (by decide)) rfl mw_compare ⟨⟨(Nat.le_of_ble_eq_true rfl), (Nat.le_of_ble_eq_true rfl)⟩, rfl, rfl⟩ ⟨(Nat.le_of_ble_eq_true rfl), (Nat.le_of_ble_eq_true rfl)⟩ (Nat.le_of_ble_eq_true rfl) dX4_order_58 ?_
        refine V_iadd hC dX4_order_61 ?_
        exact V_iret hC dX4_order_62 (Nat.le_of_ble_eq_true rfl) (Nat.le_of_ble_eq_true rfl) (RMp_i (by
              unfold o_order
              rw [ei, ej, hs, ht]
              simp only [hlk, if_true]
              rw [← cmpN_L (Q 0) (12 * i) (Q 0) (12 * j) s.2.2 t.2.2 0 hle (fun k v hv => by rw [Nat.zero_add]; exact p4 k v hv) (fun k v hv => by rw [Nat.zero_add]; exact r4 k v hv)]) hr)
      · refine V_iload_n hC dX4_order_30 rfl ?_
        refine V_goto (tgt := 62) hC dX4_order_31 (by decide) ?_
        exact V_iret hC dX4_order_62 (Nat.le_of_ble_eq_true rfl) (Nat.le_of_ble_eq_true rfl) (RMp_i (by
              have c27' : refu σ i j < 0 := by
                rw [Int32.lt_iff_toInt_lt]
                rw [Int32.le_iff_toInt_le] at c27
                have : (0 : Int32).toInt = 0 := by decide
                omega
              unfold o_order
              rw [ei, ej]
              unfold refu at c27' ⊢
              have e1 := List.getElem?_eq_getElem hi
              have e2 := List.getElem?_eq_getElem hj
              rw [e1, e2] at c27' ⊢
              cases h1 : σ.sc[i] with
              | none => cases h2 : σ.sc[j] <;> rfl
              | some s =>
                cases h2 : σ.sc[j] with
                | none => rfl
                | some t =>
                  rw [h1, h2] at c27'
                  cases hq : like s t with
                  | true => simp [hq] at c27'
                  | false => simp [hq]) hr)
    · refine V_bipush (v := (-2)) hC dX4_order_16 (by decide) ?_
      exact V_iret hC dX4_order_18 (Nat.le_of_ble_eq_true rfl) (Nat.le_of_ble_eq_true rfl) (by first | exact RMp_i (by unfold o_order; rw [scAt_no c5]) hr | exact RMp_i (by unfold o_order; rw [scAt_no c13, ei]; cases σ.sc[i]? with | none => rfl | some y => cases y <;> rfl) hr)
set_option maxHeartbeats 2000000 in
theorem m_told {l : Launch} {G : gG} {a : Nat} {I : Nat → Int32} {J : Nat → Int64} {P : Nat → Nat → Int32} {Q : Nat → Nat → Int64} {M0 : gM} {σ : Sy} (hw : Sw σ) (hr : RM σ I P Q) {x w : Int32} : gMet l yX4_told (gWs yX4_told cX4_told 5 (some .int) []) ({ frames := 2, cells := 0, slots := 0, locals := 46 } : Room) G [.ref a, .int x, .int w] (mkM G a I J P Q M0) (RMp G a M0 (o_told σ x w, σ)) := by
  refine gMet.intro (by decide) (Nat.le_of_ble_eq_true rfl) (fun C hl hC hN => ?_)
  subst hl
  replace hC : Ck G C [] cX4_told RX4 5 (some .int) ({ frames := 2, cells := 0, slots := 0, locals := 46 } : Room) (RMp G a M0 (o_told σ x w, σ)) := hC
  refine V.loc [some (.ref a), some (.int x), some (.int w)] ⟨rfl, rfl, rfl, trivial⟩ ?_
  refine V_aload_n hC dX4_told_0 rfl ?_
  refine V_iload_n hC dX4_told_1 rfl ?_
  refine mc1v hC (m_isNumber hr.1 (by have := hw.1; omega)) rfl mw_isNumber ⟨⟨(Nat.le_of_ble_eq_true rfl), (Nat.le_of_ble_eq_true rfl)⟩, rfl, rfl⟩ ⟨(Nat.le_of_ble_eq_true rfl), (Nat.le_of_ble_eq_true rfl)⟩ (Nat.le_of_ble_eq_true rfl) dX4_told_2 ?_
  refine V_ifb_ne (tgt := 11) hC dX4_told_5 (by decide) (fun c5 => ?_) (fun c5 => ?_)
  · obtain ⟨j, hj, rfl⟩ := gIx_of c5 (by have := hw.1; omega)
    have hj60 := hw.1
    refine V_iload_n hC dX4_told_11 rfl ?_
    refine V_i2l hC dX4_told_12 ?_
    refine V_lconst (v := 0) hC dX4_told_13 (by decide) ?_
    refine V_ldc2 hC dX4_told_14 q918 ?_
    refine mt3v hC m_in mw_in ⟨⟨(Nat.le_of_ble_eq_true rfl), (Nat.le_of_ble_eq_true rfl)⟩, rfl, rfl⟩ ⟨(Nat.le_of_ble_eq_true rfl), (Nat.le_of_ble_eq_true rfl)⟩ (Nat.le_of_ble_eq_true rfl) dX4_told_17 ?_
    rw [gIn_c w 4 (by decide) (by decide)]
    refine V_ifb_ne (tgt := 26) hC dX4_told_20 (by decide) (fun c20 => ?_) (fun c20 => ?_)
    · refine V_aload_n hC dX4_told_26 rfl ?_
      refine V_iload_n hC dX4_told_27 rfl ?_
      refine mc1v hC (m_isNothing (j := j) (by omega)) rfl mw_isNothing ⟨⟨(Nat.le_of_ble_eq_true rfl), (Nat.le_of_ble_eq_true rfl)⟩, rfl, rfl⟩ ⟨(Nat.le_of_ble_eq_true rfl), (Nat.le_of_ble_eq_true rfl)⟩ (Nat.le_of_ble_eq_true rfl) dX4_told_28 ?_
      refine V_ifb_eq (tgt := 37) hC dX4_told_31 (by decide) (fun c31 => ?_) (fun c31 => ?_)
      · obtain ⟨s, hs1, hs2⟩ := hr.yes hw hj c31
        obtain ⟨p1, p2, p3, p4⟩ := hr.2.2.1 j s hs2
        have hl := hw.len hs2
        have loop : ∀ (fuel : Nat) (k : Nat) (b : Bool), s.2.1 < k + fuel → k ≤ s.2.1 → b = feaN (Q 0) (12 * j) k → V G C (mkM G a I J P Q M0) 0 0 42 (gl [some (.ref a), some (.int (nI j)), some (.int w), some (.int (gB b)), some (.int (nI k))]) [] := by
          intro fuel
          induction fuel with
          | zero => intros; omega
          | succ fuel ih =>
            intro k b h1 h2 h3
            refine V_iload hC dX4_told_42 rfl ?_
            refine V_aload_n hC dX4_told_44 rfl ?_
            refine mg_hards hC dX4_told_45 ?_
            refine V_iload_n hC dX4_told_48 rfl ?_
            refine ml_hards hC j rfl (by omega) dX4_told_49 ?_
            rw [p2]
            refine V_icmp_ge (tgt := 86) hC dX4_told_50 (by decide) (fun c50 => ?_) (fun c50 => ?_)
            · refine V_iload_n hC dX4_told_86 rfl ?_
              refine V_if_ne (tgt := 99) hC dX4_told_87 (by decide) (fun c87 => ?_) (fun c87 => ?_)
              · refine V_iload_n hC dX4_told_99 rfl ?_
                refine V_iconst (v := 1) hC dX4_told_100 (by decide) ?_
                refine V_icmp_ne (tgt := 113) hC dX4_told_101 (by decide) (fun c101 => ?_) (fun c101 => ?_)
                · refine V_iload_n hC dX4_told_113 rfl ?_
                  refine V_iconst (v := 2) hC dX4_told_114 (by decide) ?_
                  refine V_icmp_ne (tgt := 127) hC dX4_told_115 (by decide) (fun c115 => ?_) (fun c115 => ?_)
                  · refine V_iload_n hC dX4_told_127 rfl ?_
                    refine V_ifb_eq (tgt := 135) hC dX4_told_128 (by decide) (fun c128 => ?_) (fun c128 => ?_)
                    · refine V_iconst (v := 0) hC dX4_told_135 (by decide) ?_
                      exact V_iret hC dX4_told_136 (Nat.le_of_ble_eq_true rfl) (Nat.le_of_ble_eq_true rfl) (RMp_i (by
                            have hk : k = s.2.1 := Nat.le_antisymm h2 (Nat.le_of_not_lt fun q => nI_ge q (by omega) c50)
                            have hf : feaN (Q 0) (12 * j) s.2.1 = feas s := feaN_take (Q 0) (12 * j) s.2.2 p4 s.2.1 hl.2.1
                            unfold o_told
                            rw [hs1]
                            simp only [c20]
                            first
                              | (rw [if_pos c87, p1]; rfl)
                              | (rw [if_neg c87, if_pos c101, p2]; rfl)
                              | (rw [if_neg c87, if_neg c101, if_pos c115, p3]; rfl)
                              | (rw [if_neg c87, if_neg c101, if_neg c115, ← hf, ← hk, ← h3, c128]; rfl)) hr)
                    · refine V_iconst (v := 1) hC dX4_told_131 (by decide) ?_
                      refine V_goto (tgt := 136) hC dX4_told_132 (by decide) ?_
                      exact V_iret hC dX4_told_136 (Nat.le_of_ble_eq_true rfl) (Nat.le_of_ble_eq_true rfl) (RMp_i (by
                            have hk : k = s.2.1 := Nat.le_antisymm h2 (Nat.le_of_not_lt fun q => nI_ge q (by omega) c50)
                            have hf : feaN (Q 0) (12 * j) s.2.1 = feas s := feaN_take (Q 0) (12 * j) s.2.2 p4 s.2.1 hl.2.1
                            unfold o_told
                            rw [hs1]
                            simp only [c20]
                            first
                              | (rw [if_pos c87, p1]; rfl)
                              | (rw [if_neg c87, if_pos c101, p2]; rfl)
                              | (rw [if_neg c87, if_neg c101, if_pos c115, p3]; rfl)
                              | (rw [if_neg c87, if_neg c101, if_neg c115, ← hf, ← hk, ← h3, c128]; rfl)) hr)
                  · refine V_aload_n hC dX4_told_118 rfl ?_
                    refine mg_sizes hC dX4_told_119 ?_
                    refine V_iload_n hC dX4_told_122 rfl ?_
                    refine ml_sizes hC j rfl (by omega) dX4_told_123 ?_
                    refine V_goto (tgt := 136) hC dX4_told_124 (by decide) ?_
                    exact V_iret hC dX4_told_136 (Nat.le_of_ble_eq_true rfl) (Nat.le_of_ble_eq_true rfl) (RMp_i (by
                          have hk : k = s.2.1 := Nat.le_antisymm h2 (Nat.le_of_not_lt fun q => nI_ge q (by omega) c50)
                          have hf : feaN (Q 0) (12 * j) s.2.1 = feas s := feaN_take (Q 0) (12 * j) s.2.2 p4 s.2.1 hl.2.1
                          unfold o_told
                          rw [hs1]
                          simp only [c20]
                          first
                            | (rw [if_pos c87, p1]; rfl)
                            | (rw [if_neg c87, if_pos c101, p2]; rfl)
                            | (rw [if_neg c87, if_neg c101, if_pos c115, p3]; rfl)
                            | (rw [if_neg c87, if_neg c101, if_neg c115, ← hf, ← hk, ← h3, c128]; rfl)) hr)
                · refine V_aload_n hC dX4_told_104 rfl ?_
                  refine mg_hards hC dX4_told_105 ?_
                  refine V_iload_n hC dX4_told_108 rfl ?_
                  refine ml_hards hC j rfl (by omega) dX4_told_109 ?_
                  refine V_goto (tgt := 136) hC dX4_told_110 (by decide) ?_
                  exact V_iret hC dX4_told_136 (Nat.le_of_ble_eq_true rfl) (Nat.le_of_ble_eq_true rfl) (RMp_i (by
                        have hk : k = s.2.1 := Nat.le_antisymm h2 (Nat.le_of_not_lt fun q => nI_ge q (by omega) c50)
                        have hf : feaN (Q 0) (12 * j) s.2.1 = feas s := feaN_take (Q 0) (12 * j) s.2.2 p4 s.2.1 hl.2.1
                        unfold o_told
                        rw [hs1]
                        simp only [c20]
                        first
                          | (rw [if_pos c87, p1]; rfl)
                          | (rw [if_neg c87, if_pos c101, p2]; rfl)
                          | (rw [if_neg c87, if_neg c101, if_pos c115, p3]; rfl)
                          | (rw [if_neg c87, if_neg c101, if_neg c115, ← hf, ← hk, ← h3, c128]; rfl)) hr)
              · refine V_aload_n hC dX4_told_90 rfl ?_
                refine mg_shapes hC dX4_told_91 ?_
                refine V_iload_n hC dX4_told_94 rfl ?_
                refine ml_shapes hC j rfl (by omega) dX4_told_95 ?_
                refine V_goto (tgt := 136) hC dX4_told_96 (by decide) ?_
                exact V_iret hC dX4_told_136 (Nat.le_of_ble_eq_true rfl) (Nat.le_of_ble_eq_true rfl) (RMp_i (by
                      have hk : k = s.2.1 := Nat.le_antisymm h2 (Nat.le_of_not_lt fun q => nI_ge q (by omega) c50)
                      have hf : feaN (Q 0) (12 * j) s.2.1 = feas s := feaN_take (Q 0) (12 * j) s.2.2 p4 s.2.1 hl.2.1
                      unfold o_told
                      rw [hs1]
                      simp only [c20]
                      first
                        | (rw [if_pos c87, p1]; rfl)
                        | (rw [if_neg c87, if_pos c101, p2]; rfl)
                        | (rw [if_neg c87, if_neg c101, if_pos c115, p3]; rfl)
                        | (rw [if_neg c87, if_neg c101, if_neg c115, ← hf, ← hk, ← h3, c128]; rfl)) hr)
            · have h4 : k < s.2.1 := Nat.lt_of_not_le fun q => c50 (nI_le q (by omega))
              refine V_iload_n hC dX4_told_53 rfl ?_
              refine V_ifb_eq (tgt := 78) hC dX4_told_54 (by decide) (fun c54 => ?_) (fun c54 => ?_)
              · refine V_iconst (v := 0) hC dX4_told_78 (by decide) ?_
                refine V_istore_n hC dX4_told_79 (Nat.le_of_ble_eq_true rfl) ?_
                refine V_iinc (v := nI (k + 1)) hC dX4_told_80 rfl (gI_inc k) (Nat.le_of_ble_eq_true rfl) ?_
                refine V_goto (tgt := 42) hC dX4_told_83 (by decide) ?_
                refine V.loc [some (.ref a), some (.int (nI j)), some (.int w), some (.int (gB false)), some (.int (nI (k + 1)))] ⟨rfl, rfl, rfl, rfl, rfl, trivial⟩ (ih (k + 1) false (by omega) (by omega) (by rw [feaN, ← h3]; first | (rw [decide_eq_false (by rw [Int64.lt_iff_toInt_lt] at c71; rw [Int64.le_iff_toInt_le]; omega), Bool.and_false]) | (rw [c54]; rfl)))
              · refine V_aload_n hC dX4_told_57 rfl ?_
                refine mg_levels hC dX4_told_58 ?_
                refine V_bipush (v := 12) hC dX4_told_61 (by decide) ?_
                refine V_iload_n hC dX4_told_63 rfl ?_
                refine V_imul hC dX4_told_64 ?_
                refine V_iload hC dX4_told_65 rfl ?_
                refine V_iadd hC dX4_told_67 ?_
                refine ml_levels hC (12 * j + k) (g12 j k) (by omega) dX4_told_68 ?_
                refine V_lconst (v := 0) hC dX4_told_69 (by decide) ?_
                refine V_lc_lt (tgt := 78) hC dX4_told_70 rfl dX4_told_71 (by decide) (fun c71 => ?_) (fun c71 => ?_)
                · refine V_iconst (v := 0) hC dX4_told_78 (by decide) ?_
                  refine V_istore_n hC dX4_told_79 (Nat.le_of_ble_eq_true rfl) ?_
                  refine V_iinc (v := nI (k + 1)) hC dX4_told_80 rfl (gI_inc k) (Nat.le_of_ble_eq_true rfl) ?_
                  refine V_goto (tgt := 42) hC dX4_told_83 (by decide) ?_
                  refine V.loc [some (.ref a), some (.int (nI j)), some (.int w), some (.int (gB false)), some (.int (nI (k + 1)))] ⟨rfl, rfl, rfl, rfl, rfl, trivial⟩ (ih (k + 1) false (by omega) (by omega) (by rw [feaN, ← h3]; first | (rw [decide_eq_false (by rw [Int64.lt_iff_toInt_lt] at c71; rw [Int64.le_iff_toInt_le]; omega), Bool.and_false]) | (rw [c54]; rfl)))
                · refine V_iconst (v := 1) hC dX4_told_74 (by decide) ?_
                  refine V_goto (tgt := 79) hC dX4_told_75 (by decide) ?_
                  refine V_istore_n hC dX4_told_79 (Nat.le_of_ble_eq_true rfl) ?_
                  refine V_iinc (v := nI (k + 1)) hC dX4_told_80 rfl (gI_inc k) (Nat.le_of_ble_eq_true rfl) ?_
                  refine V_goto (tgt := 42) hC dX4_told_83 (by decide) ?_
                  refine V.loc [some (.ref a), some (.int (nI j)), some (.int w), some (.int (gB true)), some (.int (nI (k + 1)))] ⟨rfl, rfl, rfl, rfl, rfl, trivial⟩ (ih (k + 1) true (by omega) (by omega) (by rw [feaN, ← h3, c54, decide_eq_true (by rw [Int64.lt_iff_toInt_lt] at c71; rw [Int64.le_iff_toInt_le]; omega)]; rfl))
        refine V_iconst (v := 1) hC dX4_told_37 (by decide) ?_
        refine V_istore_n hC dX4_told_38 (Nat.le_of_ble_eq_true rfl) ?_
        refine V_iconst (v := 0) hC dX4_told_39 (by decide) ?_
        refine V_istore hC dX4_told_40 (Nat.le_of_ble_eq_true rfl) ?_
        refine V.loc [some (.ref a), some (.int (nI j)), some (.int w), some (.int (gB true)), some (.int (nI 0))] ⟨rfl, rfl, rfl, rfl, rfl, trivial⟩ (loop (s.2.1 + 1) 0 true (by omega) (by omega) rfl)
      · refine V_bipush (v := (-11)) hC dX4_told_34 (by decide) ?_
        exact V_iret hC dX4_told_36 (Nat.le_of_ble_eq_true rfl) (Nat.le_of_ble_eq_true rfl) (RMp_i (by unfold o_told; rw [hr.no hw hj c31]; simp only [c20]; rfl) hr)
    · refine V_bipush (v := (-3)) hC dX4_told_23 (by decide) ?_
      exact V_iret hC dX4_told_25 (Nat.le_of_ble_eq_true rfl) (Nat.le_of_ble_eq_true rfl) (RMp_i (by unfold o_told; rw [scAt_nI hj hj60, List.getElem?_eq_getElem hj]; simp only [c20, if_true]) hr)
  · refine V_bipush (v := (-2)) hC dX4_told_8 (by decide) ?_
    exact V_iret hC dX4_told_10 (Nat.le_of_ble_eq_true rfl) (Nat.le_of_ble_eq_true rfl) (RMp_i (by unfold o_told; rw [scAt_no c5]) hr)
