/-! MODEL 1: its small methods -/
theorem gB_nar (b : Bool) : narrow .boolean (.int (gB b)) = .int (gB b) := by cases b <;> rfl
theorem gB_fit (b : Bool) : fits .boolean (.int (gB b)) = true := by cases b <;> rfl
theorem gRv_b {v : Value} {M : gM} {b b' : Bool} (h : b' = b) : gRv (.int (gB b)) M (.inl (some (.int (gB b')))) M := ⟨by rw [h], rfl⟩
theorem gRv_1 {M : gM} {b : Bool} (h : b = true) : gRv (.int (gB b)) M (.inl (some (.int 1))) M := ⟨by rw [h]; rfl, rfl⟩
theorem gRv_0 {M : gM} {b : Bool} (h : b = false) : gRv (.int (gB b)) M (.inl (some (.int 0))) M := ⟨by rw [h]; rfl, rfl⟩
def gIn (v lo hi : Int64) : Bool := decide (lo ≤ v) && decide (v ≤ hi)
theorem gIn_t {v lo hi : Int64} (h1 : ¬ v < lo) (h2 : ¬ hi < v) : gIn v lo hi = true := by
  simp only [gIn, Bool.and_eq_true, decide_eq_true_eq]
  rw [Int64.lt_iff_toInt_lt] at h1 h2
  rw [Int64.le_iff_toInt_le, Int64.le_iff_toInt_le]
  omega
theorem gIn_f1 {v lo hi : Int64} (h1 : v < lo) : gIn v lo hi = false := by
  rw [Int64.lt_iff_toInt_lt] at h1
  have : ¬ lo ≤ v := by rw [Int64.le_iff_toInt_le]; omega
  simp [gIn, this]
theorem gIn_f2 {v lo hi : Int64} (h1 : hi < v) : gIn v lo hi = false := by
  rw [Int64.lt_iff_toInt_lt] at h1
  have : ¬ v ≤ hi := by rw [Int64.le_iff_toInt_le]; omega
  simp [gIn, this]
/-- a place among n -/
def gIx (x : Int32) (n : Nat) : Bool := decide (0 ≤ x.toInt ∧ x.toInt < n)
theorem gIx_of {x : Int32} {n : Nat} (h : gIx x n = true) (hn : n < 2 ^ 31) : ∃ j : Nat, j < n ∧ x = nI j := by
  have h := of_decide_eq_true h
  exact vp_in_of (vp_in_iff.mpr h) hn
theorem gIx_nI {j n : Nat} (h : j < 2 ^ 31) : gIx (nI j) n = decide (j < n) := by
  unfold gIx
  rw [nI_toInt h]
  by_cases q : j < n
  · rw [decide_eq_true q, decide_eq_true]
    omega
  · rw [decide_eq_false q, decide_eq_false]
    omega
theorem gI_dec {n : Nat} (hn : n < 2 ^ 30) : (nI n - 1).toInt = (n : Int) - 1 := by
  have h := pk_sub_toInt (a := n) (b := 1) hn (by decide)
  exact h
theorem gIn_ix (x : Int32) {n : Nat} (hn : n < 2 ^ 30) : gIn x.toInt64 0 (nI n - 1).toInt64 = gIx x n := by
  unfold gIn gIx
  rw [Bool.eq_iff_iff]
  simp only [Bool.and_eq_true, decide_eq_true_eq]
  rw [Int64.le_iff_toInt_le, Int64.le_iff_toInt_le, Int32.toInt_toInt64, Int32.toInt_toInt64, gI_dec hn]
  have : (0 : Int64).toInt = 0 := by decide
  omega
def wJ (J : Nat → Int64) (h w : Int64) : Nat → Int64 := va_up (va_up J 0 h) 1 w
theorem wJ_wJ (J : Nat → Int64) (h w h' w' : Int64) : wJ (wJ J h w) h' w' = wJ J h' w' := by
  funext q
  unfold wJ va_up
  by_cases h1 : q = 1
  · simp [h1]
  · by_cases h0 : q = 0 <;> simp [h1, h0]
theorem wJ_01 (J : Nat → Int64) (h w h' w' : Int64) : va_up (va_up (wJ J h w) 0 h') 1 w' = wJ J h' w' := wJ_wJ J h w h' w'
def wadH (h w v n : Int64) : Int64 := h + v >>> ((32 : Int32).toInt64 &&& 63) * n + (w + (v &&& 4294967295) * n) >>> ((32 : Int32).toInt64 &&& 63)
def wadL (w v n : Int64) : Int64 := (w + (v &&& 4294967295) * n) &&& 4294967295
def iP (I : Nat → Int32) (p s : Int32) : Nat → Int32 := va_up (va_up I 9 p) 10 s
theorem iP_iP (I : Nat → Int32) (h w h' w' : Int32) : iP (iP I h w) h' w' = iP I h' w' := by
  funext q
  unfold iP va_up
  by_cases h1 : q = 10
  · simp [h1]
  · by_cases h0 : q = 9 <;> simp [h1, h0]
theorem iP_ps (I : Nat → Int32) (p s : Int32) : va_up (va_up I 10 s) 9 p = iP I p s := by
  funext q
  unfold iP va_up
  by_cases h1 : q = 10
  · simp [h1]
  · by_cases h0 : q = 9 <;> simp [h1, h0]
def hereV (f : Nat → Int32) (p t : Nat) : Int32 := if p < t then f p else -1

set_option maxHeartbeats 1000000 in
theorem m_in {l : Launch} {G : gG} {M : gM} {v lo hi : Int64} : gMet l yX4_in (gWs yX4_in cX4_in 6 (some .boolean) []) ({ frames := 0, cells := 0, slots := 0, locals := 0 } : Room) G [.long v, .long lo, .long hi] M (gRv (.int (gB (gIn v lo hi))) M) := by
  refine gMet.intro (by decide) (Nat.le_of_ble_eq_true rfl) (fun C hl hC hN => ?_)
  subst hl
  replace hC : Ck G C [] cX4_in RX4 6 (some .boolean) ({ frames := 0, cells := 0, slots := 0, locals := 0 } : Room) (gRv (.int (gB (gIn v lo hi))) M) := hC
  refine V.loc [some (.long v), none, some (.long lo), none, some (.long hi), none] ⟨rfl, rfl, rfl, trivial⟩ ?_
  refine V_lload_n hC dX4_in_0 rfl ?_
  refine V_lload_n hC dX4_in_1 rfl ?_
  refine V_lc_lt (tgt := 17) hC dX4_in_2 rfl dX4_in_3 (by decide) (fun c3 => ?_) (fun c3 => ?_)
  · refine V_iconst (v := 0) hC dX4_in_17 (by decide) ?_
    exact V_zret hC dX4_in_18 rfl (Nat.le_of_ble_eq_true rfl) (Nat.le_of_ble_eq_true rfl) (gRv_0 (by first | exact gIn_f1 c3 | exact gIn_f2 c10))
  · refine V_lload_n hC dX4_in_6 rfl ?_
    refine V_lload hC dX4_in_7 rfl ?_
    refine V_lc_gt (tgt := 17) hC dX4_in_9 rfl dX4_in_10 (by decide) (fun c10 => ?_) (fun c10 => ?_)
    · refine V_iconst (v := 0) hC dX4_in_17 (by decide) ?_
      exact V_zret hC dX4_in_18 rfl (Nat.le_of_ble_eq_true rfl) (Nat.le_of_ble_eq_true rfl) (gRv_0 (by first | exact gIn_f1 c3 | exact gIn_f2 c10))
    · refine V_iconst (v := 1) hC dX4_in_13 (by decide) ?_
      refine V_goto (tgt := 18) hC dX4_in_14 (by decide) ?_
      exact V_zret hC dX4_in_18 rfl (Nat.le_of_ble_eq_true rfl) (Nat.le_of_ble_eq_true rfl) (gRv_1 (gIn_t c3 c10))
set_option maxHeartbeats 1000000 in
theorem m_isNumber {l : Launch} {G : gG} {a : Nat} {I : Nat → Int32} {J : Nat → Int64} {P : Nat → Nat → Int32} {Q : Nat → Nat → Int64} {M0 : gM} {n : Nat} (hn : I 0 = nI n) (hb : n < 2 ^ 30) {x : Int32} : gMet l yX4_isNumber (gWs yX4_isNumber cX4_isNumber 2 (some .boolean) []) ({ frames := 1, cells := 0, slots := 0, locals := 25 } : Room) G [.ref a, .int x] (mkM G a I J P Q M0) (gRv (.int (gB (gIx x n))) (mkM G a I J P Q M0)) := by
  refine gMet.intro (by decide) (Nat.le_of_ble_eq_true rfl) (fun C hl hC hN => ?_)
  subst hl
  replace hC : Ck G C [] cX4_isNumber RX4 2 (some .boolean) ({ frames := 1, cells := 0, slots := 0, locals := 25 } : Room) (gRv (.int (gB (gIx x n))) (mkM G a I J P Q M0)) := hC
  refine V.loc [some (.ref a), some (.int x)] ⟨rfl, rfl, trivial⟩ ?_
  refine V_iload_n hC dX4_isNumber_0 rfl ?_
  refine V_i2l hC dX4_isNumber_1 ?_
  refine V_lconst (v := 0) hC dX4_isNumber_2 (by decide) ?_
  refine V_aload_n hC dX4_isNumber_3 rfl ?_
  refine mg_scores hC dX4_isNumber_4 ?_
  refine V_iconst (v := 1) hC dX4_isNumber_7 (by decide) ?_
  refine V_isub hC dX4_isNumber_8 ?_
  refine V_i2l hC dX4_isNumber_9 ?_
  refine mt3v hC m_in mw_in ⟨⟨(Nat.le_of_ble_eq_true rfl), (Nat.le_of_ble_eq_true rfl)⟩, rfl, rfl⟩ ⟨(Nat.le_of_ble_eq_true rfl), (Nat.le_of_ble_eq_true rfl)⟩ (Nat.le_of_ble_eq_true rfl) dX4_isNumber_10 ?_
  exact V_zret hC dX4_isNumber_13 (gB_nar _) (Nat.le_of_ble_eq_true rfl) (Nat.le_of_ble_eq_true rfl) (gRv_b (v := .null) (by rw [hn, gIn_ix x hb]))
set_option maxHeartbeats 1000000 in
theorem m_isNothing {l : Launch} {G : gG} {a : Nat} {I : Nat → Int32} {J : Nat → Int64} {P : Nat → Nat → Int32} {Q : Nat → Nat → Int64} {M0 : gM} {j : Nat} (hj : j < 61) : gMet l yX4_isNothing (gWs yX4_isNothing cX4_isNothing 2 (some .boolean) []) ({ frames := 0, cells := 0, slots := 0, locals := 0 } : Room) G [.ref a, .int (nI j)] (mkM G a I J P Q M0) (gRv (.int (gB (decide (P 0 j = -1)))) (mkM G a I J P Q M0)) := by
  refine gMet.intro (by decide) (Nat.le_of_ble_eq_true rfl) (fun C hl hC hN => ?_)
  subst hl
  replace hC : Ck G C [] cX4_isNothing RX4 2 (some .boolean) ({ frames := 0, cells := 0, slots := 0, locals := 0 } : Room) (gRv (.int (gB (decide (P 0 j = -1)))) (mkM G a I J P Q M0)) := hC
  refine V.loc [some (.ref a), some (.int (nI j))] ⟨rfl, rfl, trivial⟩ ?_
  refine V_aload_n hC dX4_isNothing_0 rfl ?_
  refine mg_shapes hC dX4_isNothing_1 ?_
  refine V_iload_n hC dX4_isNothing_4 rfl ?_
  refine ml_shapes hC j rfl hj dX4_isNothing_5 ?_
  refine V_iconst (v := (-1)) hC dX4_isNothing_6 (by decide) ?_
  refine V_icmp_ne (tgt := 14) hC dX4_isNothing_7 (by decide) (fun c7 => ?_) (fun c7 => ?_)
  · refine V_iconst (v := 0) hC dX4_isNothing_14 (by decide) ?_
    exact V_zret hC dX4_isNothing_15 rfl (Nat.le_of_ble_eq_true rfl) (Nat.le_of_ble_eq_true rfl) (gRv_0 (decide_eq_false c7))
  · refine V_iconst (v := 1) hC dX4_isNothing_10 (by decide) ?_
    refine V_goto (tgt := 15) hC dX4_isNothing_11 (by decide) ?_
    exact V_zret hC dX4_isNothing_15 rfl (Nat.le_of_ble_eq_true rfl) (Nat.le_of_ble_eq_true rfl) (gRv_1 (decide_eq_true c7))
set_option maxHeartbeats 1000000 in
theorem m_areLike {l : Launch} {G : gG} {a : Nat} {I : Nat → Int32} {J : Nat → Int64} {P : Nat → Nat → Int32} {Q : Nat → Nat → Int64} {M0 : gM} {i j : Nat} (hi : i < 61) (hj : j < 61) : gMet l yX4_areLike (gWs yX4_areLike cX4_areLike 3 (some .boolean) []) ({ frames := 0, cells := 0, slots := 0, locals := 0 } : Room) G [.ref a, .int (nI i), .int (nI j)] (mkM G a I J P Q M0) (gRv (.int (gB (decide (P 0 i = P 0 j ∧ P 1 i = P 1 j ∧ P 2 i = P 2 j)))) (mkM G a I J P Q M0)) := by
  refine gMet.intro (by decide) (Nat.le_of_ble_eq_true rfl) (fun C hl hC hN => ?_)
  subst hl
  replace hC : Ck G C [] cX4_areLike RX4 3 (some .boolean) ({ frames := 0, cells := 0, slots := 0, locals := 0 } : Room) (gRv (.int (gB (decide (P 0 i = P 0 j ∧ P 1 i = P 1 j ∧ P 2 i = P 2 j)))) (mkM G a I J P Q M0)) := hC
  refine V.loc [some (.ref a), some (.int (nI i)), some (.int (nI j))] ⟨rfl, rfl, rfl, trivial⟩ ?_
  refine V_aload_n hC dX4_areLike_0 rfl ?_
  refine mg_shapes hC dX4_areLike_1 ?_
  refine V_iload_n hC dX4_areLike_4 rfl ?_
  refine ml_shapes hC i rfl hi dX4_areLike_5 ?_
  refine V_aload_n hC dX4_areLike_6 rfl ?_
  refine mg_shapes hC dX4_areLike_7 ?_
  refine V_iload_n hC dX4_areLike_10 rfl ?_
  refine ml_shapes hC j rfl hj dX4_areLike_11 ?_
  refine V_icmp_ne (tgt := 49) hC dX4_areLike_12 (by decide) (fun c12 => ?_) (fun c12 => ?_)
  · refine V_iconst (v := 0) hC dX4_areLike_49 (by decide) ?_
    exact V_zret hC dX4_areLike_50 rfl (Nat.le_of_ble_eq_true rfl) (Nat.le_of_ble_eq_true rfl) (gRv_0 (by simp_all))
  · refine V_aload_n hC dX4_areLike_15 rfl ?_
    refine mg_hards hC dX4_areLike_16 ?_
    refine V_iload_n hC dX4_areLike_19 rfl ?_
    refine ml_hards hC i rfl hi dX4_areLike_20 ?_
    refine V_aload_n hC dX4_areLike_21 rfl ?_
    refine mg_hards hC dX4_areLike_22 ?_
    refine V_iload_n hC dX4_areLike_25 rfl ?_
    refine ml_hards hC j rfl hj dX4_areLike_26 ?_
    refine V_icmp_ne (tgt := 49) hC dX4_areLike_27 (by decide) (fun c27 => ?_) (fun c27 => ?_)
    · refine V_iconst (v := 0) hC dX4_areLike_49 (by decide) ?_
      exact V_zret hC dX4_areLike_50 rfl (Nat.le_of_ble_eq_true rfl) (Nat.le_of_ble_eq_true rfl) (gRv_0 (by simp_all))
    · refine V_aload_n hC dX4_areLike_30 rfl ?_
      refine mg_sizes hC dX4_areLike_31 ?_
      refine V_iload_n hC dX4_areLike_34 rfl ?_
      refine ml_sizes hC i rfl hi dX4_areLike_35 ?_
      refine V_aload_n hC dX4_areLike_36 rfl ?_
      refine mg_sizes hC dX4_areLike_37 ?_
      refine V_iload_n hC dX4_areLike_40 rfl ?_
      refine ml_sizes hC j rfl hj dX4_areLike_41 ?_
      refine V_icmp_ne (tgt := 49) hC dX4_areLike_42 (by decide) (fun c42 => ?_) (fun c42 => ?_)
      · refine V_iconst (v := 0) hC dX4_areLike_49 (by decide) ?_
        exact V_zret hC dX4_areLike_50 rfl (Nat.le_of_ble_eq_true rfl) (Nat.le_of_ble_eq_true rfl) (gRv_0 (by simp_all))
      · refine V_iconst (v := 1) hC dX4_areLike_45 (by decide) ?_
        refine V_goto (tgt := 50) hC dX4_areLike_46 (by decide) ?_
        exact V_zret hC dX4_areLike_50 rfl (Nat.le_of_ble_eq_true rfl) (Nat.le_of_ble_eq_true rfl) (gRv_1 (by simp_all))
set_option maxHeartbeats 1000000 in
theorem m_isLikePlan {l : Launch} {G : gG} {a : Nat} {I : Nat → Int32} {J : Nat → Int64} {P : Nat → Nat → Int32} {Q : Nat → Nat → Int64} {M0 : gM} {i : Nat} (hi : i < 61) : gMet l yX4_isLikePlan (gWs yX4_isLikePlan cX4_isLikePlan 2 (some .boolean) []) ({ frames := 0, cells := 0, slots := 0, locals := 0 } : Room) G [.ref a, .int (nI i)] (mkM G a I J P Q M0) (gRv (.int (gB (decide (P 0 i = I 1 ∧ P 1 i = I 2 ∧ P 2 i = I 3)))) (mkM G a I J P Q M0)) := by
  refine gMet.intro (by decide) (Nat.le_of_ble_eq_true rfl) (fun C hl hC hN => ?_)
  subst hl
  replace hC : Ck G C [] cX4_isLikePlan RX4 2 (some .boolean) ({ frames := 0, cells := 0, slots := 0, locals := 0 } : Room) (gRv (.int (gB (decide (P 0 i = I 1 ∧ P 1 i = I 2 ∧ P 2 i = I 3)))) (mkM G a I J P Q M0)) := hC
  refine V.loc [some (.ref a), some (.int (nI i))] ⟨rfl, rfl, trivial⟩ ?_
  refine V_aload_n hC dX4_isLikePlan_0 rfl ?_
  refine mg_shapes hC dX4_isLikePlan_1 ?_
  refine V_iload_n hC dX4_isLikePlan_4 rfl ?_
  refine ml_shapes hC i rfl hi dX4_isLikePlan_5 ?_
  refine V_aload_n hC dX4_isLikePlan_6 rfl ?_
  refine mg_planShape hC dX4_isLikePlan_7 ?_
  refine V_icmp_ne (tgt := 43) hC dX4_isLikePlan_10 (by decide) (fun c10 => ?_) (fun c10 => ?_)
  · refine V_iconst (v := 0) hC dX4_isLikePlan_43 (by decide) ?_
    exact V_zret hC dX4_isLikePlan_44 rfl (Nat.le_of_ble_eq_true rfl) (Nat.le_of_ble_eq_true rfl) (gRv_0 (by simp_all))
  · refine V_aload_n hC dX4_isLikePlan_13 rfl ?_
    refine mg_hards hC dX4_isLikePlan_14 ?_
    refine V_iload_n hC dX4_isLikePlan_17 rfl ?_
    refine ml_hards hC _ rfl (by omega) dX4_isLikePlan_18 ?_
    refine V_aload_n hC dX4_isLikePlan_19 rfl ?_
    refine mg_planHard hC dX4_isLikePlan_20 ?_
    refine V_icmp_ne (tgt := 43) hC dX4_isLikePlan_23 (by decide) (fun c23 => ?_) (fun c23 => ?_)
    · refine V_iconst (v := 0) hC dX4_isLikePlan_43 (by decide) ?_
      exact V_zret hC dX4_isLikePlan_44 rfl (Nat.le_of_ble_eq_true rfl) (Nat.le_of_ble_eq_true rfl) (gRv_0 (by simp_all))
    · refine V_aload_n hC dX4_isLikePlan_26 rfl ?_
      refine mg_sizes hC dX4_isLikePlan_27 ?_
      refine V_iload_n hC dX4_isLikePlan_30 rfl ?_
      refine ml_sizes hC _ rfl (by omega) dX4_isLikePlan_31 ?_
      refine V_aload_n hC dX4_isLikePlan_32 rfl ?_
      refine mg_planSize hC dX4_isLikePlan_33 ?_
      refine V_icmp_ne (tgt := 43) hC dX4_isLikePlan_36 (by decide) (fun c36 => ?_) (fun c36 => ?_)
      · refine V_iconst (v := 0) hC dX4_isLikePlan_43 (by decide) ?_
        exact V_zret hC dX4_isLikePlan_44 rfl (Nat.le_of_ble_eq_true rfl) (Nat.le_of_ble_eq_true rfl) (gRv_0 (by simp_all))
      · refine V_iconst (v := 1) hC dX4_isLikePlan_39 (by decide) ?_
        refine V_goto (tgt := 44) hC dX4_isLikePlan_40 (by decide) ?_
        exact V_zret hC dX4_isLikePlan_44 rfl (Nat.le_of_ble_eq_true rfl) (Nat.le_of_ble_eq_true rfl) (gRv_1 (by simp_all))
set_option maxHeartbeats 1000000 in
theorem m_zero {l : Launch} {G : gG} {a : Nat} {I : Nat → Int32} {J : Nat → Int64} {P : Nat → Nat → Int32} {Q : Nat → Nat → Int64} {M0 : gM}  : gMet l yX4_zero (gWs yX4_zero cX4_zero 1 none []) ({ frames := 0, cells := 0, slots := 0, locals := 0 } : Room) G [.ref a] (mkM G a I J P Q M0) (gRn (mkM G a I (wJ J 0 0) P Q M0)) := by
  refine gMet.intro (by decide) (Nat.le_of_ble_eq_true rfl) (fun C hl hC hN => ?_)
  subst hl
  replace hC : Ck G C [] cX4_zero RX4 1 none ({ frames := 0, cells := 0, slots := 0, locals := 0 } : Room) (gRn (mkM G a I (wJ J 0 0) P Q M0)) := hC
  refine V.loc [some (.ref a)] ⟨rfl, trivial⟩ ?_
  refine V_aload_n hC dX4_zero_0 rfl ?_
  refine V_lconst (v := 0) hC dX4_zero_1 (by decide) ?_
  refine mp_high hC dX4_zero_2 ?_
  refine V_aload_n hC dX4_zero_5 rfl ?_
  refine V_lconst (v := 0) hC dX4_zero_6 (by decide) ?_
  refine mp_low hC dX4_zero_7 ?_
  exact V_vret hC dX4_zero_10 (Nat.le_of_ble_eq_true rfl) (Nat.le_of_ble_eq_true rfl) ⟨rfl, rfl⟩
set_option maxHeartbeats 1000000 in
theorem m_add {l : Launch} {G : gG} {a : Nat} {I : Nat → Int32} {J : Nat → Int64} {P : Nat → Nat → Int32} {Q : Nat → Nat → Int64} {M0 : gM} {v m : Int64} : gMet l yX4_add (gWs yX4_add cX4_add 5 none []) ({ frames := 0, cells := 0, slots := 0, locals := 0 } : Room) G [.ref a, .long v, .long m] (mkM G a I J P Q M0) (gRn (mkM G a I (wJ J (wadH (J 0) (J 1) v m) (wadL (J 1) v m)) P Q M0)) := by
  refine gMet.intro (by decide) (Nat.le_of_ble_eq_true rfl) (fun C hl hC hN => ?_)
  subst hl
  replace hC : Ck G C [] cX4_add RX4 5 none ({ frames := 0, cells := 0, slots := 0, locals := 0 } : Room) (gRn (mkM G a I (wJ J (wadH (J 0) (J 1) v m) (wadL (J 1) v m)) P Q M0)) := hC
  refine V.loc [some (.ref a), some (.long v), none, some (.long m), none] ⟨rfl, rfl, rfl, trivial⟩ ?_
  refine V_aload_n hC dX4_add_0 rfl ?_
  refine V_dup hC dX4_add_1 rfl ?_
  refine mg_high hC dX4_add_2 ?_
  refine V_lload_n hC dX4_add_5 rfl ?_
  refine V_bipush (v := 32) hC dX4_add_6 (by decide) ?_
  refine V_lshr hC dX4_add_8 ?_
  refine V_lload_n hC dX4_add_9 rfl ?_
  refine V_lmul hC dX4_add_10 ?_
  refine V_ladd hC dX4_add_11 ?_
  refine mp_high hC dX4_add_12 ?_
  refine V_aload_n hC dX4_add_15 rfl ?_
  refine V_dup hC dX4_add_16 rfl ?_
  refine mg_low hC dX4_add_17 ?_
  refine V_lload_n hC dX4_add_20 rfl ?_
  refine V_ldc2 hC dX4_add_21 q983 ?_
  refine V_land hC dX4_add_24 ?_
  refine V_lload_n hC dX4_add_25 rfl ?_
  refine V_lmul hC dX4_add_26 ?_
  refine V_ladd hC dX4_add_27 ?_
  refine mp_low hC dX4_add_28 ?_
  refine V_aload_n hC dX4_add_31 rfl ?_
  refine V_dup hC dX4_add_32 rfl ?_
  refine mg_high hC dX4_add_33 ?_
  refine V_aload_n hC dX4_add_36 rfl ?_
  refine mg_low hC dX4_add_37 ?_
  refine V_bipush (v := 32) hC dX4_add_40 (by decide) ?_
  refine V_lshr hC dX4_add_42 ?_
  refine V_ladd hC dX4_add_43 ?_
  refine mp_high hC dX4_add_44 ?_
  refine V_aload_n hC dX4_add_47 rfl ?_
  refine V_aload_n hC dX4_add_48 rfl ?_
  refine mg_low hC dX4_add_49 ?_
  refine V_ldc2 hC dX4_add_52 q983 ?_
  refine V_land hC dX4_add_55 ?_
  refine mp_low hC dX4_add_56 ?_
  exact V_vret hC dX4_add_59 (Nat.le_of_ble_eq_true rfl) (Nat.le_of_ble_eq_true rfl) ⟨rfl, congrArg (fun z => mkM G a I z P Q M0) (wJ_01 J _ _ _ _)⟩
set_option maxHeartbeats 1000000 in
theorem m_fits {l : Launch} {G : gG} {a : Nat} {I : Nat → Int32} {J : Nat → Int64} {P : Nat → Nat → Int32} {Q : Nat → Nat → Int64} {M0 : gM}  : gMet l yX4_fits (gWs yX4_fits cX4_fits 1 (some .boolean) []) ({ frames := 1, cells := 0, slots := 0, locals := 25 } : Room) G [.ref a] (mkM G a I J P Q M0) (gRv (.int (gB (gIn (J 0) (-2147483648) 2147483647))) (mkM G a I J P Q M0)) := by
  refine gMet.intro (by decide) (Nat.le_of_ble_eq_true rfl) (fun C hl hC hN => ?_)
  subst hl
  replace hC : Ck G C [] cX4_fits RX4 1 (some .boolean) ({ frames := 1, cells := 0, slots := 0, locals := 25 } : Room) (gRv (.int (gB (gIn (J 0) (-2147483648) 2147483647))) (mkM G a I J P Q M0)) := hC
  refine V.loc [some (.ref a)] ⟨rfl, trivial⟩ ?_
  refine V_aload_n hC dX4_fits_0 rfl ?_
  refine mg_high hC dX4_fits_1 ?_
  refine V_ldc2 hC dX4_fits_4 q989 ?_
  refine V_ldc2 hC dX4_fits_7 q990 ?_
  refine mt3v hC m_in mw_in ⟨⟨(Nat.le_of_ble_eq_true rfl), (Nat.le_of_ble_eq_true rfl)⟩, rfl, rfl⟩ ⟨(Nat.le_of_ble_eq_true rfl), (Nat.le_of_ble_eq_true rfl)⟩ (Nat.le_of_ble_eq_true rfl) dX4_fits_10 ?_
  exact V_zret hC dX4_fits_13 (gB_nar _) (Nat.le_of_ble_eq_true rfl) (Nat.le_of_ble_eq_true rfl) ⟨rfl, rfl⟩
set_option maxHeartbeats 1000000 in
theorem m_number {l : Launch} {G : gG} {a : Nat} {I : Nat → Int32} {J : Nat → Int64} {P : Nat → Nat → Int32} {Q : Nat → Nat → Int64} {M0 : gM}  : gMet l yX4_number (gWs yX4_number cX4_number 1 (some .long) []) ({ frames := 0, cells := 0, slots := 0, locals := 0 } : Room) G [.ref a] (mkM G a I J P Q M0) (gRv (.long (J 0 <<< ((32 : Int32).toInt64 &&& 63) + J 1)) (mkM G a I J P Q M0)) := by
  refine gMet.intro (by decide) (Nat.le_of_ble_eq_true rfl) (fun C hl hC hN => ?_)
  subst hl
  replace hC : Ck G C [] cX4_number RX4 1 (some .long) ({ frames := 0, cells := 0, slots := 0, locals := 0 } : Room) (gRv (.long (J 0 <<< ((32 : Int32).toInt64 &&& 63) + J 1)) (mkM G a I J P Q M0)) := hC
  refine V.loc [some (.ref a)] ⟨rfl, trivial⟩ ?_
  refine V_aload_n hC dX4_number_0 rfl ?_
  refine mg_high hC dX4_number_1 ?_
  refine V_bipush (v := 32) hC dX4_number_4 (by decide) ?_
  refine V_lshl hC dX4_number_6 ?_
  refine V_aload_n hC dX4_number_7 rfl ?_
  refine mg_low hC dX4_number_8 ?_
  refine V_ladd hC dX4_number_11 ?_
  exact V_lret hC dX4_number_12 (Nat.le_of_ble_eq_true rfl) (Nat.le_of_ble_eq_true rfl) ⟨rfl, rfl⟩
set_option maxHeartbeats 1000000 in
theorem m_here {l : Launch} {G : gG} {a : Nat} {I : Nat → Int32} {J : Nat → Int64} {P : Nat → Nat → Int32} {Q : Nat → Nat → Int64} {M0 : gM} {p t : Nat} (hp : I 9 = nI p) (ht : I 6 = nI t) (hb : t ≤ 300) (hpb : p < 2 ^ 30) : gMet l yX4_here (gWs yX4_here cX4_here 1 (some .int) []) ({ frames := 0, cells := 0, slots := 0, locals := 0 } : Room) G [.ref a] (mkM G a I J P Q M0) (gRv (.int (hereV (P 4) p t)) (mkM G a I J P Q M0)) := by
  refine gMet.intro (by decide) (Nat.le_of_ble_eq_true rfl) (fun C hl hC hN => ?_)
  subst hl
  replace hC : Ck G C [] cX4_here RX4 1 (some .int) ({ frames := 0, cells := 0, slots := 0, locals := 0 } : Room) (gRv (.int (hereV (P 4) p t)) (mkM G a I J P Q M0)) := hC
  refine V.loc [some (.ref a)] ⟨rfl, trivial⟩ ?_
  refine V_aload_n hC dX4_here_0 rfl ?_
  refine mg_place hC dX4_here_1 ?_
  refine V_aload_n hC dX4_here_4 rfl ?_
  refine mg_tapeSize hC dX4_here_5 ?_
  rw [hp, ht]
  refine V_icmp_ge (tgt := 23) hC dX4_here_8 (by decide) (fun c8 => ?_) (fun c8 => ?_)
  · refine V_iconst (v := (-1)) hC dX4_here_23 (by decide) ?_
    exact V_iret hC dX4_here_24 (Nat.le_of_ble_eq_true rfl) (Nat.le_of_ble_eq_true rfl) ⟨by rw [hereV, if_neg (fun q => nI_ge q (by omega) c8)], rfl⟩
  · refine V_aload_n hC dX4_here_11 rfl ?_
    refine mg_tape hC dX4_here_12 ?_
    refine V_aload_n hC dX4_here_15 rfl ?_
    refine mg_place hC dX4_here_16 ?_
    rw [hp]
    have hlt : p < t := Nat.lt_of_not_le fun q => c8 (nI_le q (by omega))
    refine ml_tape hC p rfl (by omega) dX4_here_19 ?_
    refine V_goto (tgt := 24) hC dX4_here_20 (by decide) ?_
    exact V_iret hC dX4_here_24 (Nat.le_of_ble_eq_true rfl) (Nat.le_of_ble_eq_true rfl) ⟨by rw [hereV, if_pos hlt], rfl⟩
set_option maxHeartbeats 1000000 in
theorem m_isFigure {l : Launch} {G : gG} {a : Nat} {I : Nat → Int32} {J : Nat → Int64} {P : Nat → Nat → Int32} {Q : Nat → Nat → Int64} {M0 : gM} {p t : Nat} (hp : I 9 = nI p) (ht : I 6 = nI t) (hb : t ≤ 300) (hpb : p < 2 ^ 30) : gMet l yX4_isFigure (gWs yX4_isFigure cX4_isFigure 1 (some .boolean) []) ({ frames := 1, cells := 0, slots := 0, locals := 25 } : Room) G [.ref a] (mkM G a I J P Q M0) (gRv (.int (gB (gIn (hereV (P 4) p t).toInt64 48 57))) (mkM G a I J P Q M0)) := by
  refine gMet.intro (by decide) (Nat.le_of_ble_eq_true rfl) (fun C hl hC hN => ?_)
  subst hl
  replace hC : Ck G C [] cX4_isFigure RX4 1 (some .boolean) ({ frames := 1, cells := 0, slots := 0, locals := 25 } : Room) (gRv (.int (gB (gIn (hereV (P 4) p t).toInt64 48 57))) (mkM G a I J P Q M0)) := hC
  refine V.loc [some (.ref a)] ⟨rfl, trivial⟩ ?_
  refine V_aload_n hC dX4_isFigure_0 rfl ?_
  refine mc0v hC (m_here hp ht hb hpb) rfl mw_here ⟨⟨(Nat.le_of_ble_eq_true rfl), (Nat.le_of_ble_eq_true rfl)⟩, rfl, rfl⟩ ⟨(Nat.le_of_ble_eq_true rfl), (Nat.le_of_ble_eq_true rfl)⟩ (Nat.le_of_ble_eq_true rfl) dX4_isFigure_1 ?_
  refine V_i2l hC dX4_isFigure_4 ?_
  refine V_ldc2 hC dX4_isFigure_5 q1036 ?_
  refine V_ldc2 hC dX4_isFigure_8 q1037 ?_
  refine mt3v hC m_in mw_in ⟨⟨(Nat.le_of_ble_eq_true rfl), (Nat.le_of_ble_eq_true rfl)⟩, rfl, rfl⟩ ⟨(Nat.le_of_ble_eq_true rfl), (Nat.le_of_ble_eq_true rfl)⟩ (Nat.le_of_ble_eq_true rfl) dX4_isFigure_11 ?_
  exact V_zret hC dX4_isFigure_14 (gB_nar _) (Nat.le_of_ble_eq_true rfl) (Nat.le_of_ble_eq_true rfl) ⟨rfl, rfl⟩
set_option maxHeartbeats 1000000 in
theorem m_keepScore {l : Launch} {G : gG} {a : Nat} {I : Nat → Int32} {J : Nat → Int64} {P : Nat → Nat → Int32} {Q : Nat → Nat → Int64} {M0 : gM}  : gMet l yX4_keepScore (gWs yX4_keepScore cX4_keepScore 1 (some .int) []) ({ frames := 0, cells := 0, slots := 0, locals := 0 } : Room) G [.ref a] (mkM G a I J P Q M0) (gRv (.int (I 0 + 1 - 1)) (mkM G a (va_up I 0 (I 0 + 1)) J P Q M0)) := by
  refine gMet.intro (by decide) (Nat.le_of_ble_eq_true rfl) (fun C hl hC hN => ?_)
  subst hl
  replace hC : Ck G C [] cX4_keepScore RX4 1 (some .int) ({ frames := 0, cells := 0, slots := 0, locals := 0 } : Room) (gRv (.int (I 0 + 1 - 1)) (mkM G a (va_up I 0 (I 0 + 1)) J P Q M0)) := hC
  refine V.loc [some (.ref a)] ⟨rfl, trivial⟩ ?_
  refine V_aload_n hC dX4_keepScore_0 rfl ?_
  refine V_dup hC dX4_keepScore_1 rfl ?_
  refine mg_scores hC dX4_keepScore_2 ?_
  refine V_iconst (v := 1) hC dX4_keepScore_5 (by decide) ?_
  refine V_iadd hC dX4_keepScore_6 ?_
  refine mp_scores hC dX4_keepScore_7 ?_
  refine V_aload_n hC dX4_keepScore_10 rfl ?_
  refine mg_scores hC dX4_keepScore_11 ?_
  refine V_iconst (v := 1) hC dX4_keepScore_14 (by decide) ?_
  refine V_isub hC dX4_keepScore_15 ?_
  exact V_iret hC dX4_keepScore_16 (Nat.le_of_ble_eq_true rfl) (Nat.le_of_ble_eq_true rfl) ⟨rfl, rfl⟩
set_option maxHeartbeats 1000000 in
theorem m_write {l : Launch} {G : gG} {a : Nat} {I : Nat → Int32} {J : Nat → Int64} {P : Nat → Nat → Int32} {Q : Nat → Nat → Int64} {M0 : gM} {c : Int32} {o : Nat} (ho : I 7 = nI o) (hb : o < 400) : gMet l yX4_write (gWs yX4_write cX4_write 2 none []) ({ frames := 0, cells := 0, slots := 0, locals := 0 } : Room) G [.ref a, .int c] (mkM G a I J P Q M0) (gRn (mkM G a (va_up I 7 (nI (o + 1))) J (va_up P 5 (va_up (P 5) o c)) Q M0)) := by
  refine gMet.intro (by decide) (Nat.le_of_ble_eq_true rfl) (fun C hl hC hN => ?_)
  subst hl
  replace hC : Ck G C [] cX4_write RX4 2 none ({ frames := 0, cells := 0, slots := 0, locals := 0 } : Room) (gRn (mkM G a (va_up I 7 (nI (o + 1))) J (va_up P 5 (va_up (P 5) o c)) Q M0)) := hC
  refine V.loc [some (.ref a), some (.int c)] ⟨rfl, rfl, trivial⟩ ?_
  refine V_aload_n hC dX4_write_0 rfl ?_
  refine mg_out hC dX4_write_1 ?_
  refine V_aload_n hC dX4_write_4 rfl ?_
  refine mg_outSize hC dX4_write_5 ?_
  refine V_iload_n hC dX4_write_8 rfl ?_
  rw [ho]
  refine ms_out hC o rfl hb dX4_write_9 ?_
  refine V_aload_n hC dX4_write_10 rfl ?_
  refine V_dup hC dX4_write_11 rfl ?_
  refine mg_outSize hC dX4_write_12 ?_
  refine V_iconst (v := 1) hC dX4_write_15 (by decide) ?_
  rw [ho]
  refine V_iadd hC dX4_write_16 ?_
  refine mp_outSize hC dX4_write_17 ?_
  exact V_vret hC dX4_write_20 (Nat.le_of_ble_eq_true rfl) (Nat.le_of_ble_eq_true rfl) ⟨rfl, by rw [nI_1]⟩
set_option maxHeartbeats 1000000 in
theorem m_thrown {l : Launch} {G : gG} {a : Nat} {I : Nat → Int32} {J : Nat → Int64} {P : Nat → Nat → Int32} {Q : Nat → Nat → Int64} {M0 : gM}  : gMet l yX4_thrown (gWs yX4_thrown cX4_thrown 1 (some .int) []) ({ frames := 0, cells := 0, slots := 0, locals := 0 } : Room) G [.ref a] (mkM G a I J P Q M0) (gRv (.int (I 8)) (mkM G a I J P Q M0)) := by
  refine gMet.intro (by decide) (Nat.le_of_ble_eq_true rfl) (fun C hl hC hN => ?_)
  subst hl
  replace hC : Ck G C [] cX4_thrown RX4 1 (some .int) ({ frames := 0, cells := 0, slots := 0, locals := 0 } : Room) (gRv (.int (I 8)) (mkM G a I J P Q M0)) := hC
  refine V.loc [some (.ref a)] ⟨rfl, trivial⟩ ?_
  refine V_aload_n hC dX4_thrown_0 rfl ?_
  refine mg_thrown hC dX4_thrown_1 ?_
  exact V_iret hC dX4_thrown_4 (Nat.le_of_ble_eq_true rfl) (Nat.le_of_ble_eq_true rfl) ⟨rfl, rfl⟩
set_option maxHeartbeats 1000000 in
theorem m_letter {l : Launch} {G : gG} {M : gM} {c k : Int32} : gMet l yX4_letter (gWs yX4_letter cX4_letter 2 (some .long) []) ({ frames := 0, cells := 0, slots := 0, locals := 0 } : Room) G [.int c, .int k] M (gRv (.long (c.toInt64 <<< ((7 * k).toInt64 &&& 63))) M) := by
  refine gMet.intro (by decide) (Nat.le_of_ble_eq_true rfl) (fun C hl hC hN => ?_)
  subst hl
  replace hC : Ck G C [] cX4_letter RX4 2 (some .long) ({ frames := 0, cells := 0, slots := 0, locals := 0 } : Room) (gRv (.long (c.toInt64 <<< ((7 * k).toInt64 &&& 63))) M) := hC
  refine V.loc [some (.int c), some (.int k)] ⟨rfl, rfl, trivial⟩ ?_
  refine V_iload_n hC dX4_letter_0 rfl ?_
  refine V_i2l hC dX4_letter_1 ?_
  refine V_bipush (v := 7) hC dX4_letter_2 (by decide) ?_
  refine V_iload_n hC dX4_letter_4 rfl ?_
  refine V_imul hC dX4_letter_5 ?_
  refine V_lshl hC dX4_letter_6 ?_
  exact V_lret hC dX4_letter_7 (Nat.le_of_ble_eq_true rfl) (Nat.le_of_ble_eq_true rfl) ⟨rfl, rfl⟩
set_option maxHeartbeats 1000000 in
theorem m_level {l : Launch} {G : gG} {a : Nat} {I : Nat → Int32} {J : Nat → Int64} {P : Nat → Nat → Int32} {Q : Nat → Nat → Int64} {M0 : gM} {s : Bool} (hs : I 10 = gB s) {n j : Nat} (hn : I 0 = nI n) (hb : 12 * n + j < 732) : gMet l yX4_level (gWs yX4_level cX4_level 2 none []) ({ frames := 0, cells := 0, slots := 0, locals := 0 } : Room) G [.ref a, .int (nI j)] (mkM G a I J P Q M0) (gRn (mkM G a I J P (if s then Q else va_up Q 0 (va_up (Q 0) (12 * n + j) (J 2))) M0)) := by
  refine gMet.intro (by decide) (Nat.le_of_ble_eq_true rfl) (fun C hl hC hN => ?_)
  subst hl
  replace hC : Ck G C [] cX4_level RX4 2 none ({ frames := 0, cells := 0, slots := 0, locals := 0 } : Room) (gRn (mkM G a I J P (if s then Q else va_up Q 0 (va_up (Q 0) (12 * n + j) (J 2))) M0)) := hC
  refine V.loc [some (.ref a), some (.int (nI j))] ⟨rfl, rfl, trivial⟩ ?_
  refine V_aload_n hC dX4_level_0 rfl ?_
  refine mg_stuck hC dX4_level_1 ?_
  rw [hs]
  refine V_ifb_ne (tgt := 25) hC dX4_level_4 (by decide) (fun c4 => ?_) (fun c4 => ?_)
  · exact V_vret hC dX4_level_25 (Nat.le_of_ble_eq_true rfl) (Nat.le_of_ble_eq_true rfl) ⟨rfl, by simp [c4]⟩
  · refine V_aload_n hC dX4_level_7 rfl ?_
    refine mg_levels hC dX4_level_8 ?_
    refine V_bipush (v := 12) hC dX4_level_11 (by decide) ?_
    refine V_aload_n hC dX4_level_13 rfl ?_
    refine mg_scores hC dX4_level_14 ?_
    refine V_imul hC dX4_level_17 ?_
    rw [hn]
    refine V_iload_n hC dX4_level_18 rfl ?_
    refine V_iadd hC dX4_level_19 ?_
    refine V_aload_n hC dX4_level_20 rfl ?_
    refine mg_read hC dX4_level_21 ?_
    refine ms_levels hC (12 * n + j) (by rw [show (12 : Int32) = nI 12 from rfl, pk_mul, nI_add]) hb dX4_level_24 ?_
    exact V_vret hC dX4_level_25 (Nat.le_of_ble_eq_true rfl) (Nat.le_of_ble_eq_true rfl) ⟨rfl, by simp [c4]⟩
