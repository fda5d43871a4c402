/-! MODEL 2: lay, take, compare, refusal, words -/
theorem gI_inc (k : Nat) : nI k + Int32.ofInt 1 = nI (k + 1) := nI_1 k
theorem gUU {α : Type} (f : Nat → α) (k : Nat) (v w : α) : va_up (va_up f k v) k w = va_up f k w := bx_uu f k v w
/-- noughts from s to e -/
def gClr (f : Nat → Int64) (s e : Nat) : Nat → Int64 := fun j => if s ≤ j ∧ j < e then 0 else f j
theorem gClr_0 (f : Nat → Int64) (s : Nat) : gClr f s (s + 0) = f := by
  funext j
  unfold gClr
  rw [if_neg (by omega)]
theorem gClr_s (f : Nat → Int64) (s k : Nat) : va_up (gClr f s (s + k)) (s + k) 0 = gClr f s (s + (k + 1)) := by
  funext j
  unfold gClr va_up
  by_cases h : j = s + k
  · rw [if_pos h, if_pos (by omega)]
  · rw [if_neg h]
    show (if s ≤ j ∧ j < s + k then 0 else f j) = _
    by_cases h2 : s ≤ j ∧ j < s + k
    · rw [if_pos h2, if_pos (by omega)]
    · rw [if_neg h2, if_neg (by omega)]
theorem g12 (n j : Nat) : (12 : Int32) * nI n + nI j = nI (12 * n + j) := by rw [show (12 : Int32) = nI 12 from rfl, pk_mul, nI_add]
theorem gup_self (P : Nat → Nat → Int64) (k : Nat) : va_up P k (P k) = P := by
  funext q
  unfold va_up
  by_cases h : q = k
  · rw [if_pos h, h]
  · rw [if_neg h]
/-- what 'lay' lays -/
def layP (P : Nat → Nat → Int32) (n : Nat) (x y z : Int32) : Nat → Nat → Int32 := va_up (va_up (va_up P 0 (va_up (P 0) n x)) 1 (va_up (P 1) n y)) 2 (va_up (P 2) n z)
def layQ (Q : Nat → Nat → Int64) (n : Nat) : Nat → Nat → Int64 := va_up Q 0 (gClr (Q 0) (12 * n) (12 * n + 12))
set_option maxHeartbeats 1000000 in
theorem m_lay {l : Launch} {G : gG} {a : Nat} {I : Nat → Int32} {J : Nat → Int64} {P : Nat → Nat → Int32} {Q : Nat → Nat → Int64} {M0 : gM} {n : Nat} (hn : I 0 = nI n) (hb : n < 61) {x y z : Int32} : gMet l yX4_lay (gWs yX4_lay cX4_lay 5 none []) ({ frames := 0, cells := 0, slots := 0, locals := 0 } : Room) G [.ref a, .int x, .int y, .int z] (mkM G a I J P Q M0) (gRn (mkM G a I J (layP P n x y z) (layQ Q n) M0)) := by
  refine gMet.intro (by decide) (Nat.le_of_ble_eq_true rfl) (fun C hl hC hN => ?_)
  subst hl
  replace hC : Ck G C [] cX4_lay RX4 5 none ({ frames := 0, cells := 0, slots := 0, locals := 0 } : Room) (gRn (mkM G a I J (layP P n x y z) (layQ Q n) M0)) := hC
  refine V.loc [some (.ref a), some (.int x), some (.int y), some (.int z)] ⟨rfl, rfl, rfl, rfl, trivial⟩ ?_
  have loop : ∀ (fuel : Nat) (k : Nat), 12 < k + fuel → k ≤ 12 → V G C (mkM G a I J (layP P n x y z) (va_up Q 0 (gClr (Q 0) (12 * n) (12 * n + k))) M0) 0 0 33 (gl [some (.ref a), some (.int x), some (.int y), some (.int z), some (.int (nI k))]) [] := by
    intro fuel
    induction fuel with
    | zero => intros; omega
    | succ fuel ih =>
      intro k h1 h2
      refine V_iload hC dX4_lay_33 rfl ?_
      refine V_bipush (v := 12) hC dX4_lay_35 (by decide) ?_
      refine V_icmp_ge (tgt := 62) hC dX4_lay_37 (by decide) (fun c37 => ?_) (fun c37 => ?_)
      · exact V_vret hC dX4_lay_62 (Nat.le_of_ble_eq_true rfl) (Nat.le_of_ble_eq_true rfl) ⟨rfl, by have h3 : k = 12 := (by have := c37; exact Nat.le_antisymm h2 (Nat.le_of_not_lt fun q => nI_ge q (by omega) c37)); rw [h3]; rfl⟩
      · have h3 : k < 12 := Nat.lt_of_not_le fun q => c37 (nI_le q (by omega))
        refine V_aload_n hC dX4_lay_40 rfl ?_
        refine mg_levels hC dX4_lay_41 ?_
        refine V_bipush (v := 12) hC dX4_lay_44 (by decide) ?_
        refine V_aload_n hC dX4_lay_46 rfl ?_
        refine mg_scores hC dX4_lay_47 ?_
        rw [hn]
        refine V_imul hC dX4_lay_50 ?_
        refine V_iload hC dX4_lay_51 rfl ?_
        refine V_iadd hC dX4_lay_53 ?_
        refine V_lconst (v := 0) hC dX4_lay_54 (by decide) ?_
        refine ms_levels hC (12 * n + k) (g12 n k) (by omega) dX4_lay_55 ?_
        refine V_iinc (v := nI (k + 1)) hC dX4_lay_56 rfl (gI_inc k) (Nat.le_of_ble_eq_true rfl) ?_
        refine V_goto (tgt := 33) hC dX4_lay_59 (by decide) ?_
        refine V.eqM (congrArg (fun w => mkM G a I J (layP P n x y z) w M0) ?_) (V.loc [some (.ref a), some (.int x), some (.int y), some (.int z), some (.int (nI (k + 1)))] ⟨rfl, rfl, rfl, rfl, rfl, trivial⟩ (ih (k + 1) (by omega) (by omega)))
        rw [gUU]
        exact congrArg (va_up Q 0) (gClr_s (Q 0) (12 * n) k)
  refine V_aload_n hC dX4_lay_0 rfl ?_
  refine mg_shapes hC dX4_lay_1 ?_
  refine V_aload_n hC dX4_lay_4 rfl ?_
  refine mg_scores hC dX4_lay_5 ?_
  refine V_iload_n hC dX4_lay_8 rfl ?_
  rw [hn]
  refine ms_shapes hC n rfl hb dX4_lay_9 ?_
  refine V_aload_n hC dX4_lay_10 rfl ?_
  refine mg_hards hC dX4_lay_11 ?_
  refine V_aload_n hC dX4_lay_14 rfl ?_
  refine mg_scores hC dX4_lay_15 ?_
  refine V_iload_n hC dX4_lay_18 rfl ?_
  rw [hn]
  refine ms_hards hC n rfl hb dX4_lay_19 ?_
  refine V_aload_n hC dX4_lay_20 rfl ?_
  refine mg_sizes hC dX4_lay_21 ?_
  refine V_aload_n hC dX4_lay_24 rfl ?_
  refine mg_scores hC dX4_lay_25 ?_
  refine V_iload_n hC dX4_lay_28 rfl ?_
  rw [hn]
  refine ms_sizes hC n rfl hb dX4_lay_29 ?_
  refine V_iconst (v := 0) hC dX4_lay_30 (by decide) ?_
  refine V_istore hC dX4_lay_31 (Nat.le_of_ble_eq_true rfl) ?_
  refine V.eqM (congrArg (fun w => mkM G a I J (layP P n x y z) w M0) (show Q = va_up Q 0 (gClr (Q 0) (12 * n) (12 * n + 0)) by rw [gClr_0, gup_self])) (V.loc [some (.ref a), some (.int x), some (.int y), some (.int z), some (.int (nI 0))] ⟨rfl, rfl, rfl, rfl, rfl, trivial⟩ (loop 13 0 (by omega) (by omega)))
