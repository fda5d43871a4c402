/-! TEXTS as they are written: the spec, and numbers in 64 bits -/
/-- the figures from the power m of ten on -/
def dgs (n : Nat) : Nat → List Int32
  | 0 => [nI (48 + n % 10)]
  | m + 1 => nI (48 + n / 10 ^ (m + 1) % 10) :: dgs n m
def lg (n : Nat) : Nat := ((List.range 19).find? (fun m => decide (n / 10 ^ m ≤ 9))).getD 0
def num (v : Int64) : List Int32 := (if v < 0 then [45] else []) ++ dgs v.toInt.natAbs (lg v.toInt.natAbs)
theorem lg_eq {n m : Nat} (hm : m < 19) (h1 : n / 10 ^ m ≤ 9) (h2 : ∀ i, i < m → 9 < n / 10 ^ i) : lg n = m := by
  have : (List.range 19).find? (fun m => decide (n / 10 ^ m ≤ 9)) = some m := by
    rw [List.find?_range_eq_some]
    exact ⟨decide_eq_true h1, List.mem_range.mpr hm, fun j hj => by have := h2 j hj; simp; omega⟩
  unfold lg
  rw [this]
  rfl
theorem dgs_len (n : Nat) : ∀ m, (dgs n m).length = m + 1
  | 0 => rfl
  | m + 1 => by rw [dgs, List.length_cons, dgs_len n m]
theorem lg_lt (n : Nat) : lg n < 19 := by
  unfold lg
  cases h : (List.range 19).find? (fun m => decide (n / 10 ^ m ≤ 9)) with
  | none => decide
  | some m =>
    have := List.mem_of_find?_eq_some h
    exact List.mem_range.mp this
theorem num_len (v : Int64) : (num v).length ≤ 20 := by
  unfold num
  rw [List.length_append, dgs_len]
  have := lg_lt v.toInt.natAbs
  split
  · show 1 + _ ≤ 20; omega
  · show 0 + _ ≤ 20; omega
/-- what is left of the figures: t of them -/
def dgT (n : Nat) : Nat → List Int32
  | 0 => []
  | t + 1 => dgs n t
theorem dgT_s (n t : Nat) : dgT n (t + 1) = nI (48 + n / 10 ^ t % 10) :: dgT n t := by
  cases t with
  | zero => show [nI (48 + n % 10)] = [nI (48 + n / 10 ^ 0 % 10)]; rw [Nat.pow_zero, Nat.div_one]
  | succ t => rfl
theorem l10 {m : Nat} (h : m ≤ 18) : (lN (10 ^ m)).toInt = ((10 ^ m : Nat) : Int) ∧ 1 ≤ 10 ^ m ∧ 10 ^ m ≤ 1000000000000000000 := by
  have h1 : 10 ^ m ≤ 10 ^ 18 := Nat.pow_le_pow_right (by decide) h
  have h2 : 1 ≤ 10 ^ m := Nat.one_le_pow _ _ (by decide)
  have h3 : (10 : Nat) ^ 18 = 1000000000000000000 := by decide
  exact ⟨pk_lT (by omega), h2, by omega⟩
theorem vdiv (v : Int64) {m : Nat} (h : m ≤ 18) : (v / lN (10 ^ m)).toInt = v.toInt.tdiv ((10 ^ m : Nat) : Int) ∧ (v / lN (10 ^ m)).toInt.natAbs = v.toInt.natAbs / 10 ^ m := by
  obtain ⟨h1, h2, h3⟩ := l10 h
  have e := z_div (x := v) (d := lN (10 ^ m)) (by rw [h1]; omega)
  rw [h1] at e
  refine ⟨e, ?_⟩
  rw [e, Int.natAbs_tdiv]
  rfl
theorem abs_le (v : Int64) : v.toInt.natAbs ≤ 9223372036854775808 := by
  have := z_rng v
  omega
theorem l2i_nI {x : Int64} {k : Nat} (h : x.toInt = (k : Int)) (hk : k < 2 ^ 31) : x.toInt32 = nI k := by
  apply Int32.toInt_inj.mp
  rw [Int64.toInt_toInt32, h, nI_toInt hk]
  show Int.bmod (k : Int) 4294967296 = k
  rw [Int.bmod_def]
  split <;> omega
/-- a figure -/
theorem vdig (v : Int64) {t : Nat} (h : t ≤ 18) : (v / lN (10 ^ t) - v / lN (10 ^ t) / 10 * 10).toInt.natAbs = v.toInt.natAbs / 10 ^ t % 10 := by
  have e10 : (10 : Int64).toInt = 10 := by decide
  have e := (z_qr (x := v / lN (10 ^ t)) (d := 10) (by rw [e10]; decide)).2
  rw [e10] at e
  have e2 := (vdiv v h).2
  rw [← e2]
  have e3 := Int.tdiv_mul_add_tmod (v / lN (10 ^ t)).toInt 10
  rw [show (v / lN (10 ^ t) - v / lN (10 ^ t) / 10 * 10).toInt = (v / lN (10 ^ t)).toInt.tmod 10 by omega, Int.natAbs_tmod]
  rfl
theorem dig_p {v : Int64} {t : Nat} (h : t ≤ 18) (c : 0 ≤ v / lN (10 ^ t) - v / lN (10 ^ t) / 10 * 10) : 48 + (v / lN (10 ^ t) - v / lN (10 ^ t) / 10 * 10).toInt32 = nI (48 + v.toInt.natAbs / 10 ^ t % 10) := by
  have e := vdig v h
  rw [Int64.le_iff_toInt_le, z_0] at c
  have := Nat.mod_lt (v.toInt.natAbs / 10 ^ t) (show 0 < 10 by decide)
  rw [l2i_nI (k := v.toInt.natAbs / 10 ^ t % 10) (by omega) (by omega)]
  exact nI_add 48 _
theorem dig_n {v : Int64} {t : Nat} (h : t ≤ 18) (c : ¬ 0 ≤ v / lN (10 ^ t) - v / lN (10 ^ t) / 10 * 10) : 48 + (-(v / lN (10 ^ t) - v / lN (10 ^ t) / 10 * 10)).toInt32 = nI (48 + v.toInt.natAbs / 10 ^ t % 10) := by
  have e := vdig v h
  rw [Int64.le_iff_toInt_le, z_0] at c
  have := Nat.mod_lt (v.toInt.natAbs / 10 ^ t) (show 0 < 10 by decide)
  rw [l2i_nI (k := v.toInt.natAbs / 10 ^ t % 10) (by rw [z_neg (by omega)]; omega) (by omega)]
  exact nI_add 48 _
/-- the power of ten, t of them left -/
def pw (t : Nat) : Int64 := match t with
  | 0 => 0
  | t + 1 => lN (10 ^ t)
theorem pw_div {t : Nat} (h : t ≤ 18) : lN (10 ^ t) / 10 = pw t := by
  obtain ⟨h1, h2, h3⟩ := l10 h
  have := pk_lDiv (a := 10 ^ t) (b := 10) (by omega) (by decide) (by decide)
  refine this.trans ?_
  cases t with
  | zero => rfl
  | succ t => rw [Nat.pow_succ, Nat.mul_div_cancel _ (by decide)]; rfl
theorem l10_s (m : Nat) : lN (10 ^ m) * 10 = lN (10 ^ (m + 1)) := by
  rw [Nat.pow_succ]
  exact lN_mul _ 10
/-! the texts of scores -/
def tHard : List Int32 := [104, 97, 114, 100]
def tMed : List Int32 := [109, 101, 100, 105, 117, 109]
def tSoft : List Int32 := [115, 111, 102, 116]
def joinS : List Int64 → List Int32
  | [] => []
  | [x] => num x
  | x :: y :: r => num x ++ 47 :: joinS (y :: r)
def rowT (lv : List Int64) : List Int32 := 91 :: joinS lv ++ [93]
def txt (s : Sc) : List Int32 := if s.1 = 3 then rowT (s.2.2.take s.2.1) ++ tHard ++ 47 :: rowT (s.2.2.drop s.2.1) ++ tSoft
  else if s.1 = 0 then num (s.2.2.getD 0 0) else if s.1 = 1 then num (s.2.2.getD 0 0) ++ tHard ++ 47 :: num (s.2.2.getD 1 0) ++ tSoft
  else num (s.2.2.getD 0 0) ++ tHard ++ 47 :: num (s.2.2.getD 1 0) ++ tMed ++ 47 :: num (s.2.2.getD 2 0) ++ tSoft
def o_print (σ : Sy) (x : Int32) : Int32 × Sy := match scAt σ x with
  | none => (-2, σ)
  | some none => (-11, σ)
  | some (some s) => (nI (txt s).length, (σ.sc, σ.tp, txt s, σ.2.2.2))
/-! MODEL 13: writing -/
def OU (w : List Int32) (I : Nat → Int32) (P : Nat → Nat → Int32) : Prop := I 7 = nI w.length ∧ ∀ (j : Nat) (c : Int32), w[j]? = some c → P 5 j = c
/-- it has written w behind what stood there; nothing else has changed -/
def RW (G : gG) (a : Nat) (J : Nat → Int64) (Q : Nat → Nat → Int64) (M0 : gM) (I : Nat → Int32) (P : Nat → Nat → Int32) (w : List Int32) : gRes → gM → Prop := fun res M' => res = .inl none ∧ ∃ (I' : Nat → Int32) (P' : Nat → Nat → Int32), M' = mkM G a I' J P' Q M0 ∧ OU w I' P' ∧ (∀ j, j ≠ 7 → I' j = I j) ∧ ∀ j, j ≠ 5 → P' j = P j
theorem OU.put {w : List Int32} {I : Nat → Int32} {P : Nat → Nat → Int32} (h : OU w I P) (c : Int32) : OU (w ++ [c]) (va_up I 7 (nI (w.length + 1))) (va_up P 5 (va_up (P 5) w.length c)) := by
  refine ⟨?_, fun j d hd => ?_⟩
  · rw [va_up_self, List.length_append]
    rfl
  · rw [va_up_self]
    rcases gAppAt hd with ⟨q1, q2⟩ | ⟨q1, q2⟩
    · rw [va_up_ne _ _ (by omega)]
      exact h.2 j d q2
    · rw [q1, va_up_self]
      exact q2
theorem m_wr {l : Launch} {G : gG} {a : Nat} {I : Nat → Int32} {J : Nat → Int64} {P : Nat → Nat → Int32} {Q : Nat → Nat → Int64} {M0 : gM} {c : Int32} {w : List Int32} (ho : OU w I P) (hb : w.length < 400) : gMet l yX4_write (gWs yX4_write cX4_write 2 none []) ({ frames := 0, cells := 0, slots := 0, locals := 0 } : Room) G [.ref a, .int c] (mkM G a I J P Q M0) (RW G a J Q M0 I P (w ++ [c])) :=
  (m_write ho.1 hb).mono fun r M' h => ⟨h.1, _, _, h.2, ho.put c, fun j hj => va_up_ne _ _ hj, fun j hj => va_up_ne _ _ hj⟩
theorem RW.tr {G : gG} {a : Nat} {J : Nat → Int64} {Q : Nat → Nat → Int64} {M0 : gM} {I I' : Nat → Int32} {P P' : Nat → Nat → Int32} {w : List Int32} (ho : OU w I' P') (hi : ∀ j, j ≠ 7 → I' j = I j) (hp : ∀ j, j ≠ 5 → P' j = P j) : RW G a J Q M0 I P w (.inl none) (mkM G a I' J P' Q M0) := ⟨rfl, I', P', rfl, ho, hi, hp⟩
set_option maxHeartbeats 4000000 in
theorem m_writeNumber {l : Launch} {G : gG} {a : Nat} {I : Nat → Int32} {J : Nat → Int64} {P : Nat → Nat → Int32} {Q : Nat → Nat → Int64} {M0 : gM} {v : Int64} {w : List Int32} (ho : OU w I P) (hb : w.length + 20 ≤ 400) : gMet l yX4_writeNumber (gWs yX4_writeNumber cX4_writeNumber 9 none []) ({ frames := 1, cells := 0, slots := 0, locals := 21 } : Room) G [.ref a, .long v] (mkM G a I J P Q M0) (RW G a J Q M0 I P (w ++ num v)) := by
  refine gMet.intro (by decide) (Nat.le_of_ble_eq_true rfl) (fun C hl hC hN => ?_)
  subst hl
  replace hC : Ck G C [] cX4_writeNumber RX4 9 none ({ frames := 1, cells := 0, slots := 0, locals := 21 } : Room) (RW G a J Q M0 I P (w ++ num v)) := hC
  refine V.loc [some (.ref a), some (.long v), none] ⟨rfl, rfl, trivial⟩ ?_
  have hnl := num_len v
  have key : ∀ (w1 : List Int32) (I1 : Nat → Int32) (P1 : Nat → Nat → Int32), OU w1 I1 P1 → w1 = w ++ (if v < 0 then [45] else []) → (∀ j, j ≠ 7 → I1 j = I j) → (∀ j, j ≠ 5 → P1 j = P j) → V G C (mkM G a I1 J P1 Q M0) 0 0 12 (gl [some (.ref a), some (.long v), none]) [] := by
    intro w1 I1 P1 a3 a4 a5 a6
    refine V_lconst (v := 1) hC dX4_writeNumber_12 (by decide) ?_
    have loopA : ∀ (fa : Nat) (m : Nat), 18 < m + fa → m ≤ 18 → (∀ i, i < m → 9 < v.toInt.natAbs / 10 ^ i) → V G C (mkM G a I1 J P1 Q M0) 0 0 14 (gl [some (.ref a), some (.long v), none, some (.long (lN (10 ^ m))), none]) [] := by
      intro fa
      induction fa with
      | zero => intros; omega
      | succ fa iha =>
        intro m a1 a2 a7
        obtain ⟨q1, q2⟩ := vdiv v a2
        obtain ⟨p1, p2, p3⟩ := l10 a2
        have hne : ¬ lN (10 ^ m) = 0 := fun q => by rw [q, z_0] at p1; omega
        have e9 : (9 : Int64).toInt = 9 := by decide
        have e9' : (-9 : Int64).toInt = -9 := by decide
        refine V_lload_n hC dX4_writeNumber_14 rfl ?_
        refine V_lload_n hC dX4_writeNumber_15 rfl ?_
        refine V_ldiv hC dX4_writeNumber_16 hne ?_
        refine V_ldc2 hC dX4_writeNumber_17 q1071 ?_
        refine V_lc_gt (tgt := 34) hC dX4_writeNumber_20 rfl dX4_writeNumber_21 (by decide) (fun c21 => ?_) (fun c21 => ?_)
        · have h9 : 9 < v.toInt.natAbs / 10 ^ m := by
            rw [← q2]
            rw [Int64.lt_iff_toInt_lt, e9] at c21
            omega
          have hm : m < 18 := by
            rcases (show m = 18 ∨ m < 18 by omega) with q | q
            · rw [q] at h9
              have := abs_le v
              have h3 : (10 : Nat) ^ 18 = 1000000000000000000 := by decide
              rw [h3] at h9
              omega
            · exact q
          refine V_lload_n hC dX4_writeNumber_34 rfl ?_
          refine V_ldc2 hC dX4_writeNumber_35 q1039 ?_
          refine V_lmul hC dX4_writeNumber_38 ?_
          rw [l10_s]
          refine V_lstore_n hC dX4_writeNumber_39 (Nat.le_of_ble_eq_true rfl) ?_
          refine V_goto (tgt := 14) hC dX4_writeNumber_40 (by decide) ?_
          refine V.loc [some (.ref a), some (.long v), none, some (.long (lN (10 ^ (m + 1)))), none] ⟨rfl, rfl, rfl, trivial⟩ (iha (m + 1) (by omega) (by omega) (fun i hi => ?_))
          rcases (show i < m ∨ i = m by omega) with q | q
          · exact a7 i q
          · rw [q]; exact h9
        · refine V_lload_n hC dX4_writeNumber_24 rfl ?_
          refine V_lload_n hC dX4_writeNumber_25 rfl ?_
          refine V_ldiv hC dX4_writeNumber_26 hne ?_
          refine V_ldc2 hC dX4_writeNumber_27 q1072 ?_
          refine V_lc_ge (tgt := 43) hC dX4_writeNumber_30 rfl dX4_writeNumber_31 (by decide) (fun c31 => ?_) (fun c31 => ?_)
          · have hlg : lg v.toInt.natAbs = m := lg_eq (by omega) (by
              rw [← q2]
              rw [Int64.lt_iff_toInt_lt, e9] at c21
              rw [Int64.le_iff_toInt_le, e9'] at c31
              omega) a7
            have loopB : ∀ (fb : Nat) (t : Nat) (w2 : List Int32) (I2 : Nat → Int32) (P2 : Nat → Nat → Int32), t < fb → t ≤ m + 1 → OU w2 I2 P2 → w2 ++ dgT v.toInt.natAbs t = w ++ num v → (∀ j, j ≠ 7 → I2 j = I j) → (∀ j, j ≠ 5 → P2 j = P j) → V G C (mkM G a I2 J P2 Q M0) 0 0 46 (gl [some (.ref a), some (.long v), none, some (.long (lN (10 ^ m))), none, some (.long (pw t)), none]) [] := by
              intro fb
              induction fb with
              | zero => intros; omega
              | succ fb ihb =>
                intro t w2 I2 P2 b1 b2 b3 b4 b5 b6
                refine V_lload hC dX4_writeNumber_46 rfl ?_
                refine V_lconst (v := 0) hC dX4_writeNumber_48 (by decide) ?_
                refine V_lc_le (tgt := 97) hC dX4_writeNumber_49 rfl dX4_writeNumber_50 (by decide) (fun c50 => ?_) (fun c50 => ?_)
                · exact V_vret hC dX4_writeNumber_97 (Nat.le_of_ble_eq_true rfl) (Nat.le_of_ble_eq_true rfl) (RW.tr (by
                        have h0 : t = 0 := by
                          rcases (show t = 0 ∨ 0 < t by omega) with q | q
                          · exact q
                          · obtain ⟨z, rfl⟩ : ∃ z, t = z + 1 := ⟨t - 1, by omega⟩
                            obtain ⟨p1', p2', -⟩ := l10 (show z ≤ 18 by omega)
                            have c : lN (10 ^ z) ≤ 0 := c50
                            rw [Int64.le_iff_toInt_le, z_0, p1'] at c
                            omega
                        rw [h0] at b4
                        rw [← b4]
                        show OU (w2 ++ []) I2 P2
                        rw [List.append_nil]
                        exact b3) b5 b6)
                · obtain ⟨t, rfl⟩ : ∃ z, t = z + 1 := ⟨t - 1, by
                    have : ¬ t = 0 := fun q => c50 (by rw [q]; decide)
                    omega⟩
                  have ht : t ≤ 18 := by omega
                  obtain ⟨p1, p2, p3⟩ := l10 ht
                  have hne : ¬ lN (10 ^ t) = 0 := fun q => by rw [q, z_0] at p1; omega
                  have hw2 : w2.length < 400 := by
                    have := congrArg List.length b4
                    rw [dgT_s, List.length_append, List.length_append, List.length_cons] at this
                    omega
                  refine V_lload_n hC dX4_writeNumber_53 rfl ?_
                  refine V_lload hC dX4_writeNumber_54 rfl ?_
                  refine V_ldiv hC dX4_writeNumber_56 hne ?_
                  refine V_ldc2 hC dX4_writeNumber_57 q1039 ?_
                  refine V_lrem hC dX4_writeNumber_60 (by decide) ?_
                  refine V_lstore hC dX4_writeNumber_61 (Nat.le_of_ble_eq_true rfl) ?_
                  refine V_aload_n hC dX4_writeNumber_63 rfl ?_
                  refine V_bipush (v := 48) hC dX4_writeNumber_64 (by decide) ?_
                  refine V_lload hC dX4_writeNumber_66 rfl ?_
                  refine V_lconst (v := 0) hC dX4_writeNumber_68 (by decide) ?_
                  refine V_lc_ge (tgt := 79) hC dX4_writeNumber_69 rfl dX4_writeNumber_70 (by decide) (fun c70 => ?_) (fun c70 => ?_)
                  · refine V_lload hC dX4_writeNumber_79 rfl ?_
                    refine V_l2i hC dX4_writeNumber_81 ?_
                    refine V_iadd hC dX4_writeNumber_82 ?_
                    refine V_seti (y := nI (48 + v.toInt.natAbs / 10 ^ t % 10)) (dig_p ht c70) ?_
                    refine mc1g hC (m_wr b3 hw2) rfl mw_write ⟨⟨(Nat.le_of_ble_eq_true rfl), (Nat.le_of_ble_eq_true rfl)⟩, rfl, rfl⟩ ⟨(Nat.le_of_ble_eq_true rfl), (Nat.le_of_ble_eq_true rfl)⟩ (Nat.le_of_ble_eq_true rfl) dX4_writeNumber_83 (fun X M' h => by obtain ⟨h1, -⟩ := h; cases h1) (fun v M' h => ?_)
                    obtain ⟨h1, I3, P3, h2, ho3, hi3, hp3⟩ := h
                    cases h1
                    subst h2
                    refine V_lload hC dX4_writeNumber_86 rfl ?_
                    refine V_ldc2 hC dX4_writeNumber_88 q1039 ?_
                    refine V_ldiv hC dX4_writeNumber_91 (by decide) ?_
                    refine V_setl (y := pw t) (pw_div ht) ?_
                    refine V_lstore hC dX4_writeNumber_92 (Nat.le_of_ble_eq_true rfl) ?_
                    refine V_goto (tgt := 46) hC dX4_writeNumber_94 (by decide) ?_
                    refine V.loc [some (.ref a), some (.long v), none, some (.long (lN (10 ^ m))), none, some (.long (pw t)), none] ⟨rfl, rfl, rfl, rfl, trivial⟩ (ihb t _ I3 P3 (by omega) (by omega) ho3 ?_ (fun j hj => (hi3 j hj).trans (b5 j hj)) (fun j hj => (hp3 j hj).trans (b6 j hj)))
                    rw [← b4, dgT_s, List.append_assoc]
                    rfl
                  · refine V_lload hC dX4_writeNumber_73 rfl ?_
                    refine V_lneg hC dX4_writeNumber_75 ?_
                    refine V_goto (tgt := 81) hC dX4_writeNumber_76 (by decide) ?_
                    refine V_l2i hC dX4_writeNumber_81 ?_
                    refine V_iadd hC dX4_writeNumber_82 ?_
                    refine V_seti (y := nI (48 + v.toInt.natAbs / 10 ^ t % 10)) (dig_n ht c70) ?_
                    refine mc1g hC (m_wr b3 hw2) rfl mw_write ⟨⟨(Nat.le_of_ble_eq_true rfl), (Nat.le_of_ble_eq_true rfl)⟩, rfl, rfl⟩ ⟨(Nat.le_of_ble_eq_true rfl), (Nat.le_of_ble_eq_true rfl)⟩ (Nat.le_of_ble_eq_true rfl) dX4_writeNumber_83 (fun X M' h => by obtain ⟨h1, -⟩ := h; cases h1) (fun v M' h => ?_)
                    obtain ⟨h1, I3, P3, h2, ho3, hi3, hp3⟩ := h
                    cases h1
                    subst h2
                    refine V_lload hC dX4_writeNumber_86 rfl ?_
                    refine V_ldc2 hC dX4_writeNumber_88 q1039 ?_
                    refine V_ldiv hC dX4_writeNumber_91 (by decide) ?_
                    refine V_setl (y := pw t) (pw_div ht) ?_
                    refine V_lstore hC dX4_writeNumber_92 (Nat.le_of_ble_eq_true rfl) ?_
                    refine V_goto (tgt := 46) hC dX4_writeNumber_94 (by decide) ?_
                    refine V.loc [some (.ref a), some (.long v), none, some (.long (lN (10 ^ m))), none, some (.long (pw t)), none] ⟨rfl, rfl, rfl, rfl, trivial⟩ (ihb t _ I3 P3 (by omega) (by omega) ho3 ?_ (fun j hj => (hi3 j hj).trans (b5 j hj)) (fun j hj => (hp3 j hj).trans (b6 j hj)))
                    rw [← b4, dgT_s, List.append_assoc]
                    rfl
            refine V_lload_n hC dX4_writeNumber_43 rfl ?_
            refine V_lstore hC dX4_writeNumber_44 (Nat.le_of_ble_eq_true rfl) ?_
            refine V.loc [some (.ref a), some (.long v), none, some (.long (lN (10 ^ m))), none, some (.long (pw (m + 1))), none] ⟨rfl, rfl, rfl, rfl, trivial⟩ (loopB (m + 2) (m + 1) w1 I1 P1 (by omega) (by omega) a3 ?_ a5 a6)
            rw [a4, List.append_assoc]
            congr 1
            unfold num
            rw [hlg]
            rfl
          · have h9 : 9 < v.toInt.natAbs / 10 ^ m := by
              rw [← q2]
              rw [Int64.le_iff_toInt_le, e9'] at c31
              omega
            have hm : m < 18 := by
              rcases (show m = 18 ∨ m < 18 by omega) with q | q
              · rw [q] at h9
                have := abs_le v
                have h3 : (10 : Nat) ^ 18 = 1000000000000000000 := by decide
                rw [h3] at h9
                omega
              · exact q
            refine V_lload_n hC dX4_writeNumber_34 rfl ?_
            refine V_ldc2 hC dX4_writeNumber_35 q1039 ?_
            refine V_lmul hC dX4_writeNumber_38 ?_
            rw [l10_s]
            refine V_lstore_n hC dX4_writeNumber_39 (Nat.le_of_ble_eq_true rfl) ?_
            refine V_goto (tgt := 14) hC dX4_writeNumber_40 (by decide) ?_
            refine V.loc [some (.ref a), some (.long v), none, some (.long (lN (10 ^ (m + 1)))), none] ⟨rfl, rfl, rfl, trivial⟩ (iha (m + 1) (by omega) (by omega) (fun i hi => ?_))
            rcases (show i < m ∨ i = m by omega) with q | q
            · exact a7 i q
            · rw [q]; exact h9
    refine V_lstore_n hC dX4_writeNumber_13 (Nat.le_of_ble_eq_true rfl) ?_
    refine V.loc [some (.ref a), some (.long v), none, some (.long (lN (10 ^ 0))), none] ⟨rfl, rfl, rfl, trivial⟩ (loopA 19 0 (by omega) (by omega) (fun i h => absurd h (Nat.not_lt_zero i)))
  refine V_lload_n hC dX4_writeNumber_0 rfl ?_
  refine V_lconst (v := 0) hC dX4_writeNumber_1 (by decide) ?_
  refine V_lc_ge (tgt := 12) hC dX4_writeNumber_2 rfl dX4_writeNumber_3 (by decide) (fun c3 => ?_) (fun c3 => ?_)
  · exact V.loc [some (.ref a), some (.long v), none] ⟨rfl, rfl, trivial⟩ (key w I P ho (by rw [if_neg (by rw [Int64.le_iff_toInt_le] at c3; rw [Int64.lt_iff_toInt_lt]; omega), List.append_nil]) (fun _ _ => rfl) (fun _ _ => rfl))
  · refine V_aload_n hC dX4_writeNumber_6 rfl ?_
    refine V_bipush (v := 45) hC dX4_writeNumber_7 (by decide) ?_
    refine mc1g hC (m_wr (c := 45) ho (by omega)) rfl mw_write ⟨⟨(Nat.le_of_ble_eq_true rfl), (Nat.le_of_ble_eq_true rfl)⟩, rfl, rfl⟩ ⟨(Nat.le_of_ble_eq_true rfl), (Nat.le_of_ble_eq_true rfl)⟩ (Nat.le_of_ble_eq_true rfl) dX4_writeNumber_9 (fun X M' h => by obtain ⟨h1, -⟩ := h; cases h1) (fun v M' h => ?_)
    obtain ⟨h1, I9, P9, h2, ho9, hi9, hp9⟩ := h
    cases h1
    subst h2
    exact V.loc [some (.ref a), some (.long v), none] ⟨rfl, rfl, trivial⟩ (key _ I9 P9 ho9 (by rw [if_pos (by rw [Int64.le_iff_toInt_le] at c3; rw [Int64.lt_iff_toInt_lt]; omega)]) hi9 hp9)
