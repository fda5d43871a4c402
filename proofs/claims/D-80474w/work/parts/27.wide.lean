/-! WIDE NUMBERS: high times 2 to the 32, and low; exact arithmetic in 64 bits -/
theorem z_bm {z : Int} (h1 : -9223372036854775808 ≤ z) (h2 : z ≤ 9223372036854775807) : z.bmod (2 ^ 64) = z := by
  show z.bmod 18446744073709551616 = z
  rw [Int.bmod_def]
  split <;> omega
theorem z_add {x y : Int64} (h1 : -9223372036854775808 ≤ x.toInt + y.toInt) (h2 : x.toInt + y.toInt ≤ 9223372036854775807) : (x + y).toInt = x.toInt + y.toInt := by rw [Int64.toInt_add]; exact z_bm h1 h2
theorem z_sub {x y : Int64} (h1 : -9223372036854775808 ≤ x.toInt - y.toInt) (h2 : x.toInt - y.toInt ≤ 9223372036854775807) : (x - y).toInt = x.toInt - y.toInt := by rw [Int64.toInt_sub]; exact z_bm h1 h2
theorem z_mul {x y : Int64} (h1 : -9223372036854775808 ≤ x.toInt * y.toInt) (h2 : x.toInt * y.toInt ≤ 9223372036854775807) : (x * y).toInt = x.toInt * y.toInt := by rw [Int64.toInt_mul]; exact z_bm h1 h2
theorem z_neg {x : Int64} (h1 : -9223372036854775807 ≤ x.toInt) : (-x).toInt = -x.toInt := by
  rw [Int64.toInt_neg]
  have := Int64.toInt_lt x
  exact z_bm (by omega) (by omega)
theorem z_rng (x : Int64) : -9223372036854775808 ≤ x.toInt ∧ x.toInt ≤ 9223372036854775807 := by
  have h1 := Int64.le_toInt x
  have h2 := Int64.toInt_lt x
  omega
theorem z_sh (v : Int64) : (v >>> ((32 : Int32).toInt64 &&& 63)).toInt = v.toInt / 4294967296 := by
  have hD : (((32 : Int32).toInt64 &&& 63).toBitVec.smod 64).toNat = 32 := by decide
  have e : (v >>> ((32 : Int32).toInt64 &&& 63)).toInt = v.toInt >>> 32 := by
    rw [← hD]
    exact BitVec.toInt_sshiftRight ..
  rw [e, Int.shiftRight_eq_div_pow]
  rfl
theorem z_nat (x : Int64) : x.toInt = if 2 * x.toBitVec.toNat < 18446744073709551616 then (x.toBitVec.toNat : Int) else (x.toBitVec.toNat : Int) - 18446744073709551616 := by
  show x.toBitVec.toInt = _
  rw [BitVec.toInt_eq_toNat_cond]
  rfl
theorem z_lo (v : Int64) : (v &&& 4294967295).toInt = v.toInt % 4294967296 := by
  have h1 : (v &&& 4294967295).toBitVec.toNat = v.toBitVec.toNat % 4294967296 := by
    rw [Int64.toBitVec_and, BitVec.toNat_and]
    exact Nat.and_two_pow_sub_one_eq_mod _ 32
  rw [z_nat (v &&& 4294967295), z_nat v, h1]
  have h2 : v.toBitVec.toNat % 4294967296 < 4294967296 := Nat.mod_lt _ (by decide)
  have h3 := v.toBitVec.isLt
  split <;> split <;> omega
/-- v, cut at 32 bits -/
theorem z_cut (v : Int64) : (v >>> ((32 : Int32).toInt64 &&& 63)).toInt * 4294967296 + (v &&& 4294967295).toInt = v.toInt ∧ 0 ≤ (v &&& 4294967295).toInt ∧ (v &&& 4294967295).toInt ≤ 4294967295 ∧ -2147483648 ≤ (v >>> ((32 : Int32).toInt64 &&& 63)).toInt ∧ (v >>> ((32 : Int32).toInt64 &&& 63)).toInt ≤ 2147483647 := by
  rw [z_sh, z_lo]
  have := z_rng v
  omega
theorem z_shl (h : Int64) : h <<< ((32 : Int32).toInt64 &&& 63) = h * 4294967296 := by
  apply Int64.toBitVec_inj.mp
  have hD : (((32 : Int32).toInt64 &&& 63).toBitVec.smod 64).toNat = 32 := by decide
  show h.toBitVec <<< (((32 : Int32).toInt64 &&& 63).toBitVec.smod 64).toNat = _
  rw [hD, Int64.toBitVec_mul]
  apply BitVec.eq_of_toNat_eq
  rw [BitVec.toNat_shiftLeft, BitVec.toNat_mul, Nat.shiftLeft_eq]
  rfl
theorem z_of {z : Int} (h1 : -9223372036854775808 ≤ z) (h2 : z ≤ 9223372036854775807) : (Int64.ofInt z).toInt = z := by
  rw [Int64.toInt_ofInt]
  exact z_bm h1 h2
theorem z_eq {x : Int64} {z : Int} (h : x.toInt = z) : x = Int64.ofInt z := by rw [← h, Int64.ofInt_toInt]
/-- the wide number's value -/
def wv (h w : Int64) : Int := h.toInt * 4294967296 + w.toInt
/-- the wide number, in its own form: low is between 0 and 2^32 -/
def wok (h w : Int64) : Prop := 0 ≤ w.toInt ∧ w.toInt ≤ 4294967295
theorem wok_u {h w h' w' : Int64} (a : wok h w) (b : wok h' w') (e : wv h w = wv h' w') : h.toInt = h'.toInt ∧ w.toInt = w'.toInt := by
  unfold wok at a b
  unfold wv at e
  omega
/-- whether it is one of 64 bits -/
theorem wfit {h w : Int64} (a : wok h w) : gIn h (-2147483648) 2147483647 = true ↔ zfit (wv h w) := by
  unfold wok at a
  unfold gIn zfit wv
  simp only [Bool.and_eq_true, decide_eq_true_eq]
  rw [Int64.le_iff_toInt_le, Int64.le_iff_toInt_le]
  have e1 : (-2147483648 : Int64).toInt = -2147483648 := by decide
  have e2 : (2147483647 : Int64).toInt = 2147483647 := by decide
  rw [e1, e2]
  omega
/-- and then which -/
theorem wnum {h w : Int64} (f : zfit (wv h w)) : h <<< ((32 : Int32).toInt64 &&& 63) + w = Int64.ofInt (wv h w) := by
  apply Int64.toInt_inj.mp
  rw [z_of f.1 f.2, z_shl, Int64.toInt_add, Int64.toInt_mul]
  have e2 : (4294967296 : Int64).toInt = 4294967296 := by decide
  rw [e2]
  show ((h.toInt * 4294967296).bmod (2 ^ 64) + w.toInt).bmod (2 ^ 64) = _
  rw [Int.bmod_add_bmod]
  exact z_bm f.1 f.2
theorem z_pb {a b : Int} (a1 : -2147483648 ≤ a) (a2 : a ≤ 2147483647) (b1 : -2147483648 ≤ b) (b2 : b ≤ 2147483648) : -4611686018427387904 ≤ a * b ∧ a * b ≤ 4611686018427387904 := by
  constructor
  · rcases Int.le_total 0 b with hb | hb
    · have h1 : (-2147483648) * b ≤ a * b := Int.mul_le_mul_of_nonneg_right a1 hb
      omega
    · have h1 : 2147483647 * b ≤ a * b := Int.mul_le_mul_of_nonpos_right a2 hb
      omega
  · rcases Int.le_total 0 b with hb | hb
    · have h1 : a * b ≤ 2147483647 * b := Int.mul_le_mul_of_nonneg_right a2 hb
      omega
    · have h1 : a * b ≤ (-2147483648) * b := Int.mul_le_mul_of_nonpos_right a1 hb
      omega
theorem z_pc {a b c : Int} (a1 : 0 ≤ a) (a2 : a ≤ 4294967295) (b1 : -c ≤ b) (b2 : b ≤ c) (c0 : 0 ≤ c) : -(4294967295 * c) ≤ a * b ∧ a * b ≤ 4294967295 * c := by
  constructor
  · have h1 : a * (-c) ≤ a * b := Int.mul_le_mul_of_nonneg_left b1 a1
    have h2 : a * c ≤ 4294967295 * c := Int.mul_le_mul_of_nonneg_right a2 c0
    rw [Int.mul_neg] at h1
    omega
  · have h1 : a * b ≤ a * c := Int.mul_le_mul_of_nonneg_left b2 a1
    have h2 : a * c ≤ 4294967295 * c := Int.mul_le_mul_of_nonneg_right a2 c0
    omega
theorem z_pd {a b c A : Int} (a1 : -A ≤ a) (a2 : a ≤ A) (A0 : 0 ≤ A) (b1 : -c ≤ b) (b2 : b ≤ c) (c0 : 0 ≤ c) : -(A * c) ≤ a * b ∧ a * b ≤ A * c := by
  rcases Int.le_total 0 b with hb | hb
  · have h1 : (-A) * b ≤ a * b := Int.mul_le_mul_of_nonneg_right a1 hb
    have h2 : a * b ≤ A * b := Int.mul_le_mul_of_nonneg_right a2 hb
    have h3 : A * b ≤ A * c := Int.mul_le_mul_of_nonneg_left b2 A0
    rw [Int.neg_mul] at h1
    omega
  · have h1 : A * b ≤ a * b := Int.mul_le_mul_of_nonpos_right a2 hb
    have h2 : a * b ≤ (-A) * b := Int.mul_le_mul_of_nonpos_right a1 hb
    have h3 : A * (-c) ≤ A * b := Int.mul_le_mul_of_nonneg_left b1 A0
    rw [Int.neg_mul] at h2
    rw [Int.mul_neg] at h3
    omega
/-- v times m comes to it: c bounds m -/
theorem wad {h w v m : Int64} {c : Int} (a : wok h w) (c0 : 0 ≤ c) (m1 : -c ≤ m.toInt) (m2 : m.toInt ≤ c) (hc : c ≤ 2147483648) (hwc : w.toInt + 4294967295 * c ≤ 9223372036854775807) (h1 : -9223372032559808000 ≤ h.toInt - 2147483648 * c) (h2 : h.toInt + 2147483648 * c ≤ 9223372032559808000) :
    wok (wadH h w v m) (wadL w v m) ∧ wv (wadH h w v m) (wadL w v m) = wv h w + v.toInt * m.toInt := by
  obtain ⟨v1, v2, v3, v4, v5⟩ := z_cut v
  unfold wadH wadL
  generalize hvh : v >>> ((32 : Int32).toInt64 &&& 63) = vh at *
  generalize hvl : v &&& 4294967295 = vl at *
  unfold wok at a
  obtain ⟨p1, p2⟩ := z_pd (show -2147483648 ≤ vh.toInt by omega) (show vh.toInt ≤ 2147483648 by omega) (by decide) m1 m2 c0
  obtain ⟨q1, q2⟩ := z_pc v2 v3 m1 m2 c0
  have e1 : (vh * m).toInt = vh.toInt * m.toInt := z_mul (by omega) (by omega)
  have e2 : (vl * m).toInt = vl.toInt * m.toInt := z_mul (by omega) (by omega)
  have e3 : (w + vl * m).toInt = w.toInt + vl.toInt * m.toInt := by rw [z_add (by omega) (by omega), e2]
  obtain ⟨u1, u2, u3, u4, u5⟩ := z_cut (w + vl * m)
  have e4 : (h + vh * m).toInt = h.toInt + vh.toInt * m.toInt := by rw [z_add (by omega) (by omega), e1]
  have e5 : (h + vh * m + (w + vl * m) >>> ((32 : Int32).toInt64 &&& 63)).toInt = h.toInt + vh.toInt * m.toInt + ((w + vl * m) >>> ((32 : Int32).toInt64 &&& 63)).toInt := by rw [z_add (by omega) (by omega), e4]
  refine ⟨⟨u2, u3⟩, ?_⟩
  unfold wv
  rw [e5, ← v1, Int.add_mul (vh.toInt * 4294967296), Int.mul_right_comm vh.toInt]
  omega
theorem w00 : wok 0 0 ∧ wv 0 0 = 0 := ⟨⟨by decide, by decide⟩, by decide⟩
/-- division mended: x = q d + r with 0 <= r < d -/
theorem z_div {x d : Int64} (hd : 1 ≤ d.toInt) : (x / d).toInt = x.toInt.tdiv d.toInt := by
  rw [Int64.toInt_div]
  have hx := z_rng x
  have h3 := Int.natAbs_tdiv_le_natAbs x.toInt d.toInt
  refine z_bm ?_ ?_
  · omega
  · rcases Int.le_total 0 x.toInt with h | h
    · omega
    · have := Int.tdiv_nonneg (show 0 ≤ -x.toInt by omega) (show 0 ≤ d.toInt by omega)
      rw [Int.neg_tdiv] at this
      omega
theorem z_td {x d : Int} (hd : 1 ≤ d) : (0 ≤ x - x.tdiv d * d → x.tdiv d = x / d) ∧ (x - x.tdiv d * d < 0 → x.tdiv d - 1 = x / d) := by
  have h1 := Int.tdiv_eq_ediv (a := x) (b := d)
  have h2 := Int.emod_add_mul_ediv x d
  have h3 := Int.emod_nonneg x (show d ≠ 0 by omega)
  have h4 := Int.emod_lt_of_pos x (show 0 < d by omega)
  have hs : d.sign = 1 := Int.sign_eq_one_of_pos (by omega)
  rw [hs] at h1
  have h5 : d * (x / d) = x / d * d := Int.mul_comm _ _
  by_cases hc : 0 ≤ x ∨ d ∣ x
  · rw [if_pos hc] at h1
    rw [Int.add_zero] at h1
    rw [h1]
    exact ⟨fun _ => rfl, fun q => by omega⟩
  · rw [if_neg hc] at h1
    rw [h1]
    have h6 : (x / d + 1) * d = x / d * d + d := by rw [Int.add_mul, Int.one_mul]
    exact ⟨fun q => by omega, fun _ => by omega⟩
theorem z_qr {x d : Int64} (hd : 1 ≤ d.toInt) : (x / d * d).toInt = x.toInt.tdiv d.toInt * d.toInt ∧ (x - x / d * d).toInt = x.toInt - x.toInt.tdiv d.toInt * d.toInt := by
  have e1 := z_div (x := x) hd
  have hx := z_rng x
  have h2 := Int.emod_add_mul_ediv x.toInt d.toInt
  have h3 := Int.emod_nonneg x.toInt (show d.toInt ≠ 0 by omega)
  have h4 := Int.emod_lt_of_pos x.toInt (show 0 < d.toInt by omega)
  have h5 : d.toInt * (x.toInt / d.toInt) = x.toInt / d.toInt * d.toInt := Int.mul_comm _ _
  have ht := Int.tdiv_mul_add_tmod x.toInt d.toInt
  have hb : (0 ≤ x.toInt → 0 ≤ x.toInt.tmod d.toInt ∧ x.toInt.tmod d.toInt ≤ x.toInt) ∧ (x.toInt ≤ 0 → x.toInt.tmod d.toInt ≤ 0 ∧ x.toInt ≤ x.toInt.tmod d.toInt) := by
    have hn := Int.natAbs_tmod x.toInt d.toInt
    have hm := Nat.mod_le x.toInt.natAbs d.toInt.natAbs
    constructor
    · intro h
      have := Int.tmod_nonneg d.toInt h
      omega
    · intro h
      have := Int.tmod_nonneg d.toInt (show 0 ≤ -x.toInt by omega)
      rw [Int.neg_tmod] at this
      omega
  have e2 : (x / d * d).toInt = x.toInt.tdiv d.toInt * d.toInt := by
    rw [← e1]
    refine z_mul ?_ ?_
    · rw [e1]
      rcases Int.le_total 0 x.toInt with h | h
      · have := hb.1 h; omega
      · have := hb.2 h; omega
    · rw [e1]
      rcases Int.le_total 0 x.toInt with h | h
      · have := hb.1 h; omega
      · have := hb.2 h; omega
  refine ⟨e2, ?_⟩
  rw [z_sub, e2]
  · rw [e2]
    rcases Int.le_total 0 x.toInt with h | h
    · have := hb.1 h; omega
    · have := hb.2 h; omega
  · rw [e2]
    rcases Int.le_total 0 x.toInt with h | h
    · have := hb.1 h; omega
    · have := hb.2 h; omega
theorem z_0 : (0 : Int64).toInt = 0 := by decide
theorem z_1 : (1 : Int64).toInt = 1 := by decide
theorem tq_t {x d : Int64} (hd : 1 ≤ d.toInt) (h : 0 ≤ x - x / d * d) : (x / d).toInt = x.toInt / d.toInt ∧ (x - x / d * d).toInt = x.toInt % d.toInt := by
  have e := (z_qr (x := x) hd).2
  rw [Int64.le_iff_toInt_le, z_0, e] at h
  have h1 := (z_td (x := x.toInt) hd).1 h
  have h2 := Int.emod_add_mul_ediv x.toInt d.toInt
  have h5 : d.toInt * (x.toInt / d.toInt) = x.toInt / d.toInt * d.toInt := Int.mul_comm _ _
  refine ⟨by rw [z_div hd, h1], ?_⟩
  rw [e, h1]
  omega
theorem tq_f {x d : Int64} (hd : 1 ≤ d.toInt) (hd2 : d.toInt ≤ 2147483648) (h : ¬ 0 ≤ x - x / d * d) : (x / d - 1).toInt = x.toInt / d.toInt ∧ (x - x / d * d + d).toInt = x.toInt % d.toInt := by
  have e := (z_qr (x := x) hd).2
  rw [Int64.le_iff_toInt_le, z_0, e] at h
  have h1 := (z_td (x := x.toInt) hd).2 (by omega)
  have h2 := Int.emod_add_mul_ediv x.toInt d.toInt
  have h3 := Int.emod_nonneg x.toInt (show d.toInt ≠ 0 by omega)
  have h4 := Int.emod_lt_of_pos x.toInt (show 0 < d.toInt by omega)
  have h5 : d.toInt * (x.toInt / d.toInt) = x.toInt / d.toInt * d.toInt := Int.mul_comm _ _
  have h6 : (x.toInt.tdiv d.toInt - 1) * d.toInt = x.toInt.tdiv d.toInt * d.toInt - d.toInt := by rw [Int.sub_mul, Int.one_mul]
  have h7 : x.toInt.tdiv d.toInt * d.toInt - d.toInt = x.toInt / d.toInt * d.toInt := by rw [← h6, h1]
  have hx := z_rng x
  have hq := z_rng (x / d)
  have hq1 := z_div (x := x) hd
  have h8 : -9223372036854775808 ≤ x.toInt / d.toInt := by
    rcases Int.le_total 0 (x.toInt / d.toInt) with g | g
    · omega
    · have hd3 : 2 ≤ d.toInt := by
        rcases (show d.toInt = 1 ∨ 2 ≤ d.toInt by omega) with q | q
        · rw [q, Int.tdiv_one] at h
          omega
        · exact q
      have h9 : x.toInt / d.toInt * d.toInt ≤ x.toInt / d.toInt * 2 := Int.mul_le_mul_of_nonpos_left g hd3
      omega
  refine ⟨?_, ?_⟩
  · rw [z_sub (by rw [z_1]; omega) (by rw [z_1]; omega), z_1]
    omega
  · rw [z_add (by omega) (by omega), e]
    omega
