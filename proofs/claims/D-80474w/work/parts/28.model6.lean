/-! MODEL 6: act -/
theorem mkM_Q {G : gG} {a : Nat} {I : Nat → Int32} {J : Nat → Int64} {P : Nat → Nat → Int32} {Q Q' : Nat → Nat → Int64} {M0 : gM} (h : Q = Q') : mkM G a I J P Q M0 = mkM G a I J P Q' M0 := by rw [h]
/-- a level of two -/
def joinV (o : Int32) (b : Bool) (u v : Int64) : Int64 := if o = 0 then Int64.ofInt (u.toInt + v.toInt) else if o = 1 then Int64.ofInt (u.toInt - v.toInt) else if o = 4 then (if v < u then u else v) else if o = 5 then (if u < v then u else v) else if b = true then u else v
def joinOk (o : Int32) (u v : Int64) : Prop := (o = 0 → zfit (u.toInt + v.toInt)) ∧ (o = 1 → zfit (u.toInt - v.toInt))
theorem zw_fst : ∀ (x y : List Int64), x.length = y.length → List.zipWith (fun u _ => u) x y = x
  | [], _, _ => rfl
  | _ :: _, [], h => by simp at h
  | u :: x, v :: y, h => by rw [List.zipWith_cons_cons, zw_fst x y (by simpa using h)]
theorem zw_snd : ∀ (x y : List Int64), x.length = y.length → List.zipWith (fun _ v => v) x y = y
  | [], [], _ => rfl
  | [], _ :: _, h => by simp at h
  | _ :: _, [], h => by simp at h
  | u :: x, v :: y, h => by rw [List.zipWith_cons_cons, zw_snd x y (by simpa using h)]
theorem zw_mem {α : Type} {f : Int64 → Int64 → α} {x y : List Int64} {z : α} (h : z ∈ List.zipWith f x y) : ∃ (k : Nat) (u v : Int64), x[k]? = some u ∧ y[k]? = some v ∧ z = f u v := by
  obtain ⟨k, hk⟩ := List.getElem?_of_mem h
  rw [List.getElem?_zipWith] at hk
  cases h1 : x[k]? with
  | none => rw [h1] at hk; simp at hk
  | some u =>
    cases h2 : y[k]? with
    | none => rw [h1, h2] at hk; simp at hk
    | some v =>
      rw [h1, h2] at hk
      simp at hk
      exact ⟨k, u, v, h1, h2, hk.symm⟩
theorem joinL_ok {o : Int32} {b : Bool} {x y : List Int64} (ho : gIx o 6 = true) (hl : x.length = y.length) (hb2 : o = 2 → (b = true ↔ 0 ≤ cmpL x y)) (hb3 : o = 3 → (b = true ↔ cmpL x y ≤ 0)) (hk : ∀ (k : Nat) (u v : Int64), x[k]? = some u → y[k]? = some v → joinOk o u v) : joinL o x y = some (List.zipWith (joinV o b) x y) := by
  obtain ⟨τ, hτ, rfl⟩ := gIx_of ho (by decide)
  have hz : ∀ (f : Int64 → Int64 → Int), (∀ (k : Nat) (u v : Int64), x[k]? = some u → y[k]? = some v → zfit (f u v)) → zlist (List.zipWith f x y) = some (List.zipWith (fun u v => Int64.ofInt (f u v)) x y) := by
    intro f hf
    unfold zlist
    rw [if_pos, List.map_zipWith]
    intro z hz
    obtain ⟨k, u, v, h1, h2, rfl⟩ := zw_mem hz
    exact hf k u v h1 h2
  rcases (show τ = 0 ∨ τ = 1 ∨ τ = 2 ∨ τ = 3 ∨ τ = 4 ∨ τ = 5 by omega) with rfl | rfl | rfl | rfl | rfl | rfl
  · exact hz (fun u v => u.toInt + v.toInt) (fun k u v h1 h2 => (hk k u v h1 h2).1 rfl)
  · exact hz (fun u v => u.toInt - v.toInt) (fun k u v h1 h2 => (hk k u v h1 h2).2 rfl)
  · have h := hb2 rfl
    show some (if 0 ≤ cmpL x y then x else y) = some (List.zipWith (fun u v => if b = true then u else v) x y)
    cases b with
    | true => rw [if_pos (h.mp rfl)]; simp [zw_fst x y hl]
    | false => rw [if_neg (fun q => by have := h.mpr q; cases this)]; simp [zw_snd x y hl]
  · have h := hb3 rfl
    show some (if cmpL x y ≤ 0 then x else y) = some (List.zipWith (fun u v => if b = true then u else v) x y)
    cases b with
    | true => rw [if_pos (h.mp rfl)]; simp [zw_fst x y hl]
    | false => rw [if_neg (fun q => by have := h.mpr q; cases this)]; simp [zw_snd x y hl]
  · rfl
  · rfl
theorem joinL_no {o : Int32} {x y : List Int64} {k : Nat} {u v : Int64} (h1 : x[k]? = some u) (h2 : y[k]? = some v) (h : (o = 0 ∧ ¬ zfit (u.toInt + v.toInt)) ∨ (o = 1 ∧ ¬ zfit (u.toInt - v.toInt))) : joinL o x y = none := by
  have hz : ∀ (f : Int64 → Int64 → Int), ¬ zfit (f u v) → zlist (List.zipWith f x y) = none := by
    intro f hf
    unfold zlist
    rw [if_neg]
    intro q
    exact hf (q (f u v) (List.mem_of_getElem? (i := k) (by rw [List.getElem?_zipWith, h1, h2])))
  rcases h with ⟨rfl, h⟩ | ⟨rfl, h⟩
  · exact hz (fun u v => u.toInt + v.toInt) h
  · exact hz (fun u v => u.toInt - v.toInt) h
/-- x and m = 1, then y and m = 1 or -1 -/
theorem wad2 (x y m : Int64) (hm : m = 1 ∨ m = -1) : wok (wadH (wadH 0 0 x 1) (wadL 0 x 1) y m) (wadL (wadL 0 x 1) y m) ∧ wv (wadH (wadH 0 0 x 1) (wadL 0 x 1) y m) (wadL (wadL 0 x 1) y m) = x.toInt + y.toInt * m.toInt := by
  have e1 : (1 : Int64).toInt = 1 := by decide
  have e2 : (-1 : Int64).toInt = -1 := by decide
  have e0 : (0 : Int64).toInt = 0 := by decide
  obtain ⟨a1, a2⟩ := wad (h := 0) (w := 0) (v := x) (m := 1) (c := 1) w00.1 (by decide) (by rw [e1]; decide) (by rw [e1]; decide) (by decide) (by rw [e0]; decide) (by rw [e0]; decide) (by rw [e0]; decide)
  rw [w00.2, e1] at a2
  have hx := z_rng x
  have b1 : -2147483649 ≤ (wadH 0 0 x 1).toInt ∧ (wadH 0 0 x 1).toInt ≤ 2147483648 := by
    unfold wok at a1
    unfold wv at a2
    omega
  obtain ⟨c1, c2⟩ := wad (h := wadH 0 0 x 1) (w := wadL 0 x 1) (v := y) (m := m) (c := 1) a1 (by decide) (by rcases hm with rfl | rfl <;> decide) (by rcases hm with rfl | rfl <;> decide) (by decide) (by unfold wok at a1; omega) (by omega) (by omega)
  refine ⟨c1, ?_⟩
  rw [c2, a2]
  omega
/-- behind keepScore: the levels lv -/
theorem RM.laidL {σ : Sy} {I : Nat → Int32} {P : Nat → Nat → Int32} {Q : Nat → Nat → Int64} (h : RM σ I P Q) (hw : Sw σ) {sh hd : Nat} {lv : List Int64} {x y z : Int32} {Q' : Nat → Nat → Int64} (hx : x = nI sh) (hy : y = nI hd) (hz : z = nI lv.length) (hQ : ∀ i, i < 12 * σ.sc.length → Q' 0 i = Q 0 i) (hQ2 : Q' 1 = Q 1 ∧ Q' 2 = Q 2) (hv : ∀ (k : Nat) (v : Int64), lv[k]? = some v → Q' 0 (12 * σ.sc.length + k) = v) : RM (σ.add (some (sh, hd, lv))) (va_up I 0 (I 0 + 1)) (layP P σ.sc.length x y z) Q' := by
  refine h.push hw _ ?_ (fun j h1 h2 => va_up_ne _ _ (by omega)) (fun j i hj hi => layP_lt hj hi) (fun j h1 h2 => layP_gt h1) hQ hQ2 (fun q => by cases q) (fun s hs => ?_)
  · rw [va_up_self, h.1, nI_1]
  · cases hs
    exact ⟨by rw [layP_0, hx], by rw [layP_1, hy], by rw [layP_2, hz], hv⟩
/-- what stands behind the last score doesn't count -/
theorem RM.junk {σ : Sy} {I : Nat → Int32} {P P' : Nat → Nat → Int32} {Q Q' : Nat → Nat → Int64} (h : RM σ I P Q) (hP : ∀ j i, j ≤ 2 → i < σ.sc.length → P' j i = P j i) (hP2 : ∀ j, 3 ≤ j → j ≤ 5 → P' j = P j) (hQ : ∀ i, i < 12 * σ.sc.length → Q' 0 i = Q 0 i) (hQ2 : Q' 1 = Q 1 ∧ Q' 2 = Q 2) (hw : Sw σ) : RM σ I P' Q' := by
  obtain ⟨h0, h1, h2, h3, h6, h7, h8, h9, h10, h11, h12, h13⟩ := h
  refine ⟨h0, fun i hi => ?_, fun i s hi => ?_, h3, h6, by rw [hP2 3 (by decide) (by decide), hQ2.1]; exact h7, h8, by rw [hQ2.2]; exact h9, h10, by rw [hP2 4 (by decide) (by decide)]; exact h11, h12, by rw [hP2 5 (by decide) (by decide)]; exact h13⟩
  · rw [hP 0 i (by decide) (List.getElem?_eq_some_iff.mp hi).1]
    exact h1 i hi
  · have q1 := (List.getElem?_eq_some_iff.mp hi).1
    obtain ⟨r1, r2, r3, r4⟩ := h2 i s hi
    have hl := (hw.len hi).1
    refine ⟨by rw [hP 0 i (by decide) q1]; exact r1, by rw [hP 1 i (by decide) q1]; exact r2, by rw [hP 2 i (by decide) q1]; exact r3, fun k v hv => ?_⟩
    have hk : k < s.2.2.length := (List.getElem?_eq_some_iff.mp hv).1
    rw [hQ _ (by omega)]
    exact r4 k v hv
theorem act_no {σ : Sy} {o x y : Int32} {c : Int32} {G : gG} {a : Nat} {I : Nat → Int32} {J : Nat → Int64} {P : Nat → Nat → Int32} {Q : Nat → Nat → Int64} {M0 : gM} (h : o_act σ o x y = (c, σ)) (hr : RM σ I P Q) : RMp G a M0 (o_act σ o x y) (.inl (some (.int c))) (mkM G a I J P Q M0) := RMp_i h hr
theorem act_unk {σ : Sy} {o x y : Int32} (h : scAt σ x = none ∨ scAt σ y = none) : o_act σ o x y = (-2, σ) := by
  unfold o_act
  rcases h with h | h
  · rw [h]
  · rw [h]
    cases scAt σ x <;> rfl
theorem act_ref {σ : Sy} {o : Int32} {i j : Nat} {u v : Option Sc} (ei : scAt σ (nI i) = σ.sc[i]?) (ej : scAt σ (nI j) = σ.sc[j]?) (hi : σ.sc[i]? = some u) (hj : σ.sc[j]? = some v) (hix : gIx o 6 = true) (h60 : ¬ σ.sc.length = 60) (hc : ¬ 0 ≤ refu σ i j) : o_act σ o (nI i) (nI j) = (refu σ i j, σ) := by
  unfold refu at hc ⊢
  unfold o_act
  rw [ei, ej, hi, hj]
  simp only [hix]
  rw [if_neg (by decide), if_neg h60]
  rw [hi, hj] at hc
  cases u with
  | none => cases v <;> rfl
  | some s =>
    cases v with
    | none => rfl
    | some t =>
      cases hq : like s t with
      | true => simp [hq] at hc
      | false => simp [hq]
set_option maxHeartbeats 4000000 in
theorem m_act {l : Launch} {G : gG} {a : Nat} {I : Nat → Int32} {J : Nat → Int64} {P : Nat → Nat → Int32} {Q : Nat → Nat → Int64} {M0 : gM} {σ : Sy} (hw : Sw σ) (hr : RM σ I P Q) {o x y : Int32} : gMet l yX4_act (gWs yX4_act cX4_act 14 (some .int) []) ({ frames := 2, cells := 0, slots := 0, locals := 46 } : Room) G [.ref a, .int o, .int x, .int y] (mkM G a I J P Q M0) (RMp G a M0 (o_act σ o x y)) := by
  refine gMet.intro (by decide) (Nat.le_of_ble_eq_true rfl) (fun C hl hC hN => ?_)
  subst hl
  replace hC : Ck G C [] cX4_act RX4 14 (some .int) ({ frames := 2, cells := 0, slots := 0, locals := 46 } : Room) (RMp G a M0 (o_act σ o x y)) := hC
  refine V.loc [some (.ref a), some (.int o), some (.int x), some (.int y)] ⟨rfl, rfl, rfl, rfl, trivial⟩ ?_
  refine V_aload_n hC dX4_act_0 rfl ?_
  refine V_iload_n hC dX4_act_1 rfl ?_
  refine mc1v hC (m_isNumber hr.1 (by have := hw.1; omega)) rfl mw_isNumber ⟨⟨(Nat.le_of_ble_eq_true rfl), (Nat.le_of_ble_eq_true rfl)⟩, rfl, rfl⟩ ⟨(Nat.le_of_ble_eq_true rfl), (Nat.le_of_ble_eq_true rfl)⟩ (Nat.le_of_ble_eq_true rfl) dX4_act_2 ?_
  refine V_ifb_eq (tgt := 16) hC dX4_act_5 (by decide) (fun c5 => ?_) (fun c5 => ?_)
  · refine V_bipush (v := (-2)) hC dX4_act_16 (by decide) ?_
    exact V_iret hC dX4_act_18 (Nat.le_of_ble_eq_true rfl) (Nat.le_of_ble_eq_true rfl) (by first | exact RMp_i (act_unk (Or.inl (scAt_no c5))) hr | exact RMp_i (act_unk (Or.inr (scAt_no c13))) hr)
  · obtain ⟨i, hi, rfl⟩ := gIx_of c5 (by have := hw.1; omega)
    have hb := hw.1
    have ei := scAt_nI hi hb
    refine V_aload_n hC dX4_act_8 rfl ?_
    refine V_iload_n hC dX4_act_9 rfl ?_
    refine mc1v hC (m_isNumber hr.1 (by have := hw.1; omega)) rfl mw_isNumber ⟨⟨(Nat.le_of_ble_eq_true rfl), (Nat.le_of_ble_eq_true rfl)⟩, rfl, rfl⟩ ⟨(Nat.le_of_ble_eq_true rfl), (Nat.le_of_ble_eq_true rfl)⟩ (Nat.le_of_ble_eq_true rfl) dX4_act_10 ?_
    refine V_ifb_ne (tgt := 19) hC dX4_act_13 (by decide) (fun c13 => ?_) (fun c13 => ?_)
    · obtain ⟨j, hj, rfl⟩ := gIx_of c13 (by have := hw.1; omega)
      have ej := scAt_nI hj hb
      refine V_iload_n hC dX4_act_19 rfl ?_
      refine V_i2l hC dX4_act_20 ?_
      refine V_lconst (v := 0) hC dX4_act_21 (by decide) ?_
      refine V_ldc2 hC dX4_act_22 q962 ?_
      refine mt3v hC m_in mw_in ⟨⟨(Nat.le_of_ble_eq_true rfl), (Nat.le_of_ble_eq_true rfl)⟩, rfl, rfl⟩ ⟨(Nat.le_of_ble_eq_true rfl), (Nat.le_of_ble_eq_true rfl)⟩ (Nat.le_of_ble_eq_true rfl) dX4_act_25 ?_
      rw [gIn_c o 6 (by decide) (by decide)]
      refine V_ifb_ne (tgt := 34) hC dX4_act_28 (by decide) (fun c28 => ?_) (fun c28 => ?_)
      · have hix := c28
        refine V_aload_n hC dX4_act_34 rfl ?_
        refine mg_scores hC dX4_act_35 ?_
        refine V_bipush (v := 60) hC dX4_act_38 (by decide) ?_
        rw [hr.1]
        refine V_icmp_ne (tgt := 46) hC dX4_act_40 (by decide) (fun c40 => ?_) (fun c40 => ?_)
        · refine V_aload_n hC dX4_act_46 rfl ?_
          refine V_iload_n hC dX4_act_47 rfl ?_
          refine V_iload_n hC dX4_act_48 rfl ?_
          refine mc2v hC (m_refusal hw hr hi hj) rfl mw_refusal ⟨⟨(Nat.le_of_ble_eq_true rfl), (Nat.le_of_ble_eq_true rfl)⟩, rfl, rfl⟩ ⟨(Nat.le_of_ble_eq_true rfl), (Nat.le_of_ble_eq_true rfl)⟩ (Nat.le_of_ble_eq_true rfl) dX4_act_49 ?_
          refine V_istore hC dX4_act_52 (Nat.le_of_ble_eq_true rfl) ?_
          refine V_iload hC dX4_act_54 rfl ?_
          refine V_if_ge (tgt := 62) hC dX4_act_56 (by decide) (fun c56 => ?_) (fun c56 => ?_)
          · obtain ⟨s, t, hs, ht, hlk⟩ : ∃ s t : Sc, σ.sc[i]? = some (some s) ∧ σ.sc[j]? = some (some t) ∧ like s t = true := by
              unfold refu at c56
              split at c56
              · rename_i s t q1 q2
                refine ⟨s, t, q1, q2, ?_⟩
                cases hq : like s t with
                | true => rfl
                | false => rw [hq] at c56; exact absurd c56 (by decide)
              · exact absurd c56 (by decide)
            have l1 := hw.len hs
            have l2 := hw.len ht
            obtain ⟨p1, p2, p3, p4⟩ := hr.2.2.1 i s hs
            obtain ⟨r1, r2, r3, r4⟩ := hr.2.2.1 j t ht
            have hle : s.2.2.length = t.2.2.length := (of_decide_eq_true hlk).2.2
            have hn60 : σ.sc.length < 60 := by
              have : ¬ σ.sc.length = 60 := fun q => c40 ((n60 hw).mpr q)
              omega
            refine V_aload_n hC dX4_act_62 rfl ?_
            refine V_aload_n hC dX4_act_63 rfl ?_
            refine mg_shapes hC dX4_act_64 ?_
            refine V_iload_n hC dX4_act_67 rfl ?_
            refine ml_shapes hC i rfl (by omega) dX4_act_68 ?_
            refine V_aload_n hC dX4_act_69 rfl ?_
            refine mg_hards hC dX4_act_70 ?_
            refine V_iload_n hC dX4_act_73 rfl ?_
            refine ml_hards hC i rfl (by omega) dX4_act_74 ?_
            refine V_aload_n hC dX4_act_75 rfl ?_
            refine mg_sizes hC dX4_act_76 ?_
            refine V_iload_n hC dX4_act_79 rfl ?_
            refine ml_sizes hC i rfl (by omega) dX4_act_80 ?_
            refine mc3n hC (m_lay hr.1 (by omega)) rfl mw_lay ⟨⟨(Nat.le_of_ble_eq_true rfl), (Nat.le_of_ble_eq_true rfl)⟩, rfl, rfl⟩ ⟨(Nat.le_of_ble_eq_true rfl), (Nat.le_of_ble_eq_true rfl)⟩ (Nat.le_of_ble_eq_true rfl) dX4_act_81 ?_
            refine V_aload_n hC dX4_act_84 rfl ?_
            refine V_aload_n hC dX4_act_85 rfl ?_
            refine mg_levels hC dX4_act_86 ?_
            refine V_bipush (v := 12) hC dX4_act_89 (by decide) ?_
            refine V_iload_n hC dX4_act_91 rfl ?_
            refine V_imul hC dX4_act_92 ?_
            rw [g12' i]
            refine V_aload_n hC dX4_act_93 rfl ?_
            refine mg_levels hC dX4_act_94 ?_
            refine V_bipush (v := 12) hC dX4_act_97 (by decide) ?_
            refine V_iload_n hC dX4_act_99 rfl ?_
            refine V_imul hC dX4_act_100 ?_
            rw [g12' j]
            refine V_aload_n hC dX4_act_101 rfl ?_
            refine mg_sizes hC dX4_act_102 ?_
            refine V_iload_n hC dX4_act_105 rfl ?_
            refine ml_sizes hC i rfl (by omega) dX4_act_106 ?_
            refine V_seti (y := nI s.2.2.length) (by rw [layP_lt (by decide) hi, p3]) ?_
            refine mc5v hC (m_compare (s := 12 * i) (t := 12 * j) (n := s.2.2.length) (mkM_at 4 (by decide)) (mkM_at 4 (by decide)) (by omega) (by omega) (by decide) (by decide)) rfl mw_compare ⟨⟨(Nat.le_of_ble_eq_true rfl), (Nat.le_of_ble_eq_true rfl)⟩, rfl, rfl⟩ ⟨(Nat.le_of_ble_eq_true rfl), (Nat.le_of_ble_eq_true rfl)⟩ (Nat.le_of_ble_eq_true rfl) dX4_act_107 ?_
            refine V_seti (y := cmpL s.2.2 t.2.2) ?_ ?_
            · exact cmpN_L _ (12 * i) _ (12 * j) s.2.2 t.2.2 0 hle (fun k v hv => by have hk := (List.getElem?_eq_some_iff.mp hv).1; rw [Nat.zero_add, layQ_lt (by omega)]; exact p4 k v hv) (fun k v hv => by have hk := (List.getElem?_eq_some_iff.mp hv).1; rw [Nat.zero_add, layQ_lt (by omega)]; exact r4 k v hv)
            refine V_istore hC dX4_act_110 (Nat.le_of_ble_eq_true rfl) ?_
            have loop : ∀ (fuel : Nat) (k : Nat) (b : Bool) (K : Nat → Int64), s.2.2.length < k + fuel → k ≤ s.2.2.length → (o = 2 → (b = true ↔ 0 ≤ cmpL s.2.2 t.2.2)) → (o = 3 → (b = true ↔ cmpL s.2.2 t.2.2 ≤ 0)) → (∀ (z : Nat) (u v : Int64), z < k → s.2.2[z]? = some u → t.2.2[z]? = some v → joinOk o u v) → V G C (mkM G a I K (layP P σ.sc.length (P 0 i) (P 1 i) (P 2 i)) (va_up (layQ Q σ.sc.length) 0 (gCpy (layQ Q σ.sc.length 0) (12 * σ.sc.length) (fun z => joinV o b (Q 0 (12 * i + z)) (Q 0 (12 * j + z))) 0 k)) M0) 0 0 145 (gl [some (.ref a), some (.int o), some (.int (nI i)), some (.int (nI j)), some (.int (refu σ i j)), some (.int (cmpL s.2.2 t.2.2)), some (.int (gB b)), some (.int (nI k))]) [] := by
              intro fuel
              induction fuel with
              | zero => intros; omega
              | succ fuel ih =>
                intro k b K h1 h2 hb2 hb3 h5
                refine V_iload hC dX4_act_145 rfl ?_
                refine V_aload_n hC dX4_act_147 rfl ?_
                refine mg_sizes hC dX4_act_148 ?_
                refine V_iload_n hC dX4_act_151 rfl ?_
                refine ml_sizes hC i rfl (by omega) dX4_act_152 ?_
                refine V_seti (y := nI s.2.2.length) (by rw [layP_lt (by decide) hi, p3]) ?_
                refine V_icmp_ge (tgt := 316) hC dX4_act_153 (by decide) (fun c153 => ?_) (fun c153 => ?_)
                · refine V_aload_n hC dX4_act_316 rfl ?_
                  refine mc0v hC m_keepScore rfl mw_keepScore ⟨⟨(Nat.le_of_ble_eq_true rfl), (Nat.le_of_ble_eq_true rfl)⟩, rfl, rfl⟩ ⟨(Nat.le_of_ble_eq_true rfl), (Nat.le_of_ble_eq_true rfl)⟩ (Nat.le_of_ble_eq_true rfl) dX4_act_317 ?_
                  exact V_iret hC dX4_act_320 (Nat.le_of_ble_eq_true rfl) (Nat.le_of_ble_eq_true rfl) (by
                        have hk : k = s.2.2.length := Nat.le_antisymm h2 (Nat.le_of_not_lt fun q => nI_ge q (by omega) c153)
                        subst hk
                        rw [show I 0 + 1 - 1 = nI σ.sc.length by rw [hr.1, g_pm]]
                        have hj := joinL_ok (b := b) hix hle hb2 hb3 (fun z u v hu hv => h5 z u v (List.getElem?_eq_some_iff.mp hu).1 hu hv)
                        refine RMp_i (σ := σ.add (some (s.1, s.2.1, List.zipWith (joinV o b) s.2.2 t.2.2))) ?_ ?_
                        · unfold o_act
                          rw [ei, ej, hs, ht]
                          simp only [hix, hlk, if_true]
                          rw [if_neg (by decide), if_neg (by omega), hj]
                        · refine hr.laidL hw p1 p2 (by rw [p3, List.length_zipWith, ← hle, Nat.min_self]) (fun z hz => ?_) ⟨rfl, rfl⟩ (fun z v hv => ?_)
                          · rw [va_up_self, gCpy_out _ (by omega), layQ_lt hz]
                          · have hz : z < s.2.2.length := by
                              have := (List.getElem?_eq_some_iff.mp hv).1
                              rw [List.length_zipWith] at this
                              omega
                            rw [va_up_self, gCpy_in _ hz, Nat.zero_add]
                            have e1 := List.getElem?_eq_getElem hz
                            have e2 := List.getElem?_eq_getElem (show z < t.2.2.length by omega)
                            rw [List.getElem?_zipWith, e1, e2] at hv
                            rw [p4 z _ e1, r4 z _ e2]
                            exact Option.some.inj hv)
                · have h4 : k < s.2.2.length := Nat.lt_of_not_le fun q => c153 (nI_le q (by omega))
                  refine V_aload_n hC dX4_act_156 rfl ?_
                  refine mg_levels hC dX4_act_157 ?_
                  refine V_bipush (v := 12) hC dX4_act_160 (by decide) ?_
                  refine V_iload_n hC dX4_act_162 rfl ?_
                  refine V_imul hC dX4_act_163 ?_
                  refine V_iload hC dX4_act_164 rfl ?_
                  refine V_iadd hC dX4_act_166 ?_
                  refine ml_levels hC (12 * i + k) (g12 i k) (by omega) dX4_act_167 ?_
                  refine V_setl (y := Q 0 (12 * i + k)) (by rw [va_up_self, gCpy_out _ (by omega), layQ_lt (by omega)]) ?_
                  refine V_lstore hC dX4_act_168 (Nat.le_of_ble_eq_true rfl) ?_
                  refine V_aload_n hC dX4_act_170 rfl ?_
                  refine mg_levels hC dX4_act_171 ?_
                  refine V_bipush (v := 12) hC dX4_act_174 (by decide) ?_
                  refine V_iload_n hC dX4_act_176 rfl ?_
                  refine V_imul hC dX4_act_177 ?_
                  refine V_iload hC dX4_act_178 rfl ?_
                  refine V_iadd hC dX4_act_180 ?_
                  refine ml_levels hC (12 * j + k) (g12 j k) (by omega) dX4_act_181 ?_
                  refine V_setl (y := Q 0 (12 * j + k)) (by rw [va_up_self, gCpy_out _ (by omega), layQ_lt (by omega)]) ?_
                  refine V_lstore hC dX4_act_182 (Nat.le_of_ble_eq_true rfl) ?_
                  refine V_iload_n hC dX4_act_184 rfl ?_
                  refine V_iconst (v := 4) hC dX4_act_185 (by decide) ?_
                  refine V_icmp_ne (tgt := 207) hC dX4_act_186 (by decide) (fun c186 => ?_) (fun c186 => ?_)
                  · refine V_iload_n hC dX4_act_207 rfl ?_
                    refine V_iconst (v := 5) hC dX4_act_208 (by decide) ?_
                    refine V_icmp_ne (tgt := 230) hC dX4_act_209 (by decide) (fun c209 => ?_) (fun c209 => ?_)
                    · refine V_iload hC dX4_act_230 rfl ?_
                      refine V_ifb_eq (tgt := 240) hC dX4_act_232 (by decide) (fun c232 => ?_) (fun c232 => ?_)
                      · refine V_lload hC dX4_act_240 rfl ?_
                        refine V_lstore hC dX4_act_242 (Nat.le_of_ble_eq_true rfl) ?_
                        refine V_iload_n hC dX4_act_244 rfl ?_
                        refine V_iconst (v := 2) hC dX4_act_245 (by decide) ?_
                        refine V_icmp_ge (tgt := 293) hC dX4_act_246 (by decide) (fun c246 => ?_) (fun c246 => ?_)
                        · refine V_aload_n hC dX4_act_293 rfl ?_
                          refine mg_levels hC dX4_act_294 ?_
                          refine V_bipush (v := 12) hC dX4_act_297 (by decide) ?_
                          refine V_aload_n hC dX4_act_299 rfl ?_
                          refine mg_scores hC dX4_act_300 ?_
                          rw [hr.1]
                          refine V_imul hC dX4_act_303 ?_
                          refine V_iload hC dX4_act_304 rfl ?_
                          refine V_iadd hC dX4_act_306 ?_
                          refine V_lload hC dX4_act_307 rfl ?_
                          refine ms_levels hC (12 * σ.sc.length + k) (g12 _ k) (by omega) dX4_act_309 ?_
                          refine V_iinc (v := nI (k + 1)) hC dX4_act_310 rfl (gI_inc k) (Nat.le_of_ble_eq_true rfl) ?_
                          refine V_goto (tgt := 145) hC dX4_act_313 (by decide) ?_
                          have hv : Q 0 (12 * j + k) = joinV o b (Q 0 (12 * i + k)) (Q 0 (12 * j + k)) := by
                            unfold joinV
                            rw [if_neg (fun q => by rw [q] at c246; exact absurd c246 (by decide)), if_neg (fun q => by rw [q] at c246; exact absurd c246 (by decide)), if_neg c186, if_neg c209, c232]
                            rw [if_neg (by decide)]
                          have hok : joinOk o (Q 0 (12 * i + k)) (Q 0 (12 * j + k)) := ⟨fun q => absurd c246 (by rw [q]; decide), fun q => absurd c246 (by rw [q]; decide)⟩
                          refine V.eqM (mkM_Q ?_) (V.loc [some (.ref a), some (.int o), some (.int (nI i)), some (.int (nI j)), some (.int (refu σ i j)), some (.int (cmpL s.2.2 t.2.2)), some (.int (gB b)), some (.int (nI (k + 1)))] ⟨rfl, rfl, rfl, rfl, rfl, rfl, rfl, rfl, trivial⟩ (ih (k + 1) b _ (by omega) (by omega) hb2 hb3 (fun z u v hz9 hu hv9 => ?_)))
                          · refine (gUU _ 0 _ _).trans (congrArg (va_up (layQ Q σ.sc.length) 0) ((congrArg (va_up _ (12 * σ.sc.length + k)) (hv.trans (by rw [Nat.zero_add]))).trans (gCpy_s _ _ (fun z => joinV o b (Q 0 (12 * i + z)) (Q 0 (12 * j + z))) 0 k)))
                          · rcases (show z < k ∨ z = k by omega) with q | q
                            · exact h5 z u v q hu hv9
                            · subst q
                              rw [← p4 z u hu, ← r4 z v hv9]
                              exact hok
                        · refine V_aload_n hC dX4_act_249 rfl ?_
                          refine mc0n hC m_zero rfl mw_zero ⟨⟨(Nat.le_of_ble_eq_true rfl), (Nat.le_of_ble_eq_true rfl)⟩, rfl, rfl⟩ ⟨(Nat.le_of_ble_eq_true rfl), (Nat.le_of_ble_eq_true rfl)⟩ (Nat.le_of_ble_eq_true rfl) dX4_act_250 ?_
                          refine V_aload_n hC dX4_act_253 rfl ?_
                          refine V_lload hC dX4_act_254 rfl ?_
                          refine V_lconst (v := 1) hC dX4_act_256 (by decide) ?_
                          refine mc2n hC m_add rfl mw_add ⟨⟨(Nat.le_of_ble_eq_true rfl), (Nat.le_of_ble_eq_true rfl)⟩, rfl, rfl⟩ ⟨(Nat.le_of_ble_eq_true rfl), (Nat.le_of_ble_eq_true rfl)⟩ (Nat.le_of_ble_eq_true rfl) dX4_act_257 ?_
                          refine V_aload_n hC dX4_act_260 rfl ?_
                          refine V_lload hC dX4_act_261 rfl ?_
                          refine V_iload_n hC dX4_act_263 rfl ?_
                          refine V_if_ne (tgt := 271) hC dX4_act_264 (by decide) (fun c264 => ?_) (fun c264 => ?_)
                          · refine V_ldc2 hC dX4_act_271 q984 ?_
                            refine mc2n hC m_add rfl mw_add ⟨⟨(Nat.le_of_ble_eq_true rfl), (Nat.le_of_ble_eq_true rfl)⟩, rfl, rfl⟩ ⟨(Nat.le_of_ble_eq_true rfl), (Nat.le_of_ble_eq_true rfl)⟩ (Nat.le_of_ble_eq_true rfl) dX4_act_274 ?_
                            have hone : o = 1 := by
                              obtain ⟨τ, hτ, rfl⟩ := gIx_of hix (by decide)
                              have h2 : ¬ 2 ≤ τ := fun q => c246 (nI_le q (by omega))
                              have h3 : ¬ τ = 0 := fun q => c264 (by rw [q]; rfl)
                              rw [show τ = 1 by omega]
                              rfl
                            have hW := wad2 (Q 0 (12 * i + k)) (Q 0 (12 * j + k)) (-1) (Or.inr rfl)
                            refine V_aload_n hC dX4_act_277 rfl ?_
                            refine mc0v hC m_fits rfl mw_fits ⟨⟨(Nat.le_of_ble_eq_true rfl), (Nat.le_of_ble_eq_true rfl)⟩, rfl, rfl⟩ ⟨(Nat.le_of_ble_eq_true rfl), (Nat.le_of_ble_eq_true rfl)⟩ (Nat.le_of_ble_eq_true rfl) dX4_act_278 ?_
                            refine V_ifb_ne (tgt := 287) hC dX4_act_281 (by decide) (fun c281 => ?_) (fun c281 => ?_)
                            · have hfit := (wfit hW.1).mp c281
                              have hz : zfit ((Q 0 (12 * i + k)).toInt - (Q 0 (12 * j + k)).toInt) := by
                                have e := hfit
                                rw [hW.2, show (-1 : Int64).toInt = -1 by decide] at e
                                unfold zfit at e ⊢
                                omega
                              refine V_aload_n hC dX4_act_287 rfl ?_
                              refine mc0v hC m_number rfl mw_number ⟨⟨(Nat.le_of_ble_eq_true rfl), (Nat.le_of_ble_eq_true rfl)⟩, rfl, rfl⟩ ⟨(Nat.le_of_ble_eq_true rfl), (Nat.le_of_ble_eq_true rfl)⟩ (Nat.le_of_ble_eq_true rfl) dX4_act_288 ?_
                              refine V_lstore hC dX4_act_291 (Nat.le_of_ble_eq_true rfl) ?_
                              refine V_aload_n hC dX4_act_293 rfl ?_
                              refine mg_levels hC dX4_act_294 ?_
                              refine V_bipush (v := 12) hC dX4_act_297 (by decide) ?_
                              refine V_aload_n hC dX4_act_299 rfl ?_
                              refine mg_scores hC dX4_act_300 ?_
                              rw [hr.1]
                              refine V_imul hC dX4_act_303 ?_
                              refine V_iload hC dX4_act_304 rfl ?_
                              refine V_iadd hC dX4_act_306 ?_
                              refine V_lload hC dX4_act_307 rfl ?_
                              refine ms_levels hC (12 * σ.sc.length + k) (g12 _ k) (by omega) dX4_act_309 ?_
                              refine V_iinc (v := nI (k + 1)) hC dX4_act_310 rfl (gI_inc k) (Nat.le_of_ble_eq_true rfl) ?_
                              refine V_goto (tgt := 145) hC dX4_act_313 (by decide) ?_
                              have hv : wadH (wadH 0 0 (Q 0 (12 * i + k)) 1) (wadL 0 (Q 0 (12 * i + k)) 1) (Q 0 (12 * j + k)) (-1) <<< ((32 : Int32).toInt64 &&& 63) + wadL (wadL 0 (Q 0 (12 * i + k)) 1) (Q 0 (12 * j + k)) (-1) = joinV o b (Q 0 (12 * i + k)) (Q 0 (12 * j + k)) := by
                                rw [wnum hfit, hW.2]
                                unfold joinV
                                rw [if_neg (by rw [hone]; decide), if_pos hone]
                                congr 1
                                rw [show (-1 : Int64).toInt = -1 by decide]; omega
                              have hok : joinOk o (Q 0 (12 * i + k)) (Q 0 (12 * j + k)) := ⟨fun q => absurd (hone.symm.trans q) (by decide), fun _ => hz⟩
                              refine V.eqM (mkM_Q ?_) (V.loc [some (.ref a), some (.int o), some (.int (nI i)), some (.int (nI j)), some (.int (refu σ i j)), some (.int (cmpL s.2.2 t.2.2)), some (.int (gB b)), some (.int (nI (k + 1)))] ⟨rfl, rfl, rfl, rfl, rfl, rfl, rfl, rfl, trivial⟩ (ih (k + 1) b _ (by omega) (by omega) hb2 hb3 (fun z u v hz9 hu hv9 => ?_)))
                              · refine (gUU _ 0 _ _).trans (congrArg (va_up (layQ Q σ.sc.length) 0) ((congrArg (va_up _ (12 * σ.sc.length + k)) (hv.trans (by rw [Nat.zero_add]))).trans (gCpy_s _ _ (fun z => joinV o b (Q 0 (12 * i + z)) (Q 0 (12 * j + z))) 0 k)))
                              · rcases (show z < k ∨ z = k by omega) with q | q
                                · exact h5 z u v q hu hv9
                                · subst q
                                  rw [← p4 z u hu, ← r4 z v hv9]
                                  exact hok
                            · refine V_bipush (v := (-16)) hC dX4_act_284 (by decide) ?_
                              exact V_iret hC dX4_act_286 (Nat.le_of_ble_eq_true rfl) (Nat.le_of_ble_eq_true rfl) (by
                                    have hno : ¬ zfit ((Q 0 (12 * i + k)).toInt - (Q 0 (12 * j + k)).toInt) := fun q => by
                                      have e : gIn _ (-2147483648) 2147483647 = true := (wfit hW.1).mpr (by rw [hW.2, show (-1 : Int64).toInt = -1 by decide]; unfold zfit at q ⊢; omega)
                                      have c281' := c281
                                      exact absurd (c281'.symm.trans e) (by decide)
                                    have hki : k < s.2.2.length := h4
                                    have hkj : k < t.2.2.length := by omega
                                    have e1 := List.getElem?_eq_getElem hki
                                    have e2 := List.getElem?_eq_getElem hkj
                                    rw [p4 k _ e1, r4 k _ e2] at hno
                                    refine ⟨?_, I, _, _, _, rfl, ?_⟩
                                    · show _ = Sum.inl (some (Value.int (o_act σ o (nI i) (nI j)).1))
                                      unfold o_act
                                      rw [ei, ej, hs, ht]
                                      simp only [hix, hlk, if_true]
                                      rw [if_neg (by decide), if_neg (by omega), joinL_no e1 e2 (Or.inr ⟨hone, hno⟩)]
                                    · have e3 : (o_act σ o (nI i) (nI j)).2 = σ := by
                                        unfold o_act
                                        rw [ei, ej, hs, ht]
                                        simp only [hix, hlk, if_true]
                                        rw [if_neg (by decide), if_neg (by omega), joinL_no e1 e2 (Or.inr ⟨hone, hno⟩)]
                                      rw [e3]
                                      exact hr.junk (fun j i hj hi => layP_lt hj hi) (fun j h1 _ => layP_gt h1) (fun z hz => by rw [va_up_self, gCpy_out _ (by omega), layQ_lt hz]) ⟨rfl, rfl⟩ hw)
                          · refine V_lconst (v := 1) hC dX4_act_267 (by decide) ?_
                            refine V_goto (tgt := 274) hC dX4_act_268 (by decide) ?_
                            refine mc2n hC m_add rfl mw_add ⟨⟨(Nat.le_of_ble_eq_true rfl), (Nat.le_of_ble_eq_true rfl)⟩, rfl, rfl⟩ ⟨(Nat.le_of_ble_eq_true rfl), (Nat.le_of_ble_eq_true rfl)⟩ (Nat.le_of_ble_eq_true rfl) dX4_act_274 ?_
                            have hW := wad2 (Q 0 (12 * i + k)) (Q 0 (12 * j + k)) 1 (Or.inl rfl)
                            refine V_aload_n hC dX4_act_277 rfl ?_
                            refine mc0v hC m_fits rfl mw_fits ⟨⟨(Nat.le_of_ble_eq_true rfl), (Nat.le_of_ble_eq_true rfl)⟩, rfl, rfl⟩ ⟨(Nat.le_of_ble_eq_true rfl), (Nat.le_of_ble_eq_true rfl)⟩ (Nat.le_of_ble_eq_true rfl) dX4_act_278 ?_
                            refine V_ifb_ne (tgt := 287) hC dX4_act_281 (by decide) (fun c281 => ?_) (fun c281 => ?_)
                            · have hfit := (wfit hW.1).mp c281
                              have hz : zfit ((Q 0 (12 * i + k)).toInt + (Q 0 (12 * j + k)).toInt) := by
                                have e := hfit
                                rw [hW.2, show (1 : Int64).toInt = 1 by decide] at e
                                unfold zfit at e ⊢
                                omega
                              refine V_aload_n hC dX4_act_287 rfl ?_
                              refine mc0v hC m_number rfl mw_number ⟨⟨(Nat.le_of_ble_eq_true rfl), (Nat.le_of_ble_eq_true rfl)⟩, rfl, rfl⟩ ⟨(Nat.le_of_ble_eq_true rfl), (Nat.le_of_ble_eq_true rfl)⟩ (Nat.le_of_ble_eq_true rfl) dX4_act_288 ?_
                              refine V_lstore hC dX4_act_291 (Nat.le_of_ble_eq_true rfl) ?_
                              refine V_aload_n hC dX4_act_293 rfl ?_
                              refine mg_levels hC dX4_act_294 ?_
                              refine V_bipush (v := 12) hC dX4_act_297 (by decide) ?_
                              refine V_aload_n hC dX4_act_299 rfl ?_
                              refine mg_scores hC dX4_act_300 ?_
                              rw [hr.1]
                              refine V_imul hC dX4_act_303 ?_
                              refine V_iload hC dX4_act_304 rfl ?_
                              refine V_iadd hC dX4_act_306 ?_
                              refine V_lload hC dX4_act_307 rfl ?_
                              refine ms_levels hC (12 * σ.sc.length + k) (g12 _ k) (by omega) dX4_act_309 ?_
                              refine V_iinc (v := nI (k + 1)) hC dX4_act_310 rfl (gI_inc k) (Nat.le_of_ble_eq_true rfl) ?_
                              refine V_goto (tgt := 145) hC dX4_act_313 (by decide) ?_
                              have hv : wadH (wadH 0 0 (Q 0 (12 * i + k)) 1) (wadL 0 (Q 0 (12 * i + k)) 1) (Q 0 (12 * j + k)) 1 <<< ((32 : Int32).toInt64 &&& 63) + wadL (wadL 0 (Q 0 (12 * i + k)) 1) (Q 0 (12 * j + k)) 1 = joinV o b (Q 0 (12 * i + k)) (Q 0 (12 * j + k)) := by
                                rw [wnum hfit, hW.2]
                                unfold joinV
                                rw [if_pos c264]
                                congr 1
                                rw [show (1 : Int64).toInt = 1 by decide]; omega
                              have hok : joinOk o (Q 0 (12 * i + k)) (Q 0 (12 * j + k)) := ⟨fun _ => hz, fun q => absurd (c264.symm.trans q) (by decide)⟩
                              refine V.eqM (mkM_Q ?_) (V.loc [some (.ref a), some (.int o), some (.int (nI i)), some (.int (nI j)), some (.int (refu σ i j)), some (.int (cmpL s.2.2 t.2.2)), some (.int (gB b)), some (.int (nI (k + 1)))] ⟨rfl, rfl, rfl, rfl, rfl, rfl, rfl, rfl, trivial⟩ (ih (k + 1) b _ (by omega) (by omega) hb2 hb3 (fun z u v hz9 hu hv9 => ?_)))
                              · refine (gUU _ 0 _ _).trans (congrArg (va_up (layQ Q σ.sc.length) 0) ((congrArg (va_up _ (12 * σ.sc.length + k)) (hv.trans (by rw [Nat.zero_add]))).trans (gCpy_s _ _ (fun z => joinV o b (Q 0 (12 * i + z)) (Q 0 (12 * j + z))) 0 k)))
                              · rcases (show z < k ∨ z = k by omega) with q | q
                                · exact h5 z u v q hu hv9
                                · subst q
                                  rw [← p4 z u hu, ← r4 z v hv9]
                                  exact hok
                            · refine V_bipush (v := (-16)) hC dX4_act_284 (by decide) ?_
                              exact V_iret hC dX4_act_286 (Nat.le_of_ble_eq_true rfl) (Nat.le_of_ble_eq_true rfl) (by
                                    have hno : ¬ zfit ((Q 0 (12 * i + k)).toInt + (Q 0 (12 * j + k)).toInt) := fun q => by
                                      have e : gIn _ (-2147483648) 2147483647 = true := (wfit hW.1).mpr (by rw [hW.2, show (1 : Int64).toInt = 1 by decide]; unfold zfit at q ⊢; omega)
                                      have c281' := c281
                                      exact absurd (c281'.symm.trans e) (by decide)
                                    have hki : k < s.2.2.length := h4
                                    have hkj : k < t.2.2.length := by omega
                                    have e1 := List.getElem?_eq_getElem hki
                                    have e2 := List.getElem?_eq_getElem hkj
                                    rw [p4 k _ e1, r4 k _ e2] at hno
                                    refine ⟨?_, I, _, _, _, rfl, ?_⟩
                                    · show _ = Sum.inl (some (Value.int (o_act σ o (nI i) (nI j)).1))
                                      unfold o_act
                                      rw [ei, ej, hs, ht]
                                      simp only [hix, hlk, if_true]
                                      rw [if_neg (by decide), if_neg (by omega), joinL_no e1 e2 (Or.inl ⟨c264, hno⟩)]
                                    · have e3 : (o_act σ o (nI i) (nI j)).2 = σ := by
                                        unfold o_act
                                        rw [ei, ej, hs, ht]
                                        simp only [hix, hlk, if_true]
                                        rw [if_neg (by decide), if_neg (by omega), joinL_no e1 e2 (Or.inl ⟨c264, hno⟩)]
                                      rw [e3]
                                      exact hr.junk (fun j i hj hi => layP_lt hj hi) (fun j h1 _ => layP_gt h1) (fun z hz => by rw [va_up_self, gCpy_out _ (by omega), layQ_lt hz]) ⟨rfl, rfl⟩ hw)
                      · refine V_lload hC dX4_act_235 rfl ?_
                        refine V_goto (tgt := 242) hC dX4_act_237 (by decide) ?_
                        refine V_lstore hC dX4_act_242 (Nat.le_of_ble_eq_true rfl) ?_
                        refine V_iload_n hC dX4_act_244 rfl ?_
                        refine V_iconst (v := 2) hC dX4_act_245 (by decide) ?_
                        refine V_icmp_ge (tgt := 293) hC dX4_act_246 (by decide) (fun c246 => ?_) (fun c246 => ?_)
                        · refine V_aload_n hC dX4_act_293 rfl ?_
                          refine mg_levels hC dX4_act_294 ?_
                          refine V_bipush (v := 12) hC dX4_act_297 (by decide) ?_
                          refine V_aload_n hC dX4_act_299 rfl ?_
                          refine mg_scores hC dX4_act_300 ?_
                          rw [hr.1]
                          refine V_imul hC dX4_act_303 ?_
                          refine V_iload hC dX4_act_304 rfl ?_
                          refine V_iadd hC dX4_act_306 ?_
                          refine V_lload hC dX4_act_307 rfl ?_
                          refine ms_levels hC (12 * σ.sc.length + k) (g12 _ k) (by omega) dX4_act_309 ?_
                          refine V_iinc (v := nI (k + 1)) hC dX4_act_310 rfl (gI_inc k) (Nat.le_of_ble_eq_true rfl) ?_
                          refine V_goto (tgt := 145) hC dX4_act_313 (by decide) ?_
                          have hv : Q 0 (12 * i + k) = joinV o b (Q 0 (12 * i + k)) (Q 0 (12 * j + k)) := by
                            unfold joinV
                            rw [if_neg (fun q => by rw [q] at c246; exact absurd c246 (by decide)), if_neg (fun q => by rw [q] at c246; exact absurd c246 (by decide)), if_neg c186, if_neg c209, c232]
                            rw [if_pos rfl]
                          have hok : joinOk o (Q 0 (12 * i + k)) (Q 0 (12 * j + k)) := ⟨fun q => absurd c246 (by rw [q]; decide), fun q => absurd c246 (by rw [q]; decide)⟩
                          refine V.eqM (mkM_Q ?_) (V.loc [some (.ref a), some (.int o), some (.int (nI i)), some (.int (nI j)), some (.int (refu σ i j)), some (.int (cmpL s.2.2 t.2.2)), some (.int (gB b)), some (.int (nI (k + 1)))] ⟨rfl, rfl, rfl, rfl, rfl, rfl, rfl, rfl, trivial⟩ (ih (k + 1) b _ (by omega) (by omega) hb2 hb3 (fun z u v hz9 hu hv9 => ?_)))
                          · refine (gUU _ 0 _ _).trans (congrArg (va_up (layQ Q σ.sc.length) 0) ((congrArg (va_up _ (12 * σ.sc.length + k)) (hv.trans (by rw [Nat.zero_add]))).trans (gCpy_s _ _ (fun z => joinV o b (Q 0 (12 * i + z)) (Q 0 (12 * j + z))) 0 k)))
                          · rcases (show z < k ∨ z = k by omega) with q | q
                            · exact h5 z u v q hu hv9
                            · subst q
                              rw [← p4 z u hu, ← r4 z v hv9]
                              exact hok
                        · refine V_aload_n hC dX4_act_249 rfl ?_
                          refine mc0n hC m_zero rfl mw_zero ⟨⟨(Nat.le_of_ble_eq_true rfl), (Nat.le_of_ble_eq_true rfl)⟩, rfl, rfl⟩ ⟨(Nat.le_of_ble_eq_true rfl), (Nat.le_of_ble_eq_true rfl)⟩ (Nat.le_of_ble_eq_true rfl) dX4_act_250 ?_
                          refine V_aload_n hC dX4_act_253 rfl ?_
                          refine V_lload hC dX4_act_254 rfl ?_
                          refine V_lconst (v := 1) hC dX4_act_256 (by decide) ?_
                          refine mc2n hC m_add rfl mw_add ⟨⟨(Nat.le_of_ble_eq_true rfl), (Nat.le_of_ble_eq_true rfl)⟩, rfl, rfl⟩ ⟨(Nat.le_of_ble_eq_true rfl), (Nat.le_of_ble_eq_true rfl)⟩ (Nat.le_of_ble_eq_true rfl) dX4_act_257 ?_
                          refine V_aload_n hC dX4_act_260 rfl ?_
                          refine V_lload hC dX4_act_261 rfl ?_
                          refine V_iload_n hC dX4_act_263 rfl ?_
                          refine V_if_ne (tgt := 271) hC dX4_act_264 (by decide) (fun c264 => ?_) (fun c264 => ?_)
                          · refine V_ldc2 hC dX4_act_271 q984 ?_
                            refine mc2n hC m_add rfl mw_add ⟨⟨(Nat.le_of_ble_eq_true rfl), (Nat.le_of_ble_eq_true rfl)⟩, rfl, rfl⟩ ⟨(Nat.le_of_ble_eq_true rfl), (Nat.le_of_ble_eq_true rfl)⟩ (Nat.le_of_ble_eq_true rfl) dX4_act_274 ?_
                            have hone : o = 1 := by
                              obtain ⟨τ, hτ, rfl⟩ := gIx_of hix (by decide)
                              have h2 : ¬ 2 ≤ τ := fun q => c246 (nI_le q (by omega))
                              have h3 : ¬ τ = 0 := fun q => c264 (by rw [q]; rfl)
                              rw [show τ = 1 by omega]
                              rfl
                            have hW := wad2 (Q 0 (12 * i + k)) (Q 0 (12 * j + k)) (-1) (Or.inr rfl)
                            refine V_aload_n hC dX4_act_277 rfl ?_
                            refine mc0v hC m_fits rfl mw_fits ⟨⟨(Nat.le_of_ble_eq_true rfl), (Nat.le_of_ble_eq_true rfl)⟩, rfl, rfl⟩ ⟨(Nat.le_of_ble_eq_true rfl), (Nat.le_of_ble_eq_true rfl)⟩ (Nat.le_of_ble_eq_true rfl) dX4_act_278 ?_
                            refine V_ifb_ne (tgt := 287) hC dX4_act_281 (by decide) (fun c281 => ?_) (fun c281 => ?_)
                            · have hfit := (wfit hW.1).mp c281
                              have hz : zfit ((Q 0 (12 * i + k)).toInt - (Q 0 (12 * j + k)).toInt) := by
                                have e := hfit
                                rw [hW.2, show (-1 : Int64).toInt = -1 by decide] at e
                                unfold zfit at e ⊢
                                omega
                              refine V_aload_n hC dX4_act_287 rfl ?_
                              refine mc0v hC m_number rfl mw_number ⟨⟨(Nat.le_of_ble_eq_true rfl), (Nat.le_of_ble_eq_true rfl)⟩, rfl, rfl⟩ ⟨(Nat.le_of_ble_eq_true rfl), (Nat.le_of_ble_eq_true rfl)⟩ (Nat.le_of_ble_eq_true rfl) dX4_act_288 ?_
                              refine V_lstore hC dX4_act_291 (Nat.le_of_ble_eq_true rfl) ?_
                              refine V_aload_n hC dX4_act_293 rfl ?_
                              refine mg_levels hC dX4_act_294 ?_
                              refine V_bipush (v := 12) hC dX4_act_297 (by decide) ?_
                              refine V_aload_n hC dX4_act_299 rfl ?_
                              refine mg_scores hC dX4_act_300 ?_
                              rw [hr.1]
                              refine V_imul hC dX4_act_303 ?_
                              refine V_iload hC dX4_act_304 rfl ?_
                              refine V_iadd hC dX4_act_306 ?_
                              refine V_lload hC dX4_act_307 rfl ?_
                              refine ms_levels hC (12 * σ.sc.length + k) (g12 _ k) (by omega) dX4_act_309 ?_
                              refine V_iinc (v := nI (k + 1)) hC dX4_act_310 rfl (gI_inc k) (Nat.le_of_ble_eq_true rfl) ?_
                              refine V_goto (tgt := 145) hC dX4_act_313 (by decide) ?_
                              have hv : wadH (wadH 0 0 (Q 0 (12 * i + k)) 1) (wadL 0 (Q 0 (12 * i + k)) 1) (Q 0 (12 * j + k)) (-1) <<< ((32 : Int32).toInt64 &&& 63) + wadL (wadL 0 (Q 0 (12 * i + k)) 1) (Q 0 (12 * j + k)) (-1) = joinV o b (Q 0 (12 * i + k)) (Q 0 (12 * j + k)) := by
                                rw [wnum hfit, hW.2]
                                unfold joinV
                                rw [if_neg (by rw [hone]; decide), if_pos hone]
                                congr 1
                                rw [show (-1 : Int64).toInt = -1 by decide]; omega
                              have hok : joinOk o (Q 0 (12 * i + k)) (Q 0 (12 * j + k)) := ⟨fun q => absurd (hone.symm.trans q) (by decide), fun _ => hz⟩
                              refine V.eqM (mkM_Q ?_) (V.loc [some (.ref a), some (.int o), some (.int (nI i)), some (.int (nI j)), some (.int (refu σ i j)), some (.int (cmpL s.2.2 t.2.2)), some (.int (gB b)), some (.int (nI (k + 1)))] ⟨rfl, rfl, rfl, rfl, rfl, rfl, rfl, rfl, trivial⟩ (ih (k + 1) b _ (by omega) (by omega) hb2 hb3 (fun z u v hz9 hu hv9 => ?_)))
                              · refine (gUU _ 0 _ _).trans (congrArg (va_up (layQ Q σ.sc.length) 0) ((congrArg (va_up _ (12 * σ.sc.length + k)) (hv.trans (by rw [Nat.zero_add]))).trans (gCpy_s _ _ (fun z => joinV o b (Q 0 (12 * i + z)) (Q 0 (12 * j + z))) 0 k)))
                              · rcases (show z < k ∨ z = k by omega) with q | q
                                · exact h5 z u v q hu hv9
                                · subst q
                                  rw [← p4 z u hu, ← r4 z v hv9]
                                  exact hok
                            · refine V_bipush (v := (-16)) hC dX4_act_284 (by decide) ?_
                              exact V_iret hC dX4_act_286 (Nat.le_of_ble_eq_true rfl) (Nat.le_of_ble_eq_true rfl) (by
                                    have hno : ¬ zfit ((Q 0 (12 * i + k)).toInt - (Q 0 (12 * j + k)).toInt) := fun q => by
                                      have e : gIn _ (-2147483648) 2147483647 = true := (wfit hW.1).mpr (by rw [hW.2, show (-1 : Int64).toInt = -1 by decide]; unfold zfit at q ⊢; omega)
                                      have c281' := c281
                                      exact absurd (c281'.symm.trans e) (by decide)
                                    have hki : k < s.2.2.length := h4
                                    have hkj : k < t.2.2.length := by omega
                                    have e1 := List.getElem?_eq_getElem hki
                                    have e2 := List.getElem?_eq_getElem hkj
                                    rw [p4 k _ e1, r4 k _ e2] at hno
                                    refine ⟨?_, I, _, _, _, rfl, ?_⟩
                                    · show _ = Sum.inl (some (Value.int (o_act σ o (nI i) (nI j)).1))
                                      unfold o_act
                                      rw [ei, ej, hs, ht]
                                      simp only [hix, hlk, if_true]
                                      rw [if_neg (by decide), if_neg (by omega), joinL_no e1 e2 (Or.inr ⟨hone, hno⟩)]
                                    · have e3 : (o_act σ o (nI i) (nI j)).2 = σ := by
                                        unfold o_act
                                        rw [ei, ej, hs, ht]
                                        simp only [hix, hlk, if_true]
                                        rw [if_neg (by decide), if_neg (by omega), joinL_no e1 e2 (Or.inr ⟨hone, hno⟩)]
                                      rw [e3]
                                      exact hr.junk (fun j i hj hi => layP_lt hj hi) (fun j h1 _ => layP_gt h1) (fun z hz => by rw [va_up_self, gCpy_out _ (by omega), layQ_lt hz]) ⟨rfl, rfl⟩ hw)
                          · refine V_lconst (v := 1) hC dX4_act_267 (by decide) ?_
                            refine V_goto (tgt := 274) hC dX4_act_268 (by decide) ?_
                            refine mc2n hC m_add rfl mw_add ⟨⟨(Nat.le_of_ble_eq_true rfl), (Nat.le_of_ble_eq_true rfl)⟩, rfl, rfl⟩ ⟨(Nat.le_of_ble_eq_true rfl), (Nat.le_of_ble_eq_true rfl)⟩ (Nat.le_of_ble_eq_true rfl) dX4_act_274 ?_
                            have hW := wad2 (Q 0 (12 * i + k)) (Q 0 (12 * j + k)) 1 (Or.inl rfl)
                            refine V_aload_n hC dX4_act_277 rfl ?_
                            refine mc0v hC m_fits rfl mw_fits ⟨⟨(Nat.le_of_ble_eq_true rfl), (Nat.le_of_ble_eq_true rfl)⟩, rfl, rfl⟩ ⟨(Nat.le_of_ble_eq_true rfl), (Nat.le_of_ble_eq_true rfl)⟩ (Nat.le_of_ble_eq_true rfl) dX4_act_278 ?_
                            refine V_ifb_ne (tgt := 287) hC dX4_act_281 (by decide) (fun c281 => ?_) (fun c281 => ?_)
                            · have hfit := (wfit hW.1).mp c281
                              have hz : zfit ((Q 0 (12 * i + k)).toInt + (Q 0 (12 * j + k)).toInt) := by
                                have e := hfit
                                rw [hW.2, show (1 : Int64).toInt = 1 by decide] at e
                                unfold zfit at e ⊢
                                omega
                              refine V_aload_n hC dX4_act_287 rfl ?_
                              refine mc0v hC m_number rfl mw_number ⟨⟨(Nat.le_of_ble_eq_true rfl), (Nat.le_of_ble_eq_true rfl)⟩, rfl, rfl⟩ ⟨(Nat.le_of_ble_eq_true rfl), (Nat.le_of_ble_eq_true rfl)⟩ (Nat.le_of_ble_eq_true rfl) dX4_act_288 ?_
                              refine V_lstore hC dX4_act_291 (Nat.le_of_ble_eq_true rfl) ?_
                              refine V_aload_n hC dX4_act_293 rfl ?_
                              refine mg_levels hC dX4_act_294 ?_
                              refine V_bipush (v := 12) hC dX4_act_297 (by decide) ?_
                              refine V_aload_n hC dX4_act_299 rfl ?_
                              refine mg_scores hC dX4_act_300 ?_
                              rw [hr.1]
                              refine V_imul hC dX4_act_303 ?_
                              refine V_iload hC dX4_act_304 rfl ?_
                              refine V_iadd hC dX4_act_306 ?_
                              refine V_lload hC dX4_act_307 rfl ?_
                              refine ms_levels hC (12 * σ.sc.length + k) (g12 _ k) (by omega) dX4_act_309 ?_
                              refine V_iinc (v := nI (k + 1)) hC dX4_act_310 rfl (gI_inc k) (Nat.le_of_ble_eq_true rfl) ?_
                              refine V_goto (tgt := 145) hC dX4_act_313 (by decide) ?_
                              have hv : wadH (wadH 0 0 (Q 0 (12 * i + k)) 1) (wadL 0 (Q 0 (12 * i + k)) 1) (Q 0 (12 * j + k)) 1 <<< ((32 : Int32).toInt64 &&& 63) + wadL (wadL 0 (Q 0 (12 * i + k)) 1) (Q 0 (12 * j + k)) 1 = joinV o b (Q 0 (12 * i + k)) (Q 0 (12 * j + k)) := by
                                rw [wnum hfit, hW.2]
                                unfold joinV
                                rw [if_pos c264]
                                congr 1
                                rw [show (1 : Int64).toInt = 1 by decide]; omega
                              have hok : joinOk o (Q 0 (12 * i + k)) (Q 0 (12 * j + k)) := ⟨fun _ => hz, fun q => absurd (c264.symm.trans q) (by decide)⟩
                              refine V.eqM (mkM_Q ?_) (V.loc [some (.ref a), some (.int o), some (.int (nI i)), some (.int (nI j)), some (.int (refu σ i j)), some (.int (cmpL s.2.2 t.2.2)), some (.int (gB b)), some (.int (nI (k + 1)))] ⟨rfl, rfl, rfl, rfl, rfl, rfl, rfl, rfl, trivial⟩ (ih (k + 1) b _ (by omega) (by omega) hb2 hb3 (fun z u v hz9 hu hv9 => ?_)))
                              · refine (gUU _ 0 _ _).trans (congrArg (va_up (layQ Q σ.sc.length) 0) ((congrArg (va_up _ (12 * σ.sc.length + k)) (hv.trans (by rw [Nat.zero_add]))).trans (gCpy_s _ _ (fun z => joinV o b (Q 0 (12 * i + z)) (Q 0 (12 * j + z))) 0 k)))
                              · rcases (show z < k ∨ z = k by omega) with q | q
                                · exact h5 z u v q hu hv9
                                · subst q
                                  rw [← p4 z u hu, ← r4 z v hv9]
                                  exact hok
                            · refine V_bipush (v := (-16)) hC dX4_act_284 (by decide) ?_
                              exact V_iret hC dX4_act_286 (Nat.le_of_ble_eq_true rfl) (Nat.le_of_ble_eq_true rfl) (by
                                    have hno : ¬ zfit ((Q 0 (12 * i + k)).toInt + (Q 0 (12 * j + k)).toInt) := fun q => by
                                      have e : gIn _ (-2147483648) 2147483647 = true := (wfit hW.1).mpr (by rw [hW.2, show (1 : Int64).toInt = 1 by decide]; unfold zfit at q ⊢; omega)
                                      have c281' := c281
                                      exact absurd (c281'.symm.trans e) (by decide)
                                    have hki : k < s.2.2.length := h4
                                    have hkj : k < t.2.2.length := by omega
                                    have e1 := List.getElem?_eq_getElem hki
                                    have e2 := List.getElem?_eq_getElem hkj
                                    rw [p4 k _ e1, r4 k _ e2] at hno
                                    refine ⟨?_, I, _, _, _, rfl, ?_⟩
                                    · show _ = Sum.inl (some (Value.int (o_act σ o (nI i) (nI j)).1))
                                      unfold o_act
                                      rw [ei, ej, hs, ht]
                                      simp only [hix, hlk, if_true]
                                      rw [if_neg (by decide), if_neg (by omega), joinL_no e1 e2 (Or.inl ⟨c264, hno⟩)]
                                    · have e3 : (o_act σ o (nI i) (nI j)).2 = σ := by
                                        unfold o_act
                                        rw [ei, ej, hs, ht]
                                        simp only [hix, hlk, if_true]
                                        rw [if_neg (by decide), if_neg (by omega), joinL_no e1 e2 (Or.inl ⟨c264, hno⟩)]
                                      rw [e3]
                                      exact hr.junk (fun j i hj hi => layP_lt hj hi) (fun j h1 _ => layP_gt h1) (fun z hz => by rw [va_up_self, gCpy_out _ (by omega), layQ_lt hz]) ⟨rfl, rfl⟩ hw)
                    · refine V_lload hC dX4_act_212 rfl ?_
                      refine V_lload hC dX4_act_214 rfl ?_
                      refine V_lc_ge (tgt := 225) hC dX4_act_216 rfl dX4_act_217 (by decide) (fun c217 => ?_) (fun c217 => ?_)
                      · refine V_lload hC dX4_act_225 rfl ?_
                        refine V_goto (tgt := 242) hC dX4_act_227 (by decide) ?_
                        refine V_lstore hC dX4_act_242 (Nat.le_of_ble_eq_true rfl) ?_
                        refine V_iload_n hC dX4_act_244 rfl ?_
                        refine V_iconst (v := 2) hC dX4_act_245 (by decide) ?_
                        refine V_icmp_ge (tgt := 293) hC dX4_act_246 (by decide) (fun c246 => ?_) (fun c246 => ?_)
                        · refine V_aload_n hC dX4_act_293 rfl ?_
                          refine mg_levels hC dX4_act_294 ?_
                          refine V_bipush (v := 12) hC dX4_act_297 (by decide) ?_
                          refine V_aload_n hC dX4_act_299 rfl ?_
                          refine mg_scores hC dX4_act_300 ?_
                          rw [hr.1]
                          refine V_imul hC dX4_act_303 ?_
                          refine V_iload hC dX4_act_304 rfl ?_
                          refine V_iadd hC dX4_act_306 ?_
                          refine V_lload hC dX4_act_307 rfl ?_
                          refine ms_levels hC (12 * σ.sc.length + k) (g12 _ k) (by omega) dX4_act_309 ?_
                          refine V_iinc (v := nI (k + 1)) hC dX4_act_310 rfl (gI_inc k) (Nat.le_of_ble_eq_true rfl) ?_
                          refine V_goto (tgt := 145) hC dX4_act_313 (by decide) ?_
                          have hv : Q 0 (12 * j + k) = joinV o b (Q 0 (12 * i + k)) (Q 0 (12 * j + k)) := by
                            unfold joinV
                            rw [if_neg (by rw [c209]; decide), if_neg (by rw [c209]; decide), if_neg (by rw [c209]; decide), if_pos c209]
                            rw [if_neg (by rw [Int64.le_iff_toInt_le] at c217; rw [Int64.lt_iff_toInt_lt]; omega)]
                          have hok : joinOk o (Q 0 (12 * i + k)) (Q 0 (12 * j + k)) := ⟨fun q => absurd (c209.symm.trans q) (by decide), fun q => absurd (c209.symm.trans q) (by decide)⟩
                          refine V.eqM (mkM_Q ?_) (V.loc [some (.ref a), some (.int o), some (.int (nI i)), some (.int (nI j)), some (.int (refu σ i j)), some (.int (cmpL s.2.2 t.2.2)), some (.int (gB b)), some (.int (nI (k + 1)))] ⟨rfl, rfl, rfl, rfl, rfl, rfl, rfl, rfl, trivial⟩ (ih (k + 1) b _ (by omega) (by omega) hb2 hb3 (fun z u v hz9 hu hv9 => ?_)))
                          · refine (gUU _ 0 _ _).trans (congrArg (va_up (layQ Q σ.sc.length) 0) ((congrArg (va_up _ (12 * σ.sc.length + k)) (hv.trans (by rw [Nat.zero_add]))).trans (gCpy_s _ _ (fun z => joinV o b (Q 0 (12 * i + z)) (Q 0 (12 * j + z))) 0 k)))
                          · rcases (show z < k ∨ z = k by omega) with q | q
                            · exact h5 z u v q hu hv9
                            · subst q
                              rw [← p4 z u hu, ← r4 z v hv9]
                              exact hok
                        · exact absurd (show (2 : Int32) ≤ o by rw [c209]; decide) c246
                      · refine V_lload hC dX4_act_220 rfl ?_
                        refine V_goto (tgt := 242) hC dX4_act_222 (by decide) ?_
                        refine V_lstore hC dX4_act_242 (Nat.le_of_ble_eq_true rfl) ?_
                        refine V_iload_n hC dX4_act_244 rfl ?_
                        refine V_iconst (v := 2) hC dX4_act_245 (by decide) ?_
                        refine V_icmp_ge (tgt := 293) hC dX4_act_246 (by decide) (fun c246 => ?_) (fun c246 => ?_)
                        · refine V_aload_n hC dX4_act_293 rfl ?_
                          refine mg_levels hC dX4_act_294 ?_
                          refine V_bipush (v := 12) hC dX4_act_297 (by decide) ?_
                          refine V_aload_n hC dX4_act_299 rfl ?_
                          refine mg_scores hC dX4_act_300 ?_
                          rw [hr.1]
                          refine V_imul hC dX4_act_303 ?_
                          refine V_iload hC dX4_act_304 rfl ?_
                          refine V_iadd hC dX4_act_306 ?_
                          refine V_lload hC dX4_act_307 rfl ?_
                          refine ms_levels hC (12 * σ.sc.length + k) (g12 _ k) (by omega) dX4_act_309 ?_
                          refine V_iinc (v := nI (k + 1)) hC dX4_act_310 rfl (gI_inc k) (Nat.le_of_ble_eq_true rfl) ?_
                          refine V_goto (tgt := 145) hC dX4_act_313 (by decide) ?_
                          have hv : Q 0 (12 * i + k) = joinV o b (Q 0 (12 * i + k)) (Q 0 (12 * j + k)) := by
                            unfold joinV
                            rw [if_neg (by rw [c209]; decide), if_neg (by rw [c209]; decide), if_neg (by rw [c209]; decide), if_pos c209]
                            rw [if_pos (by rw [Int64.le_iff_toInt_le] at c217; rw [Int64.lt_iff_toInt_lt]; omega)]
                          have hok : joinOk o (Q 0 (12 * i + k)) (Q 0 (12 * j + k)) := ⟨fun q => absurd (c209.symm.trans q) (by decide), fun q => absurd (c209.symm.trans q) (by decide)⟩
                          refine V.eqM (mkM_Q ?_) (V.loc [some (.ref a), some (.int o), some (.int (nI i)), some (.int (nI j)), some (.int (refu σ i j)), some (.int (cmpL s.2.2 t.2.2)), some (.int (gB b)), some (.int (nI (k + 1)))] ⟨rfl, rfl, rfl, rfl, rfl, rfl, rfl, rfl, trivial⟩ (ih (k + 1) b _ (by omega) (by omega) hb2 hb3 (fun z u v hz9 hu hv9 => ?_)))
                          · refine (gUU _ 0 _ _).trans (congrArg (va_up (layQ Q σ.sc.length) 0) ((congrArg (va_up _ (12 * σ.sc.length + k)) (hv.trans (by rw [Nat.zero_add]))).trans (gCpy_s _ _ (fun z => joinV o b (Q 0 (12 * i + z)) (Q 0 (12 * j + z))) 0 k)))
                          · rcases (show z < k ∨ z = k by omega) with q | q
                            · exact h5 z u v q hu hv9
                            · subst q
                              rw [← p4 z u hu, ← r4 z v hv9]
                              exact hok
                        · exact absurd (show (2 : Int32) ≤ o by rw [c209]; decide) c246
                  · refine V_lload hC dX4_act_189 rfl ?_
                    refine V_lload hC dX4_act_191 rfl ?_
                    refine V_lc_le (tgt := 202) hC dX4_act_193 rfl dX4_act_194 (by decide) (fun c194 => ?_) (fun c194 => ?_)
                    · refine V_lload hC dX4_act_202 rfl ?_
                      refine V_goto (tgt := 242) hC dX4_act_204 (by decide) ?_
                      refine V_lstore hC dX4_act_242 (Nat.le_of_ble_eq_true rfl) ?_
                      refine V_iload_n hC dX4_act_244 rfl ?_
                      refine V_iconst (v := 2) hC dX4_act_245 (by decide) ?_
                      refine V_icmp_ge (tgt := 293) hC dX4_act_246 (by decide) (fun c246 => ?_) (fun c246 => ?_)
                      · refine V_aload_n hC dX4_act_293 rfl ?_
                        refine mg_levels hC dX4_act_294 ?_
                        refine V_bipush (v := 12) hC dX4_act_297 (by decide) ?_
                        refine V_aload_n hC dX4_act_299 rfl ?_
                        refine mg_scores hC dX4_act_300 ?_
                        rw [hr.1]
                        refine V_imul hC dX4_act_303 ?_
                        refine V_iload hC dX4_act_304 rfl ?_
                        refine V_iadd hC dX4_act_306 ?_
                        refine V_lload hC dX4_act_307 rfl ?_
                        refine ms_levels hC (12 * σ.sc.length + k) (g12 _ k) (by omega) dX4_act_309 ?_
                        refine V_iinc (v := nI (k + 1)) hC dX4_act_310 rfl (gI_inc k) (Nat.le_of_ble_eq_true rfl) ?_
                        refine V_goto (tgt := 145) hC dX4_act_313 (by decide) ?_
                        have hv : Q 0 (12 * j + k) = joinV o b (Q 0 (12 * i + k)) (Q 0 (12 * j + k)) := by
                          unfold joinV
                          rw [if_neg (by rw [c186]; decide), if_neg (by rw [c186]; decide), if_pos c186]
                          rw [if_neg (by rw [Int64.le_iff_toInt_le] at c194; rw [Int64.lt_iff_toInt_lt]; omega)]
                        have hok : joinOk o (Q 0 (12 * i + k)) (Q 0 (12 * j + k)) := ⟨fun q => absurd (c186.symm.trans q) (by decide), fun q => absurd (c186.symm.trans q) (by decide)⟩
                        refine V.eqM (mkM_Q ?_) (V.loc [some (.ref a), some (.int o), some (.int (nI i)), some (.int (nI j)), some (.int (refu σ i j)), some (.int (cmpL s.2.2 t.2.2)), some (.int (gB b)), some (.int (nI (k + 1)))] ⟨rfl, rfl, rfl, rfl, rfl, rfl, rfl, rfl, trivial⟩ (ih (k + 1) b _ (by omega) (by omega) hb2 hb3 (fun z u v hz9 hu hv9 => ?_)))
                        · refine (gUU _ 0 _ _).trans (congrArg (va_up (layQ Q σ.sc.length) 0) ((congrArg (va_up _ (12 * σ.sc.length + k)) (hv.trans (by rw [Nat.zero_add]))).trans (gCpy_s _ _ (fun z => joinV o b (Q 0 (12 * i + z)) (Q 0 (12 * j + z))) 0 k)))
                        · rcases (show z < k ∨ z = k by omega) with q | q
                          · exact h5 z u v q hu hv9
                          · subst q
                            rw [← p4 z u hu, ← r4 z v hv9]
                            exact hok
                      · exact absurd (show (2 : Int32) ≤ o by rw [c186]; decide) c246
                    · refine V_lload hC dX4_act_197 rfl ?_
                      refine V_goto (tgt := 242) hC dX4_act_199 (by decide) ?_
                      refine V_lstore hC dX4_act_242 (Nat.le_of_ble_eq_true rfl) ?_
                      refine V_iload_n hC dX4_act_244 rfl ?_
                      refine V_iconst (v := 2) hC dX4_act_245 (by decide) ?_
                      refine V_icmp_ge (tgt := 293) hC dX4_act_246 (by decide) (fun c246 => ?_) (fun c246 => ?_)
                      · refine V_aload_n hC dX4_act_293 rfl ?_
                        refine mg_levels hC dX4_act_294 ?_
                        refine V_bipush (v := 12) hC dX4_act_297 (by decide) ?_
                        refine V_aload_n hC dX4_act_299 rfl ?_
                        refine mg_scores hC dX4_act_300 ?_
                        rw [hr.1]
                        refine V_imul hC dX4_act_303 ?_
                        refine V_iload hC dX4_act_304 rfl ?_
                        refine V_iadd hC dX4_act_306 ?_
                        refine V_lload hC dX4_act_307 rfl ?_
                        refine ms_levels hC (12 * σ.sc.length + k) (g12 _ k) (by omega) dX4_act_309 ?_
                        refine V_iinc (v := nI (k + 1)) hC dX4_act_310 rfl (gI_inc k) (Nat.le_of_ble_eq_true rfl) ?_
                        refine V_goto (tgt := 145) hC dX4_act_313 (by decide) ?_
                        have hv : Q 0 (12 * i + k) = joinV o b (Q 0 (12 * i + k)) (Q 0 (12 * j + k)) := by
                          unfold joinV
                          rw [if_neg (by rw [c186]; decide), if_neg (by rw [c186]; decide), if_pos c186]
                          rw [if_pos (by rw [Int64.le_iff_toInt_le] at c194; rw [Int64.lt_iff_toInt_lt]; omega)]
                        have hok : joinOk o (Q 0 (12 * i + k)) (Q 0 (12 * j + k)) := ⟨fun q => absurd (c186.symm.trans q) (by decide), fun q => absurd (c186.symm.trans q) (by decide)⟩
                        refine V.eqM (mkM_Q ?_) (V.loc [some (.ref a), some (.int o), some (.int (nI i)), some (.int (nI j)), some (.int (refu σ i j)), some (.int (cmpL s.2.2 t.2.2)), some (.int (gB b)), some (.int (nI (k + 1)))] ⟨rfl, rfl, rfl, rfl, rfl, rfl, rfl, rfl, trivial⟩ (ih (k + 1) b _ (by omega) (by omega) hb2 hb3 (fun z u v hz9 hu hv9 => ?_)))
                        · refine (gUU _ 0 _ _).trans (congrArg (va_up (layQ Q σ.sc.length) 0) ((congrArg (va_up _ (12 * σ.sc.length + k)) (hv.trans (by rw [Nat.zero_add]))).trans (gCpy_s _ _ (fun z => joinV o b (Q 0 (12 * i + z)) (Q 0 (12 * j + z))) 0 k)))
                        · rcases (show z < k ∨ z = k by omega) with q | q
                          · exact h5 z u v q hu hv9
                          · subst q
                            rw [← p4 z u hu, ← r4 z v hv9]
                            exact hok
                      · exact absurd (show (2 : Int32) ≤ o by rw [c186]; decide) c246
            refine V_iload_n hC dX4_act_112 rfl ?_
            refine V_iconst (v := 2) hC dX4_act_113 (by decide) ?_
            refine V_icmp_ne (tgt := 130) hC dX4_act_114 (by decide) (fun c114 => ?_) (fun c114 => ?_)
            · refine V_iload hC dX4_act_130 rfl ?_
              refine V_if_gt (tgt := 139) hC dX4_act_132 (by decide) (fun c132 => ?_) (fun c132 => ?_)
              · refine V_iconst (v := 0) hC dX4_act_139 (by decide) ?_
                refine V_istore hC dX4_act_140 (Nat.le_of_ble_eq_true rfl) ?_
                refine V_iconst (v := 0) hC dX4_act_142 (by decide) ?_
                refine V_istore hC dX4_act_143 (Nat.le_of_ble_eq_true rfl) ?_
                refine V.eqM (congrArg (fun w => mkM G a I J (layP P σ.sc.length (P 0 i) (P 1 i) (P 2 i)) w M0) (show layQ Q σ.sc.length = va_up (layQ Q σ.sc.length) 0 (gCpy (layQ Q σ.sc.length 0) (12 * σ.sc.length) (fun z => joinV o false (Q 0 (12 * i + z)) (Q 0 (12 * j + z))) 0 0) by rw [gCpy_0, gup_self])) (V.loc [some (.ref a), some (.int o), some (.int (nI i)), some (.int (nI j)), some (.int (refu σ i j)), some (.int (cmpL s.2.2 t.2.2)), some (.int (gB false)), some (.int (nI 0))] ⟨rfl, rfl, rfl, rfl, rfl, rfl, rfl, rfl, trivial⟩ (loop (s.2.2.length + 1) 0 false J (by omega) (by omega) (fun q => absurd q c114) (fun _ => ⟨fun q => (by cases q), fun q => absurd c132 (by rw [Int32.le_iff_toInt_le] at q; rw [Int32.lt_iff_toInt_lt]; omega)⟩) (fun k u v hk _ _ => absurd hk (Nat.not_lt_zero k))))
              · refine V_iconst (v := 1) hC dX4_act_135 (by decide) ?_
                refine V_goto (tgt := 140) hC dX4_act_136 (by decide) ?_
                refine V_istore hC dX4_act_140 (Nat.le_of_ble_eq_true rfl) ?_
                refine V_iconst (v := 0) hC dX4_act_142 (by decide) ?_
                refine V_istore hC dX4_act_143 (Nat.le_of_ble_eq_true rfl) ?_
                refine V.eqM (congrArg (fun w => mkM G a I J (layP P σ.sc.length (P 0 i) (P 1 i) (P 2 i)) w M0) (show layQ Q σ.sc.length = va_up (layQ Q σ.sc.length) 0 (gCpy (layQ Q σ.sc.length 0) (12 * σ.sc.length) (fun z => joinV o true (Q 0 (12 * i + z)) (Q 0 (12 * j + z))) 0 0) by rw [gCpy_0, gup_self])) (V.loc [some (.ref a), some (.int o), some (.int (nI i)), some (.int (nI j)), some (.int (refu σ i j)), some (.int (cmpL s.2.2 t.2.2)), some (.int (gB true)), some (.int (nI 0))] ⟨rfl, rfl, rfl, rfl, rfl, rfl, rfl, rfl, trivial⟩ (loop (s.2.2.length + 1) 0 true J (by omega) (by omega) (fun q => absurd q c114) (fun _ => ⟨fun _ => by rw [Int32.lt_iff_toInt_lt] at c132; rw [Int32.le_iff_toInt_le]; omega, fun _ => rfl⟩) (fun k u v hk _ _ => absurd hk (Nat.not_lt_zero k))))
            · refine V_iload hC dX4_act_117 rfl ?_
              refine V_if_lt (tgt := 126) hC dX4_act_119 (by decide) (fun c119 => ?_) (fun c119 => ?_)
              · refine V_iconst (v := 0) hC dX4_act_126 (by decide) ?_
                refine V_goto (tgt := 140) hC dX4_act_127 (by decide) ?_
                refine V_istore hC dX4_act_140 (Nat.le_of_ble_eq_true rfl) ?_
                refine V_iconst (v := 0) hC dX4_act_142 (by decide) ?_
                refine V_istore hC dX4_act_143 (Nat.le_of_ble_eq_true rfl) ?_
                refine V.eqM (congrArg (fun w => mkM G a I J (layP P σ.sc.length (P 0 i) (P 1 i) (P 2 i)) w M0) (show layQ Q σ.sc.length = va_up (layQ Q σ.sc.length) 0 (gCpy (layQ Q σ.sc.length 0) (12 * σ.sc.length) (fun z => joinV o false (Q 0 (12 * i + z)) (Q 0 (12 * j + z))) 0 0) by rw [gCpy_0, gup_self])) (V.loc [some (.ref a), some (.int o), some (.int (nI i)), some (.int (nI j)), some (.int (refu σ i j)), some (.int (cmpL s.2.2 t.2.2)), some (.int (gB false)), some (.int (nI 0))] ⟨rfl, rfl, rfl, rfl, rfl, rfl, rfl, rfl, trivial⟩ (loop (s.2.2.length + 1) 0 false J (by omega) (by omega) (fun _ => ⟨fun q => (by cases q), fun q => absurd c119 (by rw [Int32.le_iff_toInt_le] at q; rw [Int32.lt_iff_toInt_lt]; omega)⟩) (fun q => absurd (c114.symm.trans q) (by decide)) (fun k u v hk _ _ => absurd hk (Nat.not_lt_zero k))))
              · refine V_iconst (v := 1) hC dX4_act_122 (by decide) ?_
                refine V_goto (tgt := 140) hC dX4_act_123 (by decide) ?_
                refine V_istore hC dX4_act_140 (Nat.le_of_ble_eq_true rfl) ?_
                refine V_iconst (v := 0) hC dX4_act_142 (by decide) ?_
                refine V_istore hC dX4_act_143 (Nat.le_of_ble_eq_true rfl) ?_
                refine V.eqM (congrArg (fun w => mkM G a I J (layP P σ.sc.length (P 0 i) (P 1 i) (P 2 i)) w M0) (show layQ Q σ.sc.length = va_up (layQ Q σ.sc.length) 0 (gCpy (layQ Q σ.sc.length 0) (12 * σ.sc.length) (fun z => joinV o true (Q 0 (12 * i + z)) (Q 0 (12 * j + z))) 0 0) by rw [gCpy_0, gup_self])) (V.loc [some (.ref a), some (.int o), some (.int (nI i)), some (.int (nI j)), some (.int (refu σ i j)), some (.int (cmpL s.2.2 t.2.2)), some (.int (gB true)), some (.int (nI 0))] ⟨rfl, rfl, rfl, rfl, rfl, rfl, rfl, rfl, trivial⟩ (loop (s.2.2.length + 1) 0 true J (by omega) (by omega) (fun _ => ⟨fun _ => by rw [Int32.lt_iff_toInt_lt] at c119; rw [Int32.le_iff_toInt_le]; omega, fun _ => rfl⟩) (fun q => absurd (c114.symm.trans q) (by decide)) (fun k u v hk _ _ => absurd hk (Nat.not_lt_zero k))))
          · refine V_iload hC dX4_act_59 rfl ?_
            exact V_iret hC dX4_act_61 (Nat.le_of_ble_eq_true rfl) (Nat.le_of_ble_eq_true rfl) (RMp_i (act_ref ei ej (List.getElem?_eq_getElem hi) (List.getElem?_eq_getElem hj) hix (fun q => c40 ((n60 hw).mpr q)) c56) hr)
        · refine V_bipush (v := (-4)) hC dX4_act_43 (by decide) ?_
          exact V_iret hC dX4_act_45 (Nat.le_of_ble_eq_true rfl) (Nat.le_of_ble_eq_true rfl) (RMp_i (by unfold o_act; rw [ei, ej, List.getElem?_eq_getElem hi, List.getElem?_eq_getElem hj]; simp only [hix]; rw [if_neg (by decide), if_pos ((n60 hw).mp c40)]) hr)
      · refine V_bipush (v := (-3)) hC dX4_act_31 (by decide) ?_
        exact V_iret hC dX4_act_33 (Nat.le_of_ble_eq_true rfl) (Nat.le_of_ble_eq_true rfl) (RMp_i (by unfold o_act; rw [ei, ej, List.getElem?_eq_getElem hi, List.getElem?_eq_getElem hj]; simp only [c28, if_true]) hr)
    · refine V_bipush (v := (-2)) hC dX4_act_16 (by decide) ?_
      exact V_iret hC dX4_act_18 (Nat.le_of_ble_eq_true rfl) (Nat.le_of_ble_eq_true rfl) (by first | exact RMp_i (act_unk (Or.inl (scAt_no c5))) hr | exact RMp_i (act_unk (Or.inr (scAt_no c13))) hr)
