/-! MODEL 18: bent, plain; the spec first -/
def bentE (r1 r2 : Option (List Int64)) (q : Nat × Bool) : Nat × Option Sc := (q.1, if q.2 = true then none else some (3, (r1.getD []).length, r1.getD [] ++ r2.getD []))
def bent2 (T : List Int32) (r1 r2 : Nat × Option (List Int64)) : Nat × Option Sc := bentE r1.2 r2.2 (wdS T wSoft (tkS T 93 (r2.1, r2.2.isNone || decide ((r1.2.getD []).length + (r2.2.getD []).length = 0))))
def bent1 (T : List Int32) (r1 : Nat × Option (List Int64)) : Nat × Option Sc := bent2 T r1 (rowS T (tkS T 91 (wdS T wHard (tkS T 93 (r1.1, r1.2.isNone)))))
def bentS (T : List Int32) (p : Nat) : Nat × Option Sc := bent1 T (rowS T (tkS T 91 (p, false)))
def plainE (sh h : Nat) (l : List Int64) (q : Nat × Bool) : Nat × Option Sc := (q.1, if q.2 = true then none else some (sh, h, l))
def plain3 (T : List Int32) (v1 v2 : Int64) (f : Nat × Option Int64) : Nat × Option Sc := plainE 2 1 [v1, v2, f.2.getD 0] (wdS T wSoft (f.1, f.2.isNone))
def plain2 (T : List Int32) (v1 : Int64) (f : Nat × Option Int64) : Nat × Option Sc := if f.2.isNone = false ∧ hr T f.1 = 109 then plain3 T v1 (f.2.getD 0) (fgS T (wdS T wMed (f.1, false))) else plainE 1 1 [v1, f.2.getD 0] (wdS T wSoft (f.1, f.2.isNone))
def plain1 (T : List Int32) (f : Nat × Option Int64) : Nat × Option Sc := if f.2.isNone = false ∧ f.1 < T.length then plain2 T (f.2.getD 0) (fgS T (wdS T wHard (f.1, false))) else plainE 0 0 [f.2.getD 0] (f.1, f.2.isNone)
def plainS (T : List Int32) (p : Nat) : Nat × Option Sc := plain1 T (fgS T (p, false))
def txS (T : List Int32) : Nat × Option Sc := if hr T 0 = 91 then bentS T 0 else plainS T 0
theorem tkS_f {T : List Int32} {c : Int32} {q : Nat × Bool} (h : (tkS T c q).2 = false) : q.2 = false := by
  cases h2 : q.2 with
  | false => rfl
  | true =>
    unfold tkS at h
    rw [if_pos h2, h2] at h
    exact h
theorem wdS_f {T : List Int32} : ∀ {cs : List Int32} {q : Nat × Bool}, (wdS T cs q).2 = false → q.2 = false
  | [], _, h => h
  | c :: cs, q, h => tkS_f (c := c) (wdS_f (cs := cs) (q := tkS T c q) h)
theorem fgS_f {T : List Int32} {q : Nat × Bool} (h : (fgS T q).2.isNone = false) : q.2 = false := by
  cases h2 : q.2 with
  | false => rfl
  | true =>
    unfold fgS at h
    rw [if_pos h2] at h
    exact h
theorem rowS_f {T : List Int32} {q : Nat × Bool} (h : (rowS T q).2.isNone = false) : q.2 = false := by
  cases h2 : q.2 with
  | false => rfl
  | true =>
    unfold rowS at h
    rw [if_pos h2] at h
    exact h
/-- a score has been read into the place behind the last one -/
def RSc (G : gG) (a : Nat) (I : Nat → Int32) (P : Nat → Nat → Int32) (Q : Nat → Nat → Int64) (M0 : gM) (n : Nat) (q : Nat × Option Sc) : gRes → gM → Prop := fun res M' => res = .inl none ∧ ∃ (J : Nat → Int64) (P' : Nat → Nat → Int32) (Q' : Nat → Nat → Int64), M' = mkM G a (iP I (nI q.1) (gB q.2.isNone)) J P' Q' M0 ∧ q.1 ≤ 300 ∧ (∀ j i, j ≤ 2 → i < n → P' j i = P j i) ∧ (∀ j, 3 ≤ j → P' j = P j) ∧ (∀ i, i < 12 * n → Q' 0 i = Q 0 i) ∧ (∀ j, j ≠ 0 → Q' j = Q j) ∧ ∀ s : Sc, q.2 = some s → okS s.1 s.2.1 s.2.2.length ∧ P' 0 n = nI s.1 ∧ P' 1 n = nI s.2.1 ∧ P' 2 n = nI s.2.2.length ∧ ∀ (k : Nat) (v : Int64), s.2.2[k]? = some v → Q' 0 (12 * n + k) = v
theorem gIsN {α : Type} {x : Option α} (h : x.isNone = false) : ∃ y, x = some y := by
  cases x with
  | none => cases h
  | some y => exact ⟨y, rfl⟩
theorem bent_end {G : gG} {a : Nat} {I : Nat → Int32} {J : Nat → Int64} {P : Nat → Nat → Int32} {Q Q1 Q2 : Nat → Nat → Int64} {M0 : gM} {T : List Int32} {n d1 d2 : Nat} {r1 r2 : Nat × Option (List Int64)} {q5 q6 q7 : Nat × Bool} (hx : (r2.2.isNone = false) → r1.2.isNone = false)
    (e5 : q5 = (r2.1, r2.2.isNone || decide ((r1.2.getD []).length + (r2.2.getD []).length = 0))) (e6 : q6 = tkS T 93 (q5.1, q5.2)) (e7 : q7 = wdS T wSoft (q6.1, q6.2)) (h7 : q7.1 ≤ 300) (k1 : d1 ≤ 6) (k2 : d2 ≤ 6)
    (j1 : ∀ j, j ≠ 0 → Q1 j = Q j) (i1 : ∀ i, (i < 12 * n + 0 ∨ 12 * n + 0 + 6 ≤ i) → Q1 0 i = Q 0 i) (l1 : ∀ l, r1.2 = some l → l.length = d1 ∧ ∀ (k : Nat) (v : Int64), l[k]? = some v → Q1 0 (12 * n + 0 + k) = v)
    (j2 : ∀ j, j ≠ 0 → Q2 j = Q1 j) (i2 : ∀ i, (i < 12 * n + d1 ∨ 12 * n + d1 + 6 ≤ i) → Q2 0 i = Q1 0 i) (l2 : ∀ l, r2.2 = some l → l.length = d2 ∧ ∀ (k : Nat) (v : Int64), l[k]? = some v → Q2 0 (12 * n + d1 + k) = v) :
    RSc G a I P Q M0 n (bent2 T r1 r2) (.inl none) (mkM G a (iP I (nI q7.1) (gB q7.2)) J (layP P n 3 (nI d1) (nI d1 + nI d2)) Q2 M0) := by
  have e : bent2 T r1 r2 = bentE r1.2 r2.2 q7 := by
    rw [e7, e6, e5]
    rfl
  have ei : (bentE r1.2 r2.2 q7).2.isNone = q7.2 := by
    unfold bentE
    cases q7.2 <;> rfl
  rw [e]
  refine ⟨rfl, J, _, Q2, by rw [ei]; rfl, h7, fun j i hj hi => layP_lt hj hi, fun j hj => layP_gt hj, fun i hi => by rw [i2 i (by omega), i1 i (by omega)], fun j hj => by rw [j2 j hj, j1 j hj], fun s hs => ?_⟩
  have h7f : q7.2 = false := by
    unfold bentE at hs
    cases h : q7.2 with
    | false => rfl
    | true => rw [h] at hs; cases hs
  unfold bentE at hs
  rw [h7f] at hs
  rw [e7] at h7f
  have h6 := wdS_f h7f
  rw [e6] at h6
  have h5 := tkS_f h6
  rw [e5] at h5
  simp only [Bool.or_eq_false_iff, decide_eq_false_iff_not] at h5
  obtain ⟨m2, hm2⟩ := gIsN h5.1
  obtain ⟨m1, hm1⟩ := gIsN (hx h5.1)
  obtain ⟨a1, b1⟩ := l1 m1 hm1
  obtain ⟨a2, b2⟩ := l2 m2 hm2
  rw [hm1, hm2] at hs
  cases hs
  have h9 := h5.2
  rw [hm1, hm2] at h9
  simp only [Option.getD_some] at h9 ⊢
  rw [List.length_append, a1, a2]
  rw [a1, a2] at h9
  refine ⟨Or.inr (Or.inr (Or.inr ⟨rfl, k1, by omega, by omega, by omega⟩)), layP_0, layP_1, by rw [layP_2]; exact nI_add d1 d2, fun k v hv => ?_⟩
  by_cases hk : k < m1.length
  · rw [List.getElem?_append_left hk] at hv
    rw [i2 _ (by omega)]
    exact b1 k v hv
  · rw [List.getElem?_append_right (by omega)] at hv
    have := b2 _ v hv
    rw [show 12 * n + d1 + (k - m1.length) = 12 * n + k by omega] at this
    exact this
theorem pPre1 {α : Type} (l : List α) (r : Nat × Option (List α)) : (pPre l r).1 = r.1 := rfl
theorem pNums_le {T : List Int32} : ∀ (k p : Nat), p ≤ T.length → (pNums T k p).1 ≤ T.length
  | 0, p, h => h
  | k + 1, p, h => by
    rw [pNums_s]
    have h1 := pFg_le (T := T) h
    cases h2 : pFg T p with
    | mk q o =>
      rw [h2] at h1
      cases o with
      | none => exact h1
      | some v =>
        show (pPre [v] (pCont T k q)).1 ≤ T.length
        rw [pPre1]
        unfold pCont
        split
        · rename_i h3
          exact pNums_le k (q + 1) (hr_ne (fun z => by rw [z] at h3; exact absurd h3.1 (by decide)))
        · exact h1
theorem rowS_le {T : List Int32} {q : Nat × Bool} (h : q.1 ≤ T.length) : (rowS T q).1 ≤ T.length := by
  unfold rowS
  split
  · exact h
  · unfold pRow
    split
    · exact h
    · exact pNums_le _ _ h
theorem wdok : (∀ c ∈ wHard, ¬ c = -1) ∧ (∀ c ∈ wMed, ¬ c = -1) ∧ (∀ c ∈ wSoft, ¬ c = -1) := ⟨by decide, by decide, by decide⟩
set_option maxHeartbeats 4000000 in
theorem m_bent {l : Launch} {G : gG} {a : Nat} {I : Nat → Int32} {J : Nat → Int64} {P : Nat → Nat → Int32} {Q : Nat → Nat → Int64} {M0 : gM} {T : List Int32} (hT : HT T I P) {p n : Nat} (hp : I 9 = nI p) (hs : I 10 = gB false) (hb : p ≤ T.length) (hn : I 0 = nI n) (hn60 : n < 60) : gMet l yX4_bent (gWs yX4_bent cX4_bent 3 none []) ({ frames := 4, cells := 0, slots := 0, locals := 93 } : Room) G [.ref a] (mkM G a I J P Q M0) (RSc G a I P Q M0 n (bentS T p)) := by
  refine gMet.intro (by decide) (Nat.le_of_ble_eq_true rfl) (fun C hl hC hN => ?_)
  subst hl
  replace hC : Ck G C [] cX4_bent RX4 3 none ({ frames := 4, cells := 0, slots := 0, locals := 93 } : Room) (RSc G a I P Q M0 n (bentS T p)) := hC
  refine V.loc [some (.ref a)] ⟨rfl, trivial⟩ ?_
  have h300 := hT.2.1
  refine V_aload_n hC dX4_bent_0 rfl ?_
  refine V_bipush (v := 91) hC dX4_bent_1 (by decide) ?_
  refine mc1n hC (m_take (c := 91) hT hp hs (by omega)) rfl mw_take ⟨⟨(Nat.le_of_ble_eq_true rfl), (Nat.le_of_ble_eq_true rfl)⟩, rfl, rfl⟩ ⟨(Nat.le_of_ble_eq_true rfl), (Nat.le_of_ble_eq_true rfl)⟩ (Nat.le_of_ble_eq_true rfl) dX4_bent_3 ?_
  obtain ⟨q1, eq1⟩ : ∃ q, q = tkS T 91 (p, false) := ⟨_, rfl⟩
  rw [← eq1]
  have lq1 : q1.1 ≤ T.length := by rw [eq1]; exact tkS_le (by decide) hb
  refine V_aload_n hC dX4_bent_6 rfl ?_
  refine V_iconst (v := 0) hC dX4_bent_7 (by decide) ?_
  refine mc1g hC (m_row (hT.iP _ _) (p := q1.1) (n := n) (f := 0) (s := q1.2) rfl rfl lq1 hn hn60 (Nat.zero_le _)) rfl mw_row ⟨⟨(Nat.le_of_ble_eq_true rfl), (Nat.le_of_ble_eq_true rfl)⟩, rfl, rfl⟩ ⟨(Nat.le_of_ble_eq_true rfl), (Nat.le_of_ble_eq_true rfl)⟩ (Nat.le_of_ble_eq_true rfl) dX4_bent_8 (fun X M' h => by obtain ⟨_, _, _, h1, _⟩ := h; cases h1) (fun v M' h => ?_)
  obtain ⟨d1, J1, Q1, h1, k1, h2, g1, j1, i1, m1⟩ := h
  cases h1
  subst h2
  obtain ⟨r1, er1⟩ : ∃ q, q = rowS T (q1.1, q1.2) := ⟨_, rfl⟩
  rw [← er1] at g1 m1 ⊢
  rw [iP_iP]
  have lr1 : r1.1 ≤ T.length := by rw [er1]; exact rowS_le lq1
  refine V_istore_n hC dX4_bent_11 (Nat.le_of_ble_eq_true rfl) ?_
  refine V_aload_n hC dX4_bent_12 rfl ?_
  refine V_bipush (v := 93) hC dX4_bent_13 (by decide) ?_
  refine mc1n hC (m_take (c := 93) (hT.iP _ _) (p := r1.1) (s := r1.2.isNone) rfl rfl (by omega)) rfl mw_take ⟨⟨(Nat.le_of_ble_eq_true rfl), (Nat.le_of_ble_eq_true rfl)⟩, rfl, rfl⟩ ⟨(Nat.le_of_ble_eq_true rfl), (Nat.le_of_ble_eq_true rfl)⟩ (Nat.le_of_ble_eq_true rfl) dX4_bent_15 ?_
  obtain ⟨q2, eq2⟩ : ∃ q, q = tkS T 93 (r1.1, r1.2.isNone) := ⟨_, rfl⟩
  rw [← eq2]
  rw [iP_iP]
  have lq2 : q2.1 ≤ T.length := by rw [eq2]; exact tkS_le (by decide) lr1
  refine V_aload_n hC dX4_bent_18 rfl ?_
  refine V_iconst (v := 0) hC dX4_bent_19 (by decide) ?_
  refine mc1n hC (m_wd0 (hT.iP _ _) (p := q2.1) (s := q2.2) rfl rfl lq2) rfl mw_word ⟨⟨(Nat.le_of_ble_eq_true rfl), (Nat.le_of_ble_eq_true rfl)⟩, rfl, rfl⟩ ⟨(Nat.le_of_ble_eq_true rfl), (Nat.le_of_ble_eq_true rfl)⟩ (Nat.le_of_ble_eq_true rfl) dX4_bent_20 ?_
  obtain ⟨q3, eq3⟩ : ∃ q, q = wdS T wHard (q2.1, q2.2) := ⟨_, rfl⟩
  rw [← eq3]
  rw [iP_iP]
  have lq3 : q3.1 ≤ T.length := by rw [eq3]; exact wdS_le _ _ wdok.1 lq2
  refine V_aload_n hC dX4_bent_23 rfl ?_
  refine V_bipush (v := 91) hC dX4_bent_24 (by decide) ?_
  refine mc1n hC (m_take (c := 91) (hT.iP _ _) (p := q3.1) (s := q3.2) rfl rfl (by omega)) rfl mw_take ⟨⟨(Nat.le_of_ble_eq_true rfl), (Nat.le_of_ble_eq_true rfl)⟩, rfl, rfl⟩ ⟨(Nat.le_of_ble_eq_true rfl), (Nat.le_of_ble_eq_true rfl)⟩ (Nat.le_of_ble_eq_true rfl) dX4_bent_26 ?_
  obtain ⟨q4, eq4⟩ : ∃ q, q = tkS T 91 (q3.1, q3.2) := ⟨_, rfl⟩
  rw [← eq4]
  rw [iP_iP]
  have lq4 : q4.1 ≤ T.length := by rw [eq4]; exact tkS_le (by decide) lq3
  refine V_aload_n hC dX4_bent_29 rfl ?_
  refine V_iload_n hC dX4_bent_30 rfl ?_
  refine mc1g hC (m_row (hT.iP _ _) (p := q4.1) (n := n) (f := d1) (s := q4.2) rfl rfl lq4 hn hn60 k1) rfl mw_row ⟨⟨(Nat.le_of_ble_eq_true rfl), (Nat.le_of_ble_eq_true rfl)⟩, rfl, rfl⟩ ⟨(Nat.le_of_ble_eq_true rfl), (Nat.le_of_ble_eq_true rfl)⟩ (Nat.le_of_ble_eq_true rfl) dX4_bent_31 (fun X M' h => by obtain ⟨_, _, _, h1, _⟩ := h; cases h1) (fun v M' h => ?_)
  obtain ⟨d2, J2, Q2, h1, k2, h2, g2, j2, i2, m2⟩ := h
  cases h1
  subst h2
  obtain ⟨r2, er2⟩ : ∃ q, q = rowS T (q4.1, q4.2) := ⟨_, rfl⟩
  rw [← er2] at g2 m2 ⊢
  rw [iP_iP]
  have lr2 : r2.1 ≤ T.length := by rw [er2]; exact rowS_le lq4
  have hx : r2.2.isNone = false → r1.2.isNone = false := fun z => by
    rw [er2] at z
    have z1 := rowS_f z
    rw [show (q4.1, q4.2).2 = q4.2 from rfl, eq4] at z1
    have z2 := tkS_f z1
    rw [show (q3.1, q3.2).2 = q3.2 from rfl, eq3] at z2
    have z3 := wdS_f z2
    rw [show (q2.1, q2.2).2 = q2.2 from rfl, eq2] at z3
    exact tkS_f z3
  refine V_istore_n hC dX4_bent_34 (Nat.le_of_ble_eq_true rfl) ?_
  refine V_aload_n hC dX4_bent_35 rfl ?_
  refine V_aload_n hC dX4_bent_36 rfl ?_
  refine mg_stuck hC dX4_bent_37 ?_
  refine V_seti (y := gB r2.2.isNone) rfl ?_
  refine V_ifb_ne (tgt := 49) hC dX4_bent_40 (by decide) (fun c40 => ?_) (fun c40 => ?_)
  · refine V_iconst (v := 1) hC dX4_bent_49 (by decide) ?_
    refine V_goto (tgt := 54) hC dX4_bent_50 (by decide) ?_
    refine mp_stuck hC dX4_bent_54 rfl rfl ?_
    have hb5 : true = (r2.2.isNone || decide ((r1.2.getD []).length + (r2.2.getD []).length = 0)) := by rw [c40]; rfl
    obtain ⟨q5, e5⟩ : ∃ q, q = (r2.1, r2.2.isNone || decide ((r1.2.getD []).length + (r2.2.getD []).length = 0)) := ⟨_, rfl⟩
    have l5 : q5.1 ≤ T.length := by rw [e5]; exact lr2
    refine V.eqM (show mkM G a (va_up (iP I (nI r2.1) (gB r2.2.isNone)) 10 1) J2 P Q2 M0 = mkM G a (iP I (nI q5.1) (gB q5.2)) J2 P Q2 M0 from ?_) ?_
    · rw [e5, ← hb5]
      unfold iP
      rw [gUU]
      rfl
    refine V_aload_n hC dX4_bent_57 rfl ?_
    refine V_bipush (v := 93) hC dX4_bent_58 (by decide) ?_
    refine mc1n hC (m_take (c := 93) (hT.iP _ _) (p := q5.1) (s := q5.2) rfl rfl (by omega)) rfl mw_take ⟨⟨(Nat.le_of_ble_eq_true rfl), (Nat.le_of_ble_eq_true rfl)⟩, rfl, rfl⟩ ⟨(Nat.le_of_ble_eq_true rfl), (Nat.le_of_ble_eq_true rfl)⟩ (Nat.le_of_ble_eq_true rfl) dX4_bent_60 ?_
    obtain ⟨q6, eq6⟩ : ∃ q, q = tkS T 93 (q5.1, q5.2) := ⟨_, rfl⟩
    rw [← eq6]
    rw [iP_iP]
    have lq6 : q6.1 ≤ T.length := by rw [eq6]; exact tkS_le (by decide) l5
    refine V_aload_n hC dX4_bent_63 rfl ?_
    refine V_iconst (v := 2) hC dX4_bent_64 (by decide) ?_
    refine mc1n hC (m_wd2 (hT.iP _ _) (p := q6.1) (s := q6.2) rfl rfl lq6) rfl mw_word ⟨⟨(Nat.le_of_ble_eq_true rfl), (Nat.le_of_ble_eq_true rfl)⟩, rfl, rfl⟩ ⟨(Nat.le_of_ble_eq_true rfl), (Nat.le_of_ble_eq_true rfl)⟩ (Nat.le_of_ble_eq_true rfl) dX4_bent_65 ?_
    obtain ⟨q7, eq7⟩ : ∃ q, q = wdS T wSoft (q6.1, q6.2) := ⟨_, rfl⟩
    rw [← eq7]
    rw [iP_iP]
    have lq7 : q7.1 ≤ T.length := by rw [eq7]; exact wdS_le _ _ wdok.2.2 lq6
    refine V_aload_n hC dX4_bent_68 rfl ?_
    refine mg_shapes hC dX4_bent_69 ?_
    refine V_aload_n hC dX4_bent_72 rfl ?_
    refine mg_scores hC dX4_bent_73 ?_
    refine V_iconst (v := 3) hC dX4_bent_76 (by decide) ?_
    rw [show (iP I (nI q7.1) (gB q7.2)) 0 = nI n from hn]
    refine ms_shapes hC n rfl (by omega) dX4_bent_77 ?_
    refine V_aload_n hC dX4_bent_78 rfl ?_
    refine mg_hards hC dX4_bent_79 ?_
    refine V_aload_n hC dX4_bent_82 rfl ?_
    refine mg_scores hC dX4_bent_83 ?_
    refine V_iload_n hC dX4_bent_86 rfl ?_
    rw [show (iP I (nI q7.1) (gB q7.2)) 0 = nI n from hn]
    refine ms_hards hC n rfl (by omega) dX4_bent_87 ?_
    refine V_aload_n hC dX4_bent_88 rfl ?_
    refine mg_sizes hC dX4_bent_89 ?_
    refine V_aload_n hC dX4_bent_92 rfl ?_
    refine mg_scores hC dX4_bent_93 ?_
    refine V_iload_n hC dX4_bent_96 rfl ?_
    refine V_iload_n hC dX4_bent_97 rfl ?_
    refine V_iadd hC dX4_bent_98 ?_
    rw [show (iP I (nI q7.1) (gB q7.2)) 0 = nI n from hn]
    refine ms_sizes hC n rfl (by omega) dX4_bent_99 ?_
    exact V_vret hC dX4_bent_100 (Nat.le_of_ble_eq_true rfl) (Nat.le_of_ble_eq_true rfl) (by
          have e : bentS T p = bent2 T r1 r2 := by
            rw [er2, eq4, eq3, eq2, er1, eq1]
            rfl
          rw [e]
          exact bent_end hx e5 eq6 eq7 (by omega) k1 k2 j1 i1 m1 j2 i2 m2)
  · refine V_iload_n hC dX4_bent_43 rfl ?_
    refine V_iload_n hC dX4_bent_44 rfl ?_
    refine V_iadd hC dX4_bent_45 ?_
    refine V_if_ne (tgt := 53) hC dX4_bent_46 (by decide) (fun c46 => ?_) (fun c46 => ?_)
    · refine V_iconst (v := 0) hC dX4_bent_53 (by decide) ?_
      refine mp_stuck hC dX4_bent_54 rfl rfl ?_
      have hb5 : false = (r2.2.isNone || decide ((r1.2.getD []).length + (r2.2.getD []).length = 0)) := by
        obtain ⟨m2', hm2⟩ := gIsN c40
        obtain ⟨m1', hm1⟩ := gIsN (hx c40)
        rw [c40, hm1, hm2]
        show false = (false || decide (m1'.length + m2'.length = 0))
        rw [(m1 m1' hm1).1, (m2 m2' hm2).1]
        have : ¬ d1 + d2 = 0 := fun z => c46 (by rw [nI_add, z]; rfl)
        rw [decide_eq_false this]
        rfl
      obtain ⟨q5, e5⟩ : ∃ q, q = (r2.1, r2.2.isNone || decide ((r1.2.getD []).length + (r2.2.getD []).length = 0)) := ⟨_, rfl⟩
      have l5 : q5.1 ≤ T.length := by rw [e5]; exact lr2
      refine V.eqM (show mkM G a (va_up (iP I (nI r2.1) (gB r2.2.isNone)) 10 0) J2 P Q2 M0 = mkM G a (iP I (nI q5.1) (gB q5.2)) J2 P Q2 M0 from ?_) ?_
      · rw [e5, ← hb5]
        unfold iP
        rw [gUU]
        rfl
      refine V_aload_n hC dX4_bent_57 rfl ?_
      refine V_bipush (v := 93) hC dX4_bent_58 (by decide) ?_
      refine mc1n hC (m_take (c := 93) (hT.iP _ _) (p := q5.1) (s := q5.2) rfl rfl (by omega)) rfl mw_take ⟨⟨(Nat.le_of_ble_eq_true rfl), (Nat.le_of_ble_eq_true rfl)⟩, rfl, rfl⟩ ⟨(Nat.le_of_ble_eq_true rfl), (Nat.le_of_ble_eq_true rfl)⟩ (Nat.le_of_ble_eq_true rfl) dX4_bent_60 ?_
      obtain ⟨q6, eq6⟩ : ∃ q, q = tkS T 93 (q5.1, q5.2) := ⟨_, rfl⟩
      rw [← eq6]
      rw [iP_iP]
      have lq6 : q6.1 ≤ T.length := by rw [eq6]; exact tkS_le (by decide) l5
      refine V_aload_n hC dX4_bent_63 rfl ?_
      refine V_iconst (v := 2) hC dX4_bent_64 (by decide) ?_
      refine mc1n hC (m_wd2 (hT.iP _ _) (p := q6.1) (s := q6.2) rfl rfl lq6) rfl mw_word ⟨⟨(Nat.le_of_ble_eq_true rfl), (Nat.le_of_ble_eq_true rfl)⟩, rfl, rfl⟩ ⟨(Nat.le_of_ble_eq_true rfl), (Nat.le_of_ble_eq_true rfl)⟩ (Nat.le_of_ble_eq_true rfl) dX4_bent_65 ?_
      obtain ⟨q7, eq7⟩ : ∃ q, q = wdS T wSoft (q6.1, q6.2) := ⟨_, rfl⟩
      rw [← eq7]
      rw [iP_iP]
      have lq7 : q7.1 ≤ T.length := by rw [eq7]; exact wdS_le _ _ wdok.2.2 lq6
      refine V_aload_n hC dX4_bent_68 rfl ?_
      refine mg_shapes hC dX4_bent_69 ?_
      refine V_aload_n hC dX4_bent_72 rfl ?_
      refine mg_scores hC dX4_bent_73 ?_
      refine V_iconst (v := 3) hC dX4_bent_76 (by decide) ?_
      rw [show (iP I (nI q7.1) (gB q7.2)) 0 = nI n from hn]
      refine ms_shapes hC n rfl (by omega) dX4_bent_77 ?_
      refine V_aload_n hC dX4_bent_78 rfl ?_
      refine mg_hards hC dX4_bent_79 ?_
      refine V_aload_n hC dX4_bent_82 rfl ?_
      refine mg_scores hC dX4_bent_83 ?_
      refine V_iload_n hC dX4_bent_86 rfl ?_
      rw [show (iP I (nI q7.1) (gB q7.2)) 0 = nI n from hn]
      refine ms_hards hC n rfl (by omega) dX4_bent_87 ?_
      refine V_aload_n hC dX4_bent_88 rfl ?_
      refine mg_sizes hC dX4_bent_89 ?_
      refine V_aload_n hC dX4_bent_92 rfl ?_
      refine mg_scores hC dX4_bent_93 ?_
      refine V_iload_n hC dX4_bent_96 rfl ?_
      refine V_iload_n hC dX4_bent_97 rfl ?_
      refine V_iadd hC dX4_bent_98 ?_
      rw [show (iP I (nI q7.1) (gB q7.2)) 0 = nI n from hn]
      refine ms_sizes hC n rfl (by omega) dX4_bent_99 ?_
      exact V_vret hC dX4_bent_100 (Nat.le_of_ble_eq_true rfl) (Nat.le_of_ble_eq_true rfl) (by
            have e : bentS T p = bent2 T r1 r2 := by
              rw [er2, eq4, eq3, eq2, er1, eq1]
              rfl
            rw [e]
            exact bent_end hx e5 eq6 eq7 (by omega) k1 k2 j1 i1 m1 j2 i2 m2)
    · refine V_iconst (v := 1) hC dX4_bent_49 (by decide) ?_
      refine V_goto (tgt := 54) hC dX4_bent_50 (by decide) ?_
      refine mp_stuck hC dX4_bent_54 rfl rfl ?_
      have hb5 : true = (r2.2.isNone || decide ((r1.2.getD []).length + (r2.2.getD []).length = 0)) := by
        obtain ⟨m2', hm2⟩ := gIsN c40
        obtain ⟨m1', hm1⟩ := gIsN (hx c40)
        rw [c40, hm1, hm2]
        show true = (false || decide (m1'.length + m2'.length = 0))
        rw [(m1 m1' hm1).1, (m2 m2' hm2).1]
        have : d1 + d2 = 0 := (nI_eq (b := 0) (by omega) (by decide)).mp ((nI_add d1 d2).symm.trans (by have := c46; first | exact this | exact Decidable.of_not_not this))
        rw [this]
        rfl
      obtain ⟨q5, e5⟩ : ∃ q, q = (r2.1, r2.2.isNone || decide ((r1.2.getD []).length + (r2.2.getD []).length = 0)) := ⟨_, rfl⟩
      have l5 : q5.1 ≤ T.length := by rw [e5]; exact lr2
      refine V.eqM (show mkM G a (va_up (iP I (nI r2.1) (gB r2.2.isNone)) 10 1) J2 P Q2 M0 = mkM G a (iP I (nI q5.1) (gB q5.2)) J2 P Q2 M0 from ?_) ?_
      · rw [e5, ← hb5]
        unfold iP
        rw [gUU]
        rfl
      refine V_aload_n hC dX4_bent_57 rfl ?_
      refine V_bipush (v := 93) hC dX4_bent_58 (by decide) ?_
      refine mc1n hC (m_take (c := 93) (hT.iP _ _) (p := q5.1) (s := q5.2) rfl rfl (by omega)) rfl mw_take ⟨⟨(Nat.le_of_ble_eq_true rfl), (Nat.le_of_ble_eq_true rfl)⟩, rfl, rfl⟩ ⟨(Nat.le_of_ble_eq_true rfl), (Nat.le_of_ble_eq_true rfl)⟩ (Nat.le_of_ble_eq_true rfl) dX4_bent_60 ?_
      obtain ⟨q6, eq6⟩ : ∃ q, q = tkS T 93 (q5.1, q5.2) := ⟨_, rfl⟩
      rw [← eq6]
      rw [iP_iP]
      have lq6 : q6.1 ≤ T.length := by rw [eq6]; exact tkS_le (by decide) l5
      refine V_aload_n hC dX4_bent_63 rfl ?_
      refine V_iconst (v := 2) hC dX4_bent_64 (by decide) ?_
      refine mc1n hC (m_wd2 (hT.iP _ _) (p := q6.1) (s := q6.2) rfl rfl lq6) rfl mw_word ⟨⟨(Nat.le_of_ble_eq_true rfl), (Nat.le_of_ble_eq_true rfl)⟩, rfl, rfl⟩ ⟨(Nat.le_of_ble_eq_true rfl), (Nat.le_of_ble_eq_true rfl)⟩ (Nat.le_of_ble_eq_true rfl) dX4_bent_65 ?_
      obtain ⟨q7, eq7⟩ : ∃ q, q = wdS T wSoft (q6.1, q6.2) := ⟨_, rfl⟩
      rw [← eq7]
      rw [iP_iP]
      have lq7 : q7.1 ≤ T.length := by rw [eq7]; exact wdS_le _ _ wdok.2.2 lq6
      refine V_aload_n hC dX4_bent_68 rfl ?_
      refine mg_shapes hC dX4_bent_69 ?_
      refine V_aload_n hC dX4_bent_72 rfl ?_
      refine mg_scores hC dX4_bent_73 ?_
      refine V_iconst (v := 3) hC dX4_bent_76 (by decide) ?_
      rw [show (iP I (nI q7.1) (gB q7.2)) 0 = nI n from hn]
      refine ms_shapes hC n rfl (by omega) dX4_bent_77 ?_
      refine V_aload_n hC dX4_bent_78 rfl ?_
      refine mg_hards hC dX4_bent_79 ?_
      refine V_aload_n hC dX4_bent_82 rfl ?_
      refine mg_scores hC dX4_bent_83 ?_
      refine V_iload_n hC dX4_bent_86 rfl ?_
      rw [show (iP I (nI q7.1) (gB q7.2)) 0 = nI n from hn]
      refine ms_hards hC n rfl (by omega) dX4_bent_87 ?_
      refine V_aload_n hC dX4_bent_88 rfl ?_
      refine mg_sizes hC dX4_bent_89 ?_
      refine V_aload_n hC dX4_bent_92 rfl ?_
      refine mg_scores hC dX4_bent_93 ?_
      refine V_iload_n hC dX4_bent_96 rfl ?_
      refine V_iload_n hC dX4_bent_97 rfl ?_
      refine V_iadd hC dX4_bent_98 ?_
      rw [show (iP I (nI q7.1) (gB q7.2)) 0 = nI n from hn]
      refine ms_sizes hC n rfl (by omega) dX4_bent_99 ?_
      exact V_vret hC dX4_bent_100 (Nat.le_of_ble_eq_true rfl) (Nat.le_of_ble_eq_true rfl) (by
            have e : bentS T p = bent2 T r1 r2 := by
              rw [er2, eq4, eq3, eq2, er1, eq1]
              rfl
            rw [e]
            exact bent_end hx e5 eq6 eq7 (by omega) k1 k2 j1 i1 m1 j2 i2 m2)
