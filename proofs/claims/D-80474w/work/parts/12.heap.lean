/-! HEAP ROWS over V -/
theorem va_P1 {D : va_G} {cl : List vw_C} {q : Nat × va_E} {H : Heap} (h : va_at D cl q H) : va_P D cl [q] H := by
  intro k x hx
  have hz : k < 1 := (List.getElem?_eq_some_iff.mp hx).1
  rw [show k = 0 by omega] at hx
  cases hx
  exact h
section GHEAP
variable {G : gG} {C : Cx} {M : gM} {k n pc : Nat} {L : Nat → Option Value} {st : List Value} {hh : List (Nat × Nat × Nat × Nat)} {cc : ByteArray} {ow : String} {nL : Nat} {rt : Option FieldType} {rm : Room} {post : gRes → gM → Prop} {a : Nat}
/-- the class C0 of the list, and where its fields' words stand -/
def gCl (ci : Nat) (C0 : String) (T : u_T) (N : Nat) (ty0 : Nat → FieldType) : Prop := gcl[ci]? = some (C0, T, N) ∧ (∀ w ∈ u_ws C0 T N, w ∈ lw_all) ∧ (∀ k, k < N → parseFieldDescriptor (T k).2.2.1 = some (ty0 k)) ∧ ∀ a, a < N → ∀ b, b < N → a ≠ b → (T a).2.1 ≠ (T b).2.1
theorem gc0 : gCl 0 RX1 TX1 17 tyX1 := ⟨rfl, in_X1, tyX1_ok, nmX1⟩
theorem gc4 : gCl 1 RX4 TX4 24 tyX4 := ⟨rfl, in_X4, tyX4_ok, nmX4⟩
theorem gcS : gCl 2 RX3 TX3 1 tyX3 := ⟨rfl, in_X3, tyX3_ok, nmX3⟩
theorem gcT : gCl 3 RX5 TX5 1 tyX5 := ⟨rfl, in_X5, tyX5_ok, nmX5⟩
theorem gcU : gCl 4 RX6 TX6 1 tyX6 := ⟨rfl, in_X6, tyX6_ok, nmX6⟩
theorem gcB : gCl 5 RX7 TX7 3 tyX7 := ⟨rfl, in_X7, tyX7_ok, nmX7⟩
theorem V_get (hC : Ck G C hh cc ow nL rt rm post) {ci N index : Nat} {C0 ref : String} {T : u_T} {ty0 : Nat → FieldType} (hcl : gCl ci C0 T N ty0) {fs : List Value} (he : M.1 a = some (.inr (ci, fs))) (j : Nat) (hj : j < N) (w : Cond.fieldLink ow index ref (T j).2.1 (T j).2.2.1 ∈ lw_all) (hs : (T j).1 = ref) {v : Value} (hv : fs[j]? = some v) (d : decode cc pc = .ok (.getfield index, 3))
    (kk : V G C M k n (pc + 3) L (v :: st)) : V G C M k n pc L (.ref a :: st) := fun H locs ls h1 h2 h3 =>
  va_get (D := G.1) (cl := gcl) (tys := gty G) (ws := [(a, .inr (ci, fs))]) hC.1 hC.2.1 hC.2.2.2.2.1 hcl.2.1 hC.2.2.2.1 hC.2.2.2.2.2.2.2.1.1 (va_P1 (h1.2.2 a _ he).1) 0 rfl hcl.1 j hj (hC.2.2.2.2.1 _ w) (fun x hx => by rw [← hs]; exact hx) hv d (kk H locs ls h1 h2 h3)
theorem V_put (hC : Ck G C hh cc ow nL rt rm post) {ci N index : Nat} {C0 ref : String} {T : u_T} {ty0 : Nat → FieldType} (hcl : gCl ci C0 T N ty0) {fs : List Value} (he : M.1 a = some (.inr (ci, fs))) (j : Nat) (hj : j < N) (w : Cond.fieldLink ow index ref (T j).2.1 (T j).2.2.1 ∈ lw_all) (hs : (T j).1 = ref) (hfin : (T j).2.2.2 = false) {v : Value} (hnar : narrow (ty0 j) v = v) (hfit : fits (ty0 j) v = true) (hl : j < fs.length) (d : decode cc pc = .ok (.putfield index, 3))
    (kk : V G C (va_up M.1 a (some (.inr (ci, fs.set j v))), M.2) k n (pc + 3) L st) : V G C M k n pc L (v :: .ref a :: st) := by
  intro H locs ls h1 h2 h3
  obtain ⟨hx, hb, hml, hown, hts, -, -, hK, -⟩ := hC
  have hap := va_apart (own := ow) hts hcl.2.1 ty0 hcl.2.2.1 hcl.2.2.2 hK.1 hcl.1
  obtain ⟨⟨r, g1, cell, q1, q2, q3, q4⟩, hA⟩ := h1.2.2 a _ he
  have hr : r = (C0, T, N) := Option.some.inj (g1.symm.trans hcl.1)
  subst hr
  obtain ⟨hS, hfc, kC, hkC, hkind⟩ := hK.1.1 ci _ hcl.1
  obtain ⟨cf, kf, fi, f, hi, hsl⟩ := hS j hj
  have hlay := hts _ (hcl.2.1 _ (u_in_lay hj))
  unfold u_lay at hlay
  rw [if_neg (by rw [hfin]; decide)] at hlay
  have hst := (u_facts hfc hkC (u_lays hts hcl.2.1 hj) hi).1
  have h6 := u_store hfc hkC hkind hlay hi (hcl.2.2.1 j hj) hnar hfit
  refine W.putK hx hb (f := f) ⟨hown, hts _ w, ⟨_, _, _, (by rw [← hs]; exact hi)⟩, hst⟩ (by rw [q2]; exact h6) q1 q3 (by rw [hsl]; exact k2_hasslot (q4 j hj)) rfl rfl d fun H' e1 e2 e3 => ?_
  rw [hsl] at e1 ⊢
  exact kk H' _ ls (h1.set hA ⟨_, hcl.1, t_OB.to (V := updV (vp_V fs) j v) ⟨_, e1, q2, q3, t_set q4 hap hj v⟩ (fun i _ => vp_updV_set hl v i)⟩ e2 e3) (h2.put e2 e3 hA) h3
theorem V_putF (hC : Ck G C hh cc ow nL rt rm post) {ci N index : Nat} {C0 ref : String} {T : u_T} {ty0 : Nat → FieldType} (hcl : gCl ci C0 T N ty0) {fs : List Value} (he : M.1 a = some (.inr (ci, fs))) (j : Nat) (hj : j < N) (w : Cond.fieldLink ow index ref (T j).2.1 (T j).2.2.1 ∈ lw_all) (hs : (T j).1 = ref) (hfin : (T j).2.2.2 = true) (hin2 : C.meth.name = "<init>") (hdecl : (T j).1 = ow) {v : Value} (hnar : narrow (ty0 j) v = v) (hfit : fits (ty0 j) v = true) (hl : j < fs.length) (d : decode cc pc = .ok (.putfield index, 3))
    (kk : V G C (va_up M.1 a (some (.inr (ci, fs.set j v))), M.2) k n (pc + 3) L st) : V G C M k n pc L (v :: .ref a :: st) := by
  intro H locs ls h1 h2 h3
  obtain ⟨hx, hb, hml, hown, hts, -, -, hK, -⟩ := hC
  have hap := va_apart (own := ow) hts hcl.2.1 ty0 hcl.2.2.1 hcl.2.2.2 hK.1 hcl.1
  obtain ⟨⟨r, g1, cell, q1, q2, q3, q4⟩, hA⟩ := h1.2.2 a _ he
  have hr : r = (C0, T, N) := Option.some.inj (g1.symm.trans hcl.1)
  subst hr
  obtain ⟨hS, hfc, kC, hkC, hkind⟩ := hK.1.1 ci _ hcl.1
  obtain ⟨cf, kf, fi, f, hi, hsl⟩ := hS j hj
  have hlay := hts _ (hcl.2.1 _ (u_in_lay hj))
  unfold u_lay at hlay
  rw [if_pos hfin] at hlay
  have hst := (u_facts hfc hkC (u_lays hts hcl.2.1 hj) hi).1
  have hcf : C.m.cls = cf := by
    obtain ⟨_, _, c', _, _, _, -, -, hf', -, -, -, hown2, -⟩ := Cond.laysFinal_spec hlay
    have e1 : c' = cf := by have := hi.symm.trans hf'; simp at this; exact this.1.symm
    rw [hdecl] at hown2
    rw [← e1]; exact Option.some.inj (hown.symm.trans hown2)
  have h6 := u_fits hfc hkC hkind (Or.inr hlay) hi (hcl.2.2.1 j hj) hnar hfit
  refine W.putFinK hx hb hown (hts _ w) (by rw [← hs]; exact hi) hst hcf hin2 (by rw [q2]; exact h6) q1 q3 (by rw [hsl]; exact k2_hasslot (q4 j hj)) rfl rfl d fun H' e1 e2 e3 => ?_
  rw [hsl] at e1 ⊢
  exact kk H' _ ls (h1.set hA ⟨_, hcl.1, t_OB.to (V := updV (vp_V fs) j v) ⟨_, e1, q2, q3, t_set q4 hap hj v⟩ (fun i _ => vp_updV_set hl v i)⟩ e2 e3) (h2.put e2 e3 hA) h3
/-! arrays: the place is a natural number j -/
theorem V_iald (hC : Ck G C hh cc ow nL rt rm post) {N : Nat} {f : Nat → Int32} (he : M.1 a = some (.inl (G.2.1 0, N, .inl f))) {i : Int32} (j : Nat) (hi : i = nI j) (hj : j < N) (hN : N < 2 ^ 31) (d : decode cc pc = .ok (.iaload, 1)) (kk : V G C M k n (pc + 1) L (.int (f j) :: st)) : V G C M k n pc L (.int i :: .ref a :: st) := fun H locs ls h1 h2 h3 => by
  subst hi
  refine va_iald (D := G.1) (cl := gcl) (tys := gty G) (ws := [(a, .inl (G.2.1 0, N, .inl f))]) hC.1 hC.2.1 hC.2.2.2.2.2.2.2.1.1 (va_P1 (h1.2.2 a _ he).1) 0 0 rfl rfl (vp_in_nI hj hN) d ?_
  rw [nI_clamp (by omega)]
  exact kk H locs ls h1 h2 h3
theorem V_bald (hC : Ck G C hh cc ow nL rt rm post) {N : Nat} {f : Nat → Int32} (he : M.1 a = some (.inl (G.2.1 2, N, .inl f))) {i : Int32} (j : Nat) (hi : i = nI j) (hj : j < N) (hN : N < 2 ^ 31) (d : decode cc pc = .ok (.baload, 1)) (kk : V G C M k n (pc + 1) L (.int (f j) :: st)) : V G C M k n pc L (.int i :: .ref a :: st) := fun H locs ls h1 h2 h3 => by
  subst hi
  refine va_bald (D := G.1) (cl := gcl) (tys := gty G) (ws := [(a, .inl (G.2.1 2, N, .inl f))]) hC.1 hC.2.1 hC.2.2.2.2.2.2.2.1.1 (va_P1 (h1.2.2 a _ he).1) 0 2 rfl rfl (vp_in_nI hj hN) d ?_
  rw [nI_clamp (by omega)]
  exact kk H locs ls h1 h2 h3
theorem V_lald (hC : Ck G C hh cc ow nL rt rm post) {N : Nat} {f : Nat → Int64} (he : M.1 a = some (.inl (G.2.1 1, N, .inr (.inl f)))) {i : Int32} (j : Nat) (hi : i = nI j) (hj : j < N) (hN : N < 2 ^ 31) (d : decode cc pc = .ok (.laload, 1)) (kk : V G C M k n (pc + 1) L (.long (f j) :: st)) : V G C M k n pc L (.int i :: .ref a :: st) := fun H locs ls h1 h2 h3 => by
  subst hi
  refine va_lald (D := G.1) (cl := gcl) (tys := gty G) (ws := [(a, .inl (G.2.1 1, N, .inr (.inl f)))]) hC.1 hC.2.1 hC.2.2.2.2.2.2.2.1.1 (va_P1 (h1.2.2 a _ he).1) 0 1 rfl rfl (vp_in_nI hj hN) d ?_
  rw [nI_clamp (by omega)]
  exact kk H locs ls h1 h2 h3
theorem V_aald (hC : Ck G C hh cc ow nL rt rm post) {N : Nat} {f : Nat → Option Nat} (he : M.1 a = some (.inl (G.2.1 3, N, .inr (.inr (.inr (.inr f)))))) {i : Int32} (j : Nat) (hi : i = nI j) (hj : j < N) (hN : N < 2 ^ 31) (d : decode cc pc = .ok (.aaload, 1)) (kk : V G C M k n (pc + 1) L (va_rf (f j) :: st)) : V G C M k n pc L (.int i :: .ref a :: st) := fun H locs ls h1 h2 h3 => by
  subst hi
  refine va_aldq (D := G.1) (cl := gcl) (tys := gty G) (ws := [(a, .inl (G.2.1 3, N, .inr (.inr (.inr (.inr f)))))]) hC.1 hC.2.1 hC.2.2.2.2.2.2.2.1.1 (va_P1 (h1.2.2 a _ he).1) 0 3 rfl rfl (vp_in_nI hj hN) d ?_
  rw [nI_clamp (by omega)]
  exact kk H locs ls h1 h2 h3
theorem V_alen (hC : Ck G C hh cc ow nL rt rm post) {t0 : Nat} {x : vp_A} (he : M.1 a = some (.inl (G.2.1 t0, x))) {ty : FieldType} (ht : (gty G)[t0]? = some (G.2.1 t0, ty)) (d : decode cc pc = .ok (.arraylength, 1)) (kk : V G C M k n (pc + 1) L (.int (nI x.1) :: st)) : V G C M k n pc L (.ref a :: st) := fun H locs ls h1 h2 h3 =>
  va_alen (D := G.1) (cl := gcl) (tys := gty G) (ws := [(a, .inl (G.2.1 t0, x))]) hC.1 hC.2.1 hC.2.2.2.2.2.2.2.1.1 (va_P1 (h1.2.2 a _ he).1) 0 t0 rfl ht rfl d (kk H locs ls h1 h2 h3)
theorem V_iast (hC : Ck G C hh cc ow nL rt rm post) {N : Nat} {f : Nat → Int32} (he : M.1 a = some (.inl (G.2.1 0, N, .inl f))) {i x : Int32} (j : Nat) (hi : i = nI j) (hj : j < N) (hN : N < 2 ^ 31) (d : decode cc pc = .ok (.iastore, 1)) (kk : V G C (va_up M.1 a (some (.inl (G.2.1 0, N, .inl (va_up f j x)))), M.2) k n (pc + 1) L st) : V G C M k n pc L (.int x :: .int i :: .ref a :: st) := fun H locs ls h1 h2 h3 => by
  subst hi
  obtain ⟨h0, hA⟩ := h1.2.2 a _ he
  refine W.iast hC.1 hC.2.1 h0 ((hC.2.2.2.2.2.2.2.1.1.2 0 _ rfl).1 N (fun j => .int (f j))) (fun q => by cases q) (by show ¬ (nI j < 0 ∨ (arrV _ _ _).slots.size ≤ _); rw [arrV_size]; exact vp_in_nI hj hN) rfl rfl d fun H1 e z oq => ?_
  refine kk H1 _ ls (h1.set hA ?_ z oq) (h2.put z oq hA) h3
  show H1[a]? = some (vp_cell _ _)
  rw [e, vp_cell_i, vp_cell_i, arrV_store, nI_clamp (by omega)]
  congr 2
  funext q
  by_cases hq : q = j
  · subst hq
    simp [updV, va_up]
  · simp [updV, va_up, hq]
theorem V_bast (hC : Ck G C hh cc ow nL rt rm post) {N : Nat} {f : Nat → Int32} (he : M.1 a = some (.inl (G.2.1 2, N, .inl f))) {i x : Int32} (j : Nat) (hi : i = nI j) (hj : j < N) (hN : N < 2 ^ 31) (d : decode cc pc = .ok (.bastore, 1)) (kk : V G C (va_up M.1 a (some (.inl (G.2.1 2, N, .inl (va_up f j (vp_nar .byte x))))), M.2) k n (pc + 1) L st) : V G C M k n pc L (.int x :: .int i :: .ref a :: st) := fun H locs ls h1 h2 h3 => by
  subst hi
  obtain ⟨h0, hA⟩ := h1.2.2 a _ he
  refine W.bast hC.1 hC.2.1 h0 ((hC.2.2.2.2.2.2.2.1.1.2 2 _ rfl).1 N (fun j => .int (f j))) (fun q => by cases q) (by show ¬ (nI j < 0 ∨ (arrV _ _ _).slots.size ≤ _); rw [arrV_size]; exact vp_in_nI hj hN) rfl rfl d fun H1 e z oq => ?_
  refine kk H1 _ ls (h1.set hA ?_ z oq) (h2.put z oq hA) h3
  show H1[a]? = some (vp_cell _ _)
  rw [e, vp_cell_i, vp_cell_i, arrV_store, nI_clamp (by omega)]
  congr 2
  funext q
  by_cases hq : q = j
  · subst hq
    simp [updV, va_up, vp_nar]
    try rfl
  · simp [updV, va_up, hq]
theorem V_last (hC : Ck G C hh cc ow nL rt rm post) {N : Nat} {f : Nat → Int64} (he : M.1 a = some (.inl (G.2.1 1, N, .inr (.inl f)))) {i : Int32} {x : Int64} (j : Nat) (hi : i = nI j) (hj : j < N) (hN : N < 2 ^ 31) (d : decode cc pc = .ok (.lastore, 1)) (kk : V G C (va_up M.1 a (some (.inl (G.2.1 1, N, .inr (.inl (va_up f j x))))), M.2) k n (pc + 1) L st) : V G C M k n pc L (.long x :: .int i :: .ref a :: st) := fun H locs ls h1 h2 h3 => by
  subst hi
  obtain ⟨h0, hA⟩ := h1.2.2 a _ he
  refine W.last hC.1 hC.2.1 h0 ((hC.2.2.2.2.2.2.2.1.1.2 1 _ rfl).1 N (fun j => .long (f j))) (fun q => by cases q) (by show ¬ (nI j < 0 ∨ (arrV _ _ _).slots.size ≤ _); rw [arrV_size]; exact vp_in_nI hj hN) rfl rfl d fun H1 e z oq => ?_
  refine kk H1 _ ls (h1.set hA ?_ z oq) (h2.put z oq hA) h3
  show H1[a]? = some (vp_cell _ _)
  rw [e, vp_cell_l, vp_cell_l, arrV_store, nI_clamp (by omega)]
  congr 2
  funext q
  by_cases hq : q = j
  · subst hq
    simp [updV, va_up]
  · simp [updV, va_up, hq]
theorem V_aastN (hC : Ck G C hh cc ow nL rt rm post) {N : Nat} {f : Nat → Option Nat} (he : M.1 a = some (.inl (G.2.1 3, N, .inr (.inr (.inr (.inr f)))))) {i : Int32} (j : Nat) (hi : i = nI j) (hj : j < N) (hN : N < 2 ^ 31) (d : decode cc pc = .ok (.aastore, 1)) (kk : V G C (va_up M.1 a (some (.inl (G.2.1 3, N, .inr (.inr (.inr (.inr (va_up f j none))))))), M.2) k n (pc + 1) L st) : V G C M k n pc L (.null :: .int i :: .ref a :: st) := fun H locs ls h1 h2 h3 => by
  subst hi
  obtain ⟨h0, hA⟩ := h1.2.2 a _ he
  refine va_WaastN (C := "LevelScores$Score") hC.1 hC.2.1 h0 ((hC.2.2.2.2.2.2.2.1.1.2 3 _ rfl).1 N (fun j => va_rf (f j))) (fun q => by cases q) (by show ¬ (nI j < 0 ∨ (arrV _ _ _).slots.size ≤ _); rw [arrV_size]; exact vp_in_nI hj hN) rfl rfl d fun H1 e z oq => ?_
  refine kk H1 _ ls (h1.set hA ?_ z oq) (h2.put z oq hA) h3
  show H1[a]? = some (vp_cell _ _)
  rw [e, vp_cell_q, vp_cell_q, arrV_store, nI_clamp (by omega)]
  congr 2
  funext q
  by_cases hq : q = j
  · subst hq
    simp [updV, va_up, va_rf]
  · simp [updV, va_up, hq]
/-! new cells -/
theorem V_new (hC : Ck G C hh cc ow nL rt rm post) {ci N index : Nat} {C0 : String} {T : u_T} {ty0 : Nat → FieldType} (hcl : gCl ci C0 T N ty0) (w1 : Cond.classLink ow index C0 ∈ lw_all) (w2 : Cond.instantiable C0 N ∈ lw_all) (w3 : Cond.initialized C0 ∈ lw_all) {fs : List Value} (hfs : ∀ j, j < N → defaultValue (ty0 j) = vp_V fs j) (hk : k + 1 ≤ rm.cells) (hn : n + N ≤ rm.slots) (d : decode cc pc = .ok (.new index, 3))
    (kk : V G C (va_up M.1 M.2 (some (.inr (ci, fs))), M.2 + 1) (k + 1) (n + N) (pc + 3) L (.ref M.2 :: st)) : V G C M k n pc L st := fun H locs ls h1 h2 h3 => by
  have hKn := hC.2.2.2.2.2.2.2.1.1.1 ci _ hcl.1
  have hR := hC.2.2.2.2.2.2.2.2.2.1
  refine W.newcK hC.1 hC.2.1 hC.2.2.2.1 (hC.2.2.2.2.1 _ w1) (hC.2.2.2.2.1 _ w2) (hC.2.2.2.2.1 _ w3) rfl d (by rw [hR]; exact hk) (by rw [hR]; exact hn) hKn.2.1 rfl fun H1 kC hkC e1 z1 o1 => ?_
  have hz := h1.2.1
  have e2 : va_at G.1 gcl (M.2, .inr (ci, fs)) H1 := ⟨_, hcl.1, by
    have := (u_born ty0 hC.2.2.2.2.1 hcl.2.1 hKn hkC e1 hcl.2.2.1).to hfs
    rw [hz] at this
    exact this⟩
  have h2' : va_S (gA G) C.s.heap H1 locs := ⟨Nat.le_trans h2.1 (by omega), fun x h4 h5 => (o1 x (Nat.lt_of_lt_of_le h4 h2.1)).trans (h2.2.1 x h4 h5), h2.2.2⟩
  have := kk H1 locs ls (h1.push e2 z1 o1) h2' h3
  rw [← hz] at this
  exact this
theorem V_newa (hC : Ck G C hh cc ow nL rt rm post) {atype : ArrayType} {t0 : Nat} (w : Cond.arrayClass (newarray.typeOf atype) ∈ lw_all) (ht : (gty G)[t0]? = some (G.2.1 t0, newarray.typeOf atype)) {i : Int32} (N : Nat) (hi : i = nI N) (hN : N < 2 ^ 20) {a0 : vp_A} (ha : ∀ cA : ClassId, vp_cell cA a0 = arrV cA N (fun _ => defaultValue (newarray.typeOf atype))) (hk : k + 1 ≤ rm.cells) (hn : n + N ≤ rm.slots) (d : decode cc pc = .ok (.newarray atype, 2))
    (kk : V G C (va_up M.1 M.2 (some (.inl (G.2.1 t0, a0))), M.2 + 1) (k + 1) (n + N) (pc + 2) L (.ref M.2 :: st)) : V G C M k n pc L (.int i :: st) := fun H locs ls h1 h2 h3 => by
  subst hi
  have hR := hC.2.2.2.2.2.2.2.2.2.1
  have hz := h1.2.1
  refine va_newaK hC.1 hC.2.1 (hC.2.2.2.2.1 _ w) rfl d rfl (nI_pos (by omega)) (nI_clamp (by omega)) (by cases atype <;> (show N * _ ≤ 536870912) <;> simp [newarray.typeOf, componentBytes] <;> omega) (by rw [hR]; exact hk) (by rw [hR]; exact hn) rfl fun H1 cA e1 z1 o1 hAr hNm => ?_
  have hcA : cA = G.2.1 t0 := by
    have h5 := (hC.2.2.2.2.2.2.2.1.1.2 t0 _ ht).2
    cases atype <;> exact Option.some.inj (hNm.symm.trans h5)
  subst hcA
  have e2 : va_at G.1 gcl (M.2, .inl (G.2.1 t0, a0)) H1 := by
    show H1[M.2]? = some (vp_cell _ _)
    rw [ha, ← hz]
    exact e1
  have h2' : va_S (gA G) C.s.heap H1 locs := ⟨Nat.le_trans h2.1 (by omega), fun x h4 h5 => (o1 x (Nat.lt_of_lt_of_le h4 h2.1)).trans (h2.2.1 x h4 h5), h2.2.2⟩
  have := kk H1 locs ls (h1.push e2 z1 o1) h2' h3
  rw [← hz] at this
  exact this
theorem V_objInit (hC : Ck G C hh cc ow nL rt rm post) {index : Nat} (w1 : Cond.methodLink ow index Lib.objectInit ∈ lw_all) (w2 : Cond.instanceMethod Lib.objectInit ∈ lw_all) (w3 : Cond.code Lib.objectInit ⟨#[0xb1]⟩ 1 none ∈ lw_all) (hf : 1 ≤ rm.frames) (hl : 20 ≤ rm.locals) (hst : (st.map fun v => v.category).sum ≤ 8) (d : decode cc pc = .ok (.invokespecial index, 3)) (kk : V G C M k n (pc + 3) L st) : V G C M k n pc L (.ref a :: st) := fun H locs ls h1 h2 h3 =>
  W.objInit hC.1 hC.2.1 hC.2.2.2.1 (hC.2.2.2.2.1 _ w1) (hC.2.2.2.2.1 _ w2) (hC.2.2.2.2.1 _ w3) rfl (by rw [hC.2.2.1, ← hC.2.2.2.2.2.2.2.2.2.2.1]; exact h3.1) rfl d (by rw [hC.2.2.2.2.2.2.2.2.2.1]; exact hf) (by rw [hC.2.2.2.2.2.2.2.2.2.1]; show 2 * 0 + _ + 12 ≤ _; omega) (kk H locs ls h1 h2 h3)
end GHEAP
