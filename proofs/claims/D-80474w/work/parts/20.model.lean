/-! THE MODEL AS A RECORD: ints I (0 scores, 1 planShape, 2 planHard, 3 planSize, 4 rules, 5 kept, 6 tapeSize, 7 outSize, 8 thrown, 9 place, 10 stuck), longs J (0 high, 1 low, 2 read), int arrays P (0 shapes, 1 hards, 2 sizes, 3 counts, 4 tape, 5 out), long arrays Q (0 levels, 1 weights, 2 keeps, 3 had) -/
/-- the answer v, and the world M1 -/
def gRv (v : Value) (M1 : gM) : gRes → gM → Prop := fun r M' => r = .inl (some v) ∧ M' = M1
/-- no answer, and the world M1 -/
def gRn (M1 : gM) : gRes → gM → Prop := fun r M' => r = .inl none ∧ M' = M1
/-- n cells from a on, over a world -/
def gOv (a n : Nat) (E : Nat → va_E) (M0 : gM) : gM := (fun q => if a ≤ q ∧ q < a + n then some (E (q - a)) else M0.1 q, M0.2)
theorem gOv_at {a n : Nat} {E : Nat → va_E} {M0 : gM} (j : Nat) (hj : j < n) : (gOv a n E M0).1 (a + j) = some (E j) := by
  show (if a ≤ a + j ∧ a + j < a + n then some (E (a + j - a)) else M0.1 (a + j)) = some (E j)
  rw [if_pos ⟨by omega, by omega⟩, Nat.add_sub_cancel_left]
theorem gOv_up {a n : Nat} {E : Nat → va_E} {M0 : gM} (j : Nat) (hj : j < n) (e : va_E) : ((va_up (gOv a n E M0).1 (a + j) (some e), (gOv a n E M0).2) : gM) = gOv a n (va_up E j e) M0 := by
  refine Prod.ext (funext fun q => ?_) rfl
  show va_up (gOv a n E M0).1 (a + j) (some e) q = if a ≤ q ∧ q < a + n then some (va_up E j e (q - a)) else M0.1 q
  by_cases hq : q = a + j
  · subst hq
    rw [va_up_self, if_pos ⟨by omega, by omega⟩, Nat.add_sub_cancel_left, va_up_self]
  · rw [va_up_ne _ _ hq]
    show (if a ≤ q ∧ q < a + n then some (E (q - a)) else M0.1 q) = _
    by_cases h : a ≤ q ∧ q < a + n
    · rw [if_pos h, if_pos h, va_up_ne _ _ (by omega)]
    · rw [if_neg h, if_neg h]
theorem gOv_out {a n : Nat} {E : Nat → va_E} {M0 : gM} {q : Nat} (h : q < a ∨ a + n ≤ q) : (gOv a n E M0).1 q = M0.1 q := by
  show (if a ≤ q ∧ q < a + n then some (E (q - a)) else M0.1 q) = M0.1 q
  rw [if_neg (by omega)]
def moF (a : Nat) (I : Nat → Int32) (J : Nat → Int64) : List Value := [.int (I 0), .ref (a + 1), .ref (a + 2), .ref (a + 3), .ref (a + 4), .int (I 1), .int (I 2), .int (I 3), .int (I 4), .ref (a + 5), .ref (a + 6), .int (I 5), .ref (a + 7), .int (I 6), .ref (a + 8), .int (I 7), .ref (a + 9), .int (I 8), .long (J 0), .long (J 1), .int (I 9), .int (I 10), .long (J 2), .ref (a + 10)]
def moE (G : gG) (a : Nat) (I : Nat → Int32) (J : Nat → Int64) (P : Nat → Nat → Int32) (Q : Nat → Nat → Int64) : Nat → va_E
  | 0 => .inr (1, moF a I J)
  | 1 => .inl (G.2.1 0, 61, .inl (P 0))
  | 2 => .inl (G.2.1 0, 61, .inl (P 1))
  | 3 => .inl (G.2.1 0, 61, .inl (P 2))
  | 4 => .inl (G.2.1 1, 732, .inr (.inl (Q 0)))
  | 5 => .inl (G.2.1 1, 144, .inr (.inl (Q 1)))
  | 6 => .inl (G.2.1 0, 12, .inl (P 3))
  | 7 => .inl (G.2.1 1, 72, .inr (.inl (Q 2)))
  | 8 => .inl (G.2.1 0, 300, .inl (P 4))
  | 9 => .inl (G.2.1 0, 400, .inl (P 5))
  | 10 => .inl (G.2.1 1, 12, .inr (.inl (Q 3)))
  | _ => .inr (1, [])
def mkM (G : gG) (a : Nat) (I : Nat → Int32) (J : Nat → Int64) (P : Nat → Nat → Int32) (Q : Nat → Nat → Int64) (M0 : gM) : gM := gOv a 11 (moE G a I J P Q) M0
theorem mkM_at {G : gG} {a : Nat} {I : Nat → Int32} {J : Nat → Int64} {P : Nat → Nat → Int32} {Q : Nat → Nat → Int64} {M0 : gM} (j : Nat) (hj : j < 11) : (mkM G a I J P Q M0).1 (a + j) = some (moE G a I J P Q j) := gOv_at j hj
theorem mkM_0 {G : gG} {a : Nat} {I : Nat → Int32} {J : Nat → Int64} {P : Nat → Nat → Int32} {Q : Nat → Nat → Int64} {M0 : gM} : (mkM G a I J P Q M0).1 a = some (.inr (1, moF a I J)) := mkM_at 0 (by decide)
theorem moE_I {G : gG} {a : Nat} {I : Nat → Int32} {J : Nat → Int64} {P : Nat → Nat → Int32} {Q : Nat → Nat → Int64} (i : Nat) (hi : i < 11) (v : Int32) : va_up (moE G a I J P Q) 0 (.inr (1, moF a (va_up I i v) J)) = moE G a (va_up I i v) J P Q := by
  funext q
  match q with
  | 0 => rfl
  | 1 => rfl
  | 2 => rfl
  | 3 => rfl
  | 4 => rfl
  | 5 => rfl
  | 6 => rfl
  | 7 => rfl
  | 8 => rfl
  | 9 => rfl
  | 10 => rfl
  | q + 11 => rfl
theorem moE_J {G : gG} {a : Nat} {I : Nat → Int32} {J : Nat → Int64} {P : Nat → Nat → Int32} {Q : Nat → Nat → Int64} (i : Nat) (v : Int64) : va_up (moE G a I J P Q) 0 (.inr (1, moF a I (va_up J i v))) = moE G a I (va_up J i v) P Q := by
  funext q
  match q with
  | 0 => rfl
  | 1 => rfl
  | 2 => rfl
  | 3 => rfl
  | 4 => rfl
  | 5 => rfl
  | 6 => rfl
  | 7 => rfl
  | 8 => rfl
  | 9 => rfl
  | 10 => rfl
  | q + 11 => rfl
theorem moE_shapes {G : gG} {a : Nat} {I : Nat → Int32} {J : Nat → Int64} {P : Nat → Nat → Int32} {Q : Nat → Nat → Int64} (j : Nat) (v : Int32) : va_up (moE G a I J P Q) 1 (.inl (G.2.1 0, 61, .inl (va_up (P 0) j v))) = moE G a I J (va_up P 0 (va_up (P 0) j v)) Q := by
  funext q
  match q with
  | 0 => rfl
  | 1 => rfl
  | 2 => rfl
  | 3 => rfl
  | 4 => rfl
  | 5 => rfl
  | 6 => rfl
  | 7 => rfl
  | 8 => rfl
  | 9 => rfl
  | 10 => rfl
  | q + 11 => rfl
theorem moE_hards {G : gG} {a : Nat} {I : Nat → Int32} {J : Nat → Int64} {P : Nat → Nat → Int32} {Q : Nat → Nat → Int64} (j : Nat) (v : Int32) : va_up (moE G a I J P Q) 2 (.inl (G.2.1 0, 61, .inl (va_up (P 1) j v))) = moE G a I J (va_up P 1 (va_up (P 1) j v)) Q := by
  funext q
  match q with
  | 0 => rfl
  | 1 => rfl
  | 2 => rfl
  | 3 => rfl
  | 4 => rfl
  | 5 => rfl
  | 6 => rfl
  | 7 => rfl
  | 8 => rfl
  | 9 => rfl
  | 10 => rfl
  | q + 11 => rfl
theorem moE_sizes {G : gG} {a : Nat} {I : Nat → Int32} {J : Nat → Int64} {P : Nat → Nat → Int32} {Q : Nat → Nat → Int64} (j : Nat) (v : Int32) : va_up (moE G a I J P Q) 3 (.inl (G.2.1 0, 61, .inl (va_up (P 2) j v))) = moE G a I J (va_up P 2 (va_up (P 2) j v)) Q := by
  funext q
  match q with
  | 0 => rfl
  | 1 => rfl
  | 2 => rfl
  | 3 => rfl
  | 4 => rfl
  | 5 => rfl
  | 6 => rfl
  | 7 => rfl
  | 8 => rfl
  | 9 => rfl
  | 10 => rfl
  | q + 11 => rfl
theorem moE_levels {G : gG} {a : Nat} {I : Nat → Int32} {J : Nat → Int64} {P : Nat → Nat → Int32} {Q : Nat → Nat → Int64} (j : Nat) (v : Int64) : va_up (moE G a I J P Q) 4 (.inl (G.2.1 1, 732, .inr (.inl (va_up (Q 0) j v)))) = moE G a I J P (va_up Q 0 (va_up (Q 0) j v)) := by
  funext q
  match q with
  | 0 => rfl
  | 1 => rfl
  | 2 => rfl
  | 3 => rfl
  | 4 => rfl
  | 5 => rfl
  | 6 => rfl
  | 7 => rfl
  | 8 => rfl
  | 9 => rfl
  | 10 => rfl
  | q + 11 => rfl
theorem moE_weights {G : gG} {a : Nat} {I : Nat → Int32} {J : Nat → Int64} {P : Nat → Nat → Int32} {Q : Nat → Nat → Int64} (j : Nat) (v : Int64) : va_up (moE G a I J P Q) 5 (.inl (G.2.1 1, 144, .inr (.inl (va_up (Q 1) j v)))) = moE G a I J P (va_up Q 1 (va_up (Q 1) j v)) := by
  funext q
  match q with
  | 0 => rfl
  | 1 => rfl
  | 2 => rfl
  | 3 => rfl
  | 4 => rfl
  | 5 => rfl
  | 6 => rfl
  | 7 => rfl
  | 8 => rfl
  | 9 => rfl
  | 10 => rfl
  | q + 11 => rfl
theorem moE_counts {G : gG} {a : Nat} {I : Nat → Int32} {J : Nat → Int64} {P : Nat → Nat → Int32} {Q : Nat → Nat → Int64} (j : Nat) (v : Int32) : va_up (moE G a I J P Q) 6 (.inl (G.2.1 0, 12, .inl (va_up (P 3) j v))) = moE G a I J (va_up P 3 (va_up (P 3) j v)) Q := by
  funext q
  match q with
  | 0 => rfl
  | 1 => rfl
  | 2 => rfl
  | 3 => rfl
  | 4 => rfl
  | 5 => rfl
  | 6 => rfl
  | 7 => rfl
  | 8 => rfl
  | 9 => rfl
  | 10 => rfl
  | q + 11 => rfl
theorem moE_keeps {G : gG} {a : Nat} {I : Nat → Int32} {J : Nat → Int64} {P : Nat → Nat → Int32} {Q : Nat → Nat → Int64} (j : Nat) (v : Int64) : va_up (moE G a I J P Q) 7 (.inl (G.2.1 1, 72, .inr (.inl (va_up (Q 2) j v)))) = moE G a I J P (va_up Q 2 (va_up (Q 2) j v)) := by
  funext q
  match q with
  | 0 => rfl
  | 1 => rfl
  | 2 => rfl
  | 3 => rfl
  | 4 => rfl
  | 5 => rfl
  | 6 => rfl
  | 7 => rfl
  | 8 => rfl
  | 9 => rfl
  | 10 => rfl
  | q + 11 => rfl
theorem moE_tape {G : gG} {a : Nat} {I : Nat → Int32} {J : Nat → Int64} {P : Nat → Nat → Int32} {Q : Nat → Nat → Int64} (j : Nat) (v : Int32) : va_up (moE G a I J P Q) 8 (.inl (G.2.1 0, 300, .inl (va_up (P 4) j v))) = moE G a I J (va_up P 4 (va_up (P 4) j v)) Q := by
  funext q
  match q with
  | 0 => rfl
  | 1 => rfl
  | 2 => rfl
  | 3 => rfl
  | 4 => rfl
  | 5 => rfl
  | 6 => rfl
  | 7 => rfl
  | 8 => rfl
  | 9 => rfl
  | 10 => rfl
  | q + 11 => rfl
theorem moE_out {G : gG} {a : Nat} {I : Nat → Int32} {J : Nat → Int64} {P : Nat → Nat → Int32} {Q : Nat → Nat → Int64} (j : Nat) (v : Int32) : va_up (moE G a I J P Q) 9 (.inl (G.2.1 0, 400, .inl (va_up (P 5) j v))) = moE G a I J (va_up P 5 (va_up (P 5) j v)) Q := by
  funext q
  match q with
  | 0 => rfl
  | 1 => rfl
  | 2 => rfl
  | 3 => rfl
  | 4 => rfl
  | 5 => rfl
  | 6 => rfl
  | 7 => rfl
  | 8 => rfl
  | 9 => rfl
  | 10 => rfl
  | q + 11 => rfl
theorem moE_had {G : gG} {a : Nat} {I : Nat → Int32} {J : Nat → Int64} {P : Nat → Nat → Int32} {Q : Nat → Nat → Int64} (j : Nat) (v : Int64) : va_up (moE G a I J P Q) 10 (.inl (G.2.1 1, 12, .inr (.inl (va_up (Q 3) j v)))) = moE G a I J P (va_up Q 3 (va_up (Q 3) j v)) := by
  funext q
  match q with
  | 0 => rfl
  | 1 => rfl
  | 2 => rfl
  | 3 => rfl
  | 4 => rfl
  | 5 => rfl
  | 6 => rfl
  | 7 => rfl
  | 8 => rfl
  | 9 => rfl
  | 10 => rfl
  | q + 11 => rfl
section MROWS
variable {G : gG} {C : Cx} {k n pc : Nat} {L : Nat → Option Value} {st : List Value} {hh : List (Nat × Nat × Nat × Nat)} {cc : ByteArray} {nL : Nat} {rt : Option FieldType} {rm : Room} {post : gRes → gM → Prop} {a : Nat} {I : Nat → Int32} {J : Nat → Int64} {P : Nat → Nat → Int32} {Q : Nat → Nat → Int64} {M0 : gM}
theorem mg_scores (hC : Ck G C hh cc RX4 nL rt rm post) (d : decode cc pc = .ok (.getfield 45, 3)) (kk : V G C (mkM G a I J P Q M0) k n (pc + 3) L (.int (I 0) :: st)) : V G C (mkM G a I J P Q M0) k n pc L (.ref a :: st) := V_get hC gc4 mkM_0 0 (by decide) q841 rfl rfl d kk
theorem mp_scores (hC : Ck G C hh cc RX4 nL rt rm post) {v : Int32} (d : decode cc pc = .ok (.putfield 45, 3)) (kk : V G C (mkM G a (va_up I 0 v) J P Q M0) k n (pc + 3) L st) : V G C (mkM G a I J P Q M0) k n pc L (.int v :: .ref a :: st) := V_put hC gc4 mkM_0 0 (by decide) q841 rfl rfl rfl rfl (Nat.le_of_ble_eq_true rfl) d (V.eqM ((gOv_up 0 (by decide) _).trans (congrArg (fun E => gOv a 11 E M0) (moE_I 0 (by decide) v))) kk)
theorem mg_shapes (hC : Ck G C hh cc RX4 nL rt rm post) (d : decode cc pc = .ok (.getfield 7, 3)) (kk : V G C (mkM G a I J P Q M0) k n (pc + 3) L (.ref (a + 1) :: st)) : V G C (mkM G a I J P Q M0) k n pc L (.ref a :: st) := V_get hC gc4 mkM_0 1 (by decide) q842 rfl rfl d kk
theorem mg_hards (hC : Ck G C hh cc RX4 nL rt rm post) (d : decode cc pc = .ok (.getfield 13, 3)) (kk : V G C (mkM G a I J P Q M0) k n (pc + 3) L (.ref (a + 2) :: st)) : V G C (mkM G a I J P Q M0) k n pc L (.ref a :: st) := V_get hC gc4 mkM_0 2 (by decide) q843 rfl rfl d kk
theorem mg_sizes (hC : Ck G C hh cc RX4 nL rt rm post) (d : decode cc pc = .ok (.getfield 16, 3)) (kk : V G C (mkM G a I J P Q M0) k n (pc + 3) L (.ref (a + 3) :: st)) : V G C (mkM G a I J P Q M0) k n pc L (.ref a :: st) := V_get hC gc4 mkM_0 3 (by decide) q844 rfl rfl d kk
theorem mg_levels (hC : Ck G C hh cc RX4 nL rt rm post) (d : decode cc pc = .ok (.getfield 19, 3)) (kk : V G C (mkM G a I J P Q M0) k n (pc + 3) L (.ref (a + 4) :: st)) : V G C (mkM G a I J P Q M0) k n pc L (.ref a :: st) := V_get hC gc4 mkM_0 4 (by decide) q845 rfl rfl d kk
theorem mg_planShape (hC : Ck G C hh cc RX4 nL rt rm post) (d : decode cc pc = .ok (.getfield 52, 3)) (kk : V G C (mkM G a I J P Q M0) k n (pc + 3) L (.int (I 1) :: st)) : V G C (mkM G a I J P Q M0) k n pc L (.ref a :: st) := V_get hC gc4 mkM_0 5 (by decide) q846 rfl rfl d kk
theorem mp_planShape (hC : Ck G C hh cc RX4 nL rt rm post) {v : Int32} (d : decode cc pc = .ok (.putfield 52, 3)) (kk : V G C (mkM G a (va_up I 1 v) J P Q M0) k n (pc + 3) L st) : V G C (mkM G a I J P Q M0) k n pc L (.int v :: .ref a :: st) := V_put hC gc4 mkM_0 5 (by decide) q846 rfl rfl rfl rfl (Nat.le_of_ble_eq_true rfl) d (V.eqM ((gOv_up 0 (by decide) _).trans (congrArg (fun E => gOv a 11 E M0) (moE_I 1 (by decide) v))) kk)
theorem mg_planHard (hC : Ck G C hh cc RX4 nL rt rm post) (d : decode cc pc = .ok (.getfield 55, 3)) (kk : V G C (mkM G a I J P Q M0) k n (pc + 3) L (.int (I 2) :: st)) : V G C (mkM G a I J P Q M0) k n pc L (.ref a :: st) := V_get hC gc4 mkM_0 6 (by decide) q847 rfl rfl d kk
theorem mp_planHard (hC : Ck G C hh cc RX4 nL rt rm post) {v : Int32} (d : decode cc pc = .ok (.putfield 55, 3)) (kk : V G C (mkM G a (va_up I 2 v) J P Q M0) k n (pc + 3) L st) : V G C (mkM G a I J P Q M0) k n pc L (.int v :: .ref a :: st) := V_put hC gc4 mkM_0 6 (by decide) q847 rfl rfl rfl rfl (Nat.le_of_ble_eq_true rfl) d (V.eqM ((gOv_up 0 (by decide) _).trans (congrArg (fun E => gOv a 11 E M0) (moE_I 2 (by decide) v))) kk)
theorem mg_planSize (hC : Ck G C hh cc RX4 nL rt rm post) (d : decode cc pc = .ok (.getfield 23, 3)) (kk : V G C (mkM G a I J P Q M0) k n (pc + 3) L (.int (I 3) :: st)) : V G C (mkM G a I J P Q M0) k n pc L (.ref a :: st) := V_get hC gc4 mkM_0 7 (by decide) q848 rfl rfl d kk
theorem mp_planSize (hC : Ck G C hh cc RX4 nL rt rm post) {v : Int32} (d : decode cc pc = .ok (.putfield 23, 3)) (kk : V G C (mkM G a (va_up I 3 v) J P Q M0) k n (pc + 3) L st) : V G C (mkM G a I J P Q M0) k n pc L (.int v :: .ref a :: st) := V_put hC gc4 mkM_0 7 (by decide) q848 rfl rfl rfl rfl (Nat.le_of_ble_eq_true rfl) d (V.eqM ((gOv_up 0 (by decide) _).trans (congrArg (fun E => gOv a 11 E M0) (moE_I 3 (by decide) v))) kk)
theorem mg_rules (hC : Ck G C hh cc RX4 nL rt rm post) (d : decode cc pc = .ok (.getfield 198, 3)) (kk : V G C (mkM G a I J P Q M0) k n (pc + 3) L (.int (I 4) :: st)) : V G C (mkM G a I J P Q M0) k n pc L (.ref a :: st) := V_get hC gc4 mkM_0 8 (by decide) q849 rfl rfl d kk
theorem mp_rules (hC : Ck G C hh cc RX4 nL rt rm post) {v : Int32} (d : decode cc pc = .ok (.putfield 198, 3)) (kk : V G C (mkM G a (va_up I 4 v) J P Q M0) k n (pc + 3) L st) : V G C (mkM G a I J P Q M0) k n pc L (.int v :: .ref a :: st) := V_put hC gc4 mkM_0 8 (by decide) q849 rfl rfl rfl rfl (Nat.le_of_ble_eq_true rfl) d (V.eqM ((gOv_up 0 (by decide) _).trans (congrArg (fun E => gOv a 11 E M0) (moE_I 4 (by decide) v))) kk)
theorem mg_weights (hC : Ck G C hh cc RX4 nL rt rm post) (d : decode cc pc = .ok (.getfield 27, 3)) (kk : V G C (mkM G a I J P Q M0) k n (pc + 3) L (.ref (a + 5) :: st)) : V G C (mkM G a I J P Q M0) k n pc L (.ref a :: st) := V_get hC gc4 mkM_0 9 (by decide) q850 rfl rfl d kk
theorem mg_counts (hC : Ck G C hh cc RX4 nL rt rm post) (d : decode cc pc = .ok (.getfield 30, 3)) (kk : V G C (mkM G a I J P Q M0) k n (pc + 3) L (.ref (a + 6) :: st)) : V G C (mkM G a I J P Q M0) k n pc L (.ref a :: st) := V_get hC gc4 mkM_0 10 (by decide) q851 rfl rfl d kk
theorem mg_kept (hC : Ck G C hh cc RX4 nL rt rm post) (d : decode cc pc = .ok (.getfield 201, 3)) (kk : V G C (mkM G a I J P Q M0) k n (pc + 3) L (.int (I 5) :: st)) : V G C (mkM G a I J P Q M0) k n pc L (.ref a :: st) := V_get hC gc4 mkM_0 11 (by decide) q852 rfl rfl d kk
theorem mp_kept (hC : Ck G C hh cc RX4 nL rt rm post) {v : Int32} (d : decode cc pc = .ok (.putfield 201, 3)) (kk : V G C (mkM G a (va_up I 5 v) J P Q M0) k n (pc + 3) L st) : V G C (mkM G a I J P Q M0) k n pc L (.int v :: .ref a :: st) := V_put hC gc4 mkM_0 11 (by decide) q852 rfl rfl rfl rfl (Nat.le_of_ble_eq_true rfl) d (V.eqM ((gOv_up 0 (by decide) _).trans (congrArg (fun E => gOv a 11 E M0) (moE_I 5 (by decide) v))) kk)
theorem mg_keeps (hC : Ck G C hh cc RX4 nL rt rm post) (d : decode cc pc = .ok (.getfield 33, 3)) (kk : V G C (mkM G a I J P Q M0) k n (pc + 3) L (.ref (a + 7) :: st)) : V G C (mkM G a I J P Q M0) k n pc L (.ref a :: st) := V_get hC gc4 mkM_0 12 (by decide) q853 rfl rfl d kk
theorem mg_tapeSize (hC : Ck G C hh cc RX4 nL rt rm post) (d : decode cc pc = .ok (.getfield 124, 3)) (kk : V G C (mkM G a I J P Q M0) k n (pc + 3) L (.int (I 6) :: st)) : V G C (mkM G a I J P Q M0) k n pc L (.ref a :: st) := V_get hC gc4 mkM_0 13 (by decide) q854 rfl rfl d kk
theorem mp_tapeSize (hC : Ck G C hh cc RX4 nL rt rm post) {v : Int32} (d : decode cc pc = .ok (.putfield 124, 3)) (kk : V G C (mkM G a (va_up I 6 v) J P Q M0) k n (pc + 3) L st) : V G C (mkM G a I J P Q M0) k n pc L (.int v :: .ref a :: st) := V_put hC gc4 mkM_0 13 (by decide) q854 rfl rfl rfl rfl (Nat.le_of_ble_eq_true rfl) d (V.eqM ((gOv_up 0 (by decide) _).trans (congrArg (fun E => gOv a 11 E M0) (moE_I 6 (by decide) v))) kk)
theorem mg_tape (hC : Ck G C hh cc RX4 nL rt rm post) (d : decode cc pc = .ok (.getfield 36, 3)) (kk : V G C (mkM G a I J P Q M0) k n (pc + 3) L (.ref (a + 8) :: st)) : V G C (mkM G a I J P Q M0) k n pc L (.ref a :: st) := V_get hC gc4 mkM_0 14 (by decide) q855 rfl rfl d kk
theorem mg_outSize (hC : Ck G C hh cc RX4 nL rt rm post) (d : decode cc pc = .ok (.getfield 178, 3)) (kk : V G C (mkM G a I J P Q M0) k n (pc + 3) L (.int (I 7) :: st)) : V G C (mkM G a I J P Q M0) k n pc L (.ref a :: st) := V_get hC gc4 mkM_0 15 (by decide) q856 rfl rfl d kk
theorem mp_outSize (hC : Ck G C hh cc RX4 nL rt rm post) {v : Int32} (d : decode cc pc = .ok (.putfield 178, 3)) (kk : V G C (mkM G a (va_up I 7 v) J P Q M0) k n (pc + 3) L st) : V G C (mkM G a I J P Q M0) k n pc L (.int v :: .ref a :: st) := V_put hC gc4 mkM_0 15 (by decide) q856 rfl rfl rfl rfl (Nat.le_of_ble_eq_true rfl) d (V.eqM ((gOv_up 0 (by decide) _).trans (congrArg (fun E => gOv a 11 E M0) (moE_I 7 (by decide) v))) kk)
theorem mg_out (hC : Ck G C hh cc RX4 nL rt rm post) (d : decode cc pc = .ok (.getfield 39, 3)) (kk : V G C (mkM G a I J P Q M0) k n (pc + 3) L (.ref (a + 9) :: st)) : V G C (mkM G a I J P Q M0) k n pc L (.ref a :: st) := V_get hC gc4 mkM_0 16 (by decide) q857 rfl rfl d kk
theorem mg_thrown (hC : Ck G C hh cc RX4 nL rt rm post) (d : decode cc pc = .ok (.getfield 75, 3)) (kk : V G C (mkM G a I J P Q M0) k n (pc + 3) L (.int (I 8) :: st)) : V G C (mkM G a I J P Q M0) k n pc L (.ref a :: st) := V_get hC gc4 mkM_0 17 (by decide) q858 rfl rfl d kk
theorem mp_thrown (hC : Ck G C hh cc RX4 nL rt rm post) {v : Int32} (d : decode cc pc = .ok (.putfield 75, 3)) (kk : V G C (mkM G a (va_up I 8 v) J P Q M0) k n (pc + 3) L st) : V G C (mkM G a I J P Q M0) k n pc L (.int v :: .ref a :: st) := V_put hC gc4 mkM_0 17 (by decide) q858 rfl rfl rfl rfl (Nat.le_of_ble_eq_true rfl) d (V.eqM ((gOv_up 0 (by decide) _).trans (congrArg (fun E => gOv a 11 E M0) (moE_I 8 (by decide) v))) kk)
theorem mg_high (hC : Ck G C hh cc RX4 nL rt rm post) (d : decode cc pc = .ok (.getfield 78, 3)) (kk : V G C (mkM G a I J P Q M0) k n (pc + 3) L (.long (J 0) :: st)) : V G C (mkM G a I J P Q M0) k n pc L (.ref a :: st) := V_get hC gc4 mkM_0 18 (by decide) q859 rfl rfl d kk
theorem mp_high (hC : Ck G C hh cc RX4 nL rt rm post) {v : Int64} (d : decode cc pc = .ok (.putfield 78, 3)) (kk : V G C (mkM G a I (va_up J 0 v) P Q M0) k n (pc + 3) L st) : V G C (mkM G a I J P Q M0) k n pc L (.long v :: .ref a :: st) := V_put hC gc4 mkM_0 18 (by decide) q859 rfl rfl rfl rfl (Nat.le_of_ble_eq_true rfl) d (V.eqM ((gOv_up 0 (by decide) _).trans (congrArg (fun E => gOv a 11 E M0) (moE_J 0 v))) kk)
theorem mg_low (hC : Ck G C hh cc RX4 nL rt rm post) (d : decode cc pc = .ok (.getfield 82, 3)) (kk : V G C (mkM G a I J P Q M0) k n (pc + 3) L (.long (J 1) :: st)) : V G C (mkM G a I J P Q M0) k n pc L (.ref a :: st) := V_get hC gc4 mkM_0 19 (by decide) q860 rfl rfl d kk
theorem mp_low (hC : Ck G C hh cc RX4 nL rt rm post) {v : Int64} (d : decode cc pc = .ok (.putfield 82, 3)) (kk : V G C (mkM G a I (va_up J 1 v) P Q M0) k n (pc + 3) L st) : V G C (mkM G a I J P Q M0) k n pc L (.long v :: .ref a :: st) := V_put hC gc4 mkM_0 19 (by decide) q860 rfl rfl rfl rfl (Nat.le_of_ble_eq_true rfl) d (V.eqM ((gOv_up 0 (by decide) _).trans (congrArg (fun E => gOv a 11 E M0) (moE_J 1 v))) kk)
theorem mg_place (hC : Ck G C hh cc RX4 nL rt rm post) (d : decode cc pc = .ok (.getfield 127, 3)) (kk : V G C (mkM G a I J P Q M0) k n (pc + 3) L (.int (I 9) :: st)) : V G C (mkM G a I J P Q M0) k n pc L (.ref a :: st) := V_get hC gc4 mkM_0 20 (by decide) q861 rfl rfl d kk
theorem mp_place (hC : Ck G C hh cc RX4 nL rt rm post) {v : Int32} (d : decode cc pc = .ok (.putfield 127, 3)) (kk : V G C (mkM G a (va_up I 9 v) J P Q M0) k n (pc + 3) L st) : V G C (mkM G a I J P Q M0) k n pc L (.int v :: .ref a :: st) := V_put hC gc4 mkM_0 20 (by decide) q861 rfl rfl rfl rfl (Nat.le_of_ble_eq_true rfl) d (V.eqM ((gOv_up 0 (by decide) _).trans (congrArg (fun E => gOv a 11 E M0) (moE_I 9 (by decide) v))) kk)
theorem mg_stuck (hC : Ck G C hh cc RX4 nL rt rm post) (d : decode cc pc = .ok (.getfield 137, 3)) (kk : V G C (mkM G a I J P Q M0) k n (pc + 3) L (.int (I 10) :: st)) : V G C (mkM G a I J P Q M0) k n pc L (.ref a :: st) := V_get hC gc4 mkM_0 21 (by decide) q862 rfl rfl d kk
theorem mp_stuck (hC : Ck G C hh cc RX4 nL rt rm post) {v : Int32} (d : decode cc pc = .ok (.putfield 137, 3)) (hz : narrow .boolean (.int v) = .int v) (hf : fits .boolean (.int v) = true) (kk : V G C (mkM G a (va_up I 10 v) J P Q M0) k n (pc + 3) L st) : V G C (mkM G a I J P Q M0) k n pc L (.int v :: .ref a :: st) := V_put hC gc4 mkM_0 21 (by decide) q862 rfl rfl hz hf (Nat.le_of_ble_eq_true rfl) d (V.eqM ((gOv_up 0 (by decide) _).trans (congrArg (fun E => gOv a 11 E M0) (moE_I 10 (by decide) v))) kk)
theorem mg_read (hC : Ck G C hh cc RX4 nL rt rm post) (d : decode cc pc = .ok (.getfield 156, 3)) (kk : V G C (mkM G a I J P Q M0) k n (pc + 3) L (.long (J 2) :: st)) : V G C (mkM G a I J P Q M0) k n pc L (.ref a :: st) := V_get hC gc4 mkM_0 22 (by decide) q863 rfl rfl d kk
theorem mp_read (hC : Ck G C hh cc RX4 nL rt rm post) {v : Int64} (d : decode cc pc = .ok (.putfield 156, 3)) (kk : V G C (mkM G a I (va_up J 2 v) P Q M0) k n (pc + 3) L st) : V G C (mkM G a I J P Q M0) k n pc L (.long v :: .ref a :: st) := V_put hC gc4 mkM_0 22 (by decide) q863 rfl rfl rfl rfl (Nat.le_of_ble_eq_true rfl) d (V.eqM ((gOv_up 0 (by decide) _).trans (congrArg (fun E => gOv a 11 E M0) (moE_J 2 v))) kk)
theorem mg_had (hC : Ck G C hh cc RX4 nL rt rm post) (d : decode cc pc = .ok (.getfield 42, 3)) (kk : V G C (mkM G a I J P Q M0) k n (pc + 3) L (.ref (a + 10) :: st)) : V G C (mkM G a I J P Q M0) k n pc L (.ref a :: st) := V_get hC gc4 mkM_0 23 (by decide) q864 rfl rfl d kk
theorem ml_shapes (hC : Ck G C hh cc RX4 nL rt rm post) {i : Int32} (j : Nat) (hi : i = nI j) (hj : j < 61) (d : decode cc pc = .ok (.iaload, 1)) (kk : V G C (mkM G a I J P Q M0) k n (pc + 1) L (.int (P 0 j) :: st)) : V G C (mkM G a I J P Q M0) k n pc L (.int i :: .ref (a + 1) :: st) := V_iald hC (mkM_at 1 (by decide)) j hi hj (by decide) d kk
theorem ms_shapes (hC : Ck G C hh cc RX4 nL rt rm post) {i v : Int32} (j : Nat) (hi : i = nI j) (hj : j < 61) (d : decode cc pc = .ok (.iastore, 1)) (kk : V G C (mkM G a I J (va_up P 0 (va_up (P 0) j v)) Q M0) k n (pc + 1) L st) : V G C (mkM G a I J P Q M0) k n pc L (.int v :: .int i :: .ref (a + 1) :: st) := V_iast hC (mkM_at 1 (by decide)) j hi hj (by decide) d (V.eqM ((gOv_up 1 (by decide) _).trans (congrArg (fun E => gOv a 11 E M0) (moE_shapes j v))) kk)
theorem ml_hards (hC : Ck G C hh cc RX4 nL rt rm post) {i : Int32} (j : Nat) (hi : i = nI j) (hj : j < 61) (d : decode cc pc = .ok (.iaload, 1)) (kk : V G C (mkM G a I J P Q M0) k n (pc + 1) L (.int (P 1 j) :: st)) : V G C (mkM G a I J P Q M0) k n pc L (.int i :: .ref (a + 2) :: st) := V_iald hC (mkM_at 2 (by decide)) j hi hj (by decide) d kk
theorem ms_hards (hC : Ck G C hh cc RX4 nL rt rm post) {i v : Int32} (j : Nat) (hi : i = nI j) (hj : j < 61) (d : decode cc pc = .ok (.iastore, 1)) (kk : V G C (mkM G a I J (va_up P 1 (va_up (P 1) j v)) Q M0) k n (pc + 1) L st) : V G C (mkM G a I J P Q M0) k n pc L (.int v :: .int i :: .ref (a + 2) :: st) := V_iast hC (mkM_at 2 (by decide)) j hi hj (by decide) d (V.eqM ((gOv_up 2 (by decide) _).trans (congrArg (fun E => gOv a 11 E M0) (moE_hards j v))) kk)
theorem ml_sizes (hC : Ck G C hh cc RX4 nL rt rm post) {i : Int32} (j : Nat) (hi : i = nI j) (hj : j < 61) (d : decode cc pc = .ok (.iaload, 1)) (kk : V G C (mkM G a I J P Q M0) k n (pc + 1) L (.int (P 2 j) :: st)) : V G C (mkM G a I J P Q M0) k n pc L (.int i :: .ref (a + 3) :: st) := V_iald hC (mkM_at 3 (by decide)) j hi hj (by decide) d kk
theorem ms_sizes (hC : Ck G C hh cc RX4 nL rt rm post) {i v : Int32} (j : Nat) (hi : i = nI j) (hj : j < 61) (d : decode cc pc = .ok (.iastore, 1)) (kk : V G C (mkM G a I J (va_up P 2 (va_up (P 2) j v)) Q M0) k n (pc + 1) L st) : V G C (mkM G a I J P Q M0) k n pc L (.int v :: .int i :: .ref (a + 3) :: st) := V_iast hC (mkM_at 3 (by decide)) j hi hj (by decide) d (V.eqM ((gOv_up 3 (by decide) _).trans (congrArg (fun E => gOv a 11 E M0) (moE_sizes j v))) kk)
theorem ml_levels (hC : Ck G C hh cc RX4 nL rt rm post) {i : Int32} (j : Nat) (hi : i = nI j) (hj : j < 732) (d : decode cc pc = .ok (.laload, 1)) (kk : V G C (mkM G a I J P Q M0) k n (pc + 1) L (.long (Q 0 j) :: st)) : V G C (mkM G a I J P Q M0) k n pc L (.int i :: .ref (a + 4) :: st) := V_lald hC (mkM_at 4 (by decide)) j hi hj (by decide) d kk
theorem ms_levels (hC : Ck G C hh cc RX4 nL rt rm post) {i : Int32} {v : Int64} (j : Nat) (hi : i = nI j) (hj : j < 732) (d : decode cc pc = .ok (.lastore, 1)) (kk : V G C (mkM G a I J P (va_up Q 0 (va_up (Q 0) j v)) M0) k n (pc + 1) L st) : V G C (mkM G a I J P Q M0) k n pc L (.long v :: .int i :: .ref (a + 4) :: st) := V_last hC (mkM_at 4 (by decide)) j hi hj (by decide) d (V.eqM ((gOv_up 4 (by decide) _).trans (congrArg (fun E => gOv a 11 E M0) (moE_levels j v))) kk)
theorem ml_weights (hC : Ck G C hh cc RX4 nL rt rm post) {i : Int32} (j : Nat) (hi : i = nI j) (hj : j < 144) (d : decode cc pc = .ok (.laload, 1)) (kk : V G C (mkM G a I J P Q M0) k n (pc + 1) L (.long (Q 1 j) :: st)) : V G C (mkM G a I J P Q M0) k n pc L (.int i :: .ref (a + 5) :: st) := V_lald hC (mkM_at 5 (by decide)) j hi hj (by decide) d kk
theorem ms_weights (hC : Ck G C hh cc RX4 nL rt rm post) {i : Int32} {v : Int64} (j : Nat) (hi : i = nI j) (hj : j < 144) (d : decode cc pc = .ok (.lastore, 1)) (kk : V G C (mkM G a I J P (va_up Q 1 (va_up (Q 1) j v)) M0) k n (pc + 1) L st) : V G C (mkM G a I J P Q M0) k n pc L (.long v :: .int i :: .ref (a + 5) :: st) := V_last hC (mkM_at 5 (by decide)) j hi hj (by decide) d (V.eqM ((gOv_up 5 (by decide) _).trans (congrArg (fun E => gOv a 11 E M0) (moE_weights j v))) kk)
theorem ml_counts (hC : Ck G C hh cc RX4 nL rt rm post) {i : Int32} (j : Nat) (hi : i = nI j) (hj : j < 12) (d : decode cc pc = .ok (.iaload, 1)) (kk : V G C (mkM G a I J P Q M0) k n (pc + 1) L (.int (P 3 j) :: st)) : V G C (mkM G a I J P Q M0) k n pc L (.int i :: .ref (a + 6) :: st) := V_iald hC (mkM_at 6 (by decide)) j hi hj (by decide) d kk
theorem ms_counts (hC : Ck G C hh cc RX4 nL rt rm post) {i v : Int32} (j : Nat) (hi : i = nI j) (hj : j < 12) (d : decode cc pc = .ok (.iastore, 1)) (kk : V G C (mkM G a I J (va_up P 3 (va_up (P 3) j v)) Q M0) k n (pc + 1) L st) : V G C (mkM G a I J P Q M0) k n pc L (.int v :: .int i :: .ref (a + 6) :: st) := V_iast hC (mkM_at 6 (by decide)) j hi hj (by decide) d (V.eqM ((gOv_up 6 (by decide) _).trans (congrArg (fun E => gOv a 11 E M0) (moE_counts j v))) kk)
theorem ml_keeps (hC : Ck G C hh cc RX4 nL rt rm post) {i : Int32} (j : Nat) (hi : i = nI j) (hj : j < 72) (d : decode cc pc = .ok (.laload, 1)) (kk : V G C (mkM G a I J P Q M0) k n (pc + 1) L (.long (Q 2 j) :: st)) : V G C (mkM G a I J P Q M0) k n pc L (.int i :: .ref (a + 7) :: st) := V_lald hC (mkM_at 7 (by decide)) j hi hj (by decide) d kk
theorem ms_keeps (hC : Ck G C hh cc RX4 nL rt rm post) {i : Int32} {v : Int64} (j : Nat) (hi : i = nI j) (hj : j < 72) (d : decode cc pc = .ok (.lastore, 1)) (kk : V G C (mkM G a I J P (va_up Q 2 (va_up (Q 2) j v)) M0) k n (pc + 1) L st) : V G C (mkM G a I J P Q M0) k n pc L (.long v :: .int i :: .ref (a + 7) :: st) := V_last hC (mkM_at 7 (by decide)) j hi hj (by decide) d (V.eqM ((gOv_up 7 (by decide) _).trans (congrArg (fun E => gOv a 11 E M0) (moE_keeps j v))) kk)
theorem ml_tape (hC : Ck G C hh cc RX4 nL rt rm post) {i : Int32} (j : Nat) (hi : i = nI j) (hj : j < 300) (d : decode cc pc = .ok (.iaload, 1)) (kk : V G C (mkM G a I J P Q M0) k n (pc + 1) L (.int (P 4 j) :: st)) : V G C (mkM G a I J P Q M0) k n pc L (.int i :: .ref (a + 8) :: st) := V_iald hC (mkM_at 8 (by decide)) j hi hj (by decide) d kk
theorem ms_tape (hC : Ck G C hh cc RX4 nL rt rm post) {i v : Int32} (j : Nat) (hi : i = nI j) (hj : j < 300) (d : decode cc pc = .ok (.iastore, 1)) (kk : V G C (mkM G a I J (va_up P 4 (va_up (P 4) j v)) Q M0) k n (pc + 1) L st) : V G C (mkM G a I J P Q M0) k n pc L (.int v :: .int i :: .ref (a + 8) :: st) := V_iast hC (mkM_at 8 (by decide)) j hi hj (by decide) d (V.eqM ((gOv_up 8 (by decide) _).trans (congrArg (fun E => gOv a 11 E M0) (moE_tape j v))) kk)
theorem ml_out (hC : Ck G C hh cc RX4 nL rt rm post) {i : Int32} (j : Nat) (hi : i = nI j) (hj : j < 400) (d : decode cc pc = .ok (.iaload, 1)) (kk : V G C (mkM G a I J P Q M0) k n (pc + 1) L (.int (P 5 j) :: st)) : V G C (mkM G a I J P Q M0) k n pc L (.int i :: .ref (a + 9) :: st) := V_iald hC (mkM_at 9 (by decide)) j hi hj (by decide) d kk
theorem ms_out (hC : Ck G C hh cc RX4 nL rt rm post) {i v : Int32} (j : Nat) (hi : i = nI j) (hj : j < 400) (d : decode cc pc = .ok (.iastore, 1)) (kk : V G C (mkM G a I J (va_up P 5 (va_up (P 5) j v)) Q M0) k n (pc + 1) L st) : V G C (mkM G a I J P Q M0) k n pc L (.int v :: .int i :: .ref (a + 9) :: st) := V_iast hC (mkM_at 9 (by decide)) j hi hj (by decide) d (V.eqM ((gOv_up 9 (by decide) _).trans (congrArg (fun E => gOv a 11 E M0) (moE_out j v))) kk)
theorem ml_had (hC : Ck G C hh cc RX4 nL rt rm post) {i : Int32} (j : Nat) (hi : i = nI j) (hj : j < 12) (d : decode cc pc = .ok (.laload, 1)) (kk : V G C (mkM G a I J P Q M0) k n (pc + 1) L (.long (Q 3 j) :: st)) : V G C (mkM G a I J P Q M0) k n pc L (.int i :: .ref (a + 10) :: st) := V_lald hC (mkM_at 10 (by decide)) j hi hj (by decide) d kk
theorem ms_had (hC : Ck G C hh cc RX4 nL rt rm post) {i : Int32} {v : Int64} (j : Nat) (hi : i = nI j) (hj : j < 12) (d : decode cc pc = .ok (.lastore, 1)) (kk : V G C (mkM G a I J P (va_up Q 3 (va_up (Q 3) j v)) M0) k n (pc + 1) L st) : V G C (mkM G a I J P Q M0) k n pc L (.long v :: .int i :: .ref (a + 10) :: st) := V_last hC (mkM_at 10 (by decide)) j hi hj (by decide) d (V.eqM ((gOv_up 10 (by decide) _).trans (congrArg (fun E => gOv a 11 E M0) (moE_had j v))) kk)
end MROWS
def gHd (y : MethodName) (na : Nat) : Prop := (y.cls ≠ "java/lang/invoke/MethodHandle" ∧ y.cls ≠ "java/lang/invoke/VarHandle") ∧ (parseMethodDescriptor y.desc).map (fun d => d.parameters.length) = some na
/-- the words of a call through an object -/
def gWV (ow : String) (idx : Nat) (y : MethodName) (b : ByteArray) (L' : Nat) (r' : Option FieldType) (hh' : List (Nat × Nat × Nat × Nat)) (na : Nat) : Prop := Cond.methodLink ow idx y ∈ lw_all ∧ Cond.instanceMethod y ∈ lw_all ∧ Cond.initialized y.cls ∈ lw_all ∧ gCd y b L' r' hh' ∈ lw_all ∧ Cond.selects y.cls y y ∈ lw_all ∧ gHd y na
/-- the words of a static call -/
def gWT (ow : String) (idx : Nat) (y : MethodName) (b : ByteArray) (L' : Nat) (r' : Option FieldType) (hh' : List (Nat × Nat × Nat × Nat)) (na : Nat) : Prop := Cond.methodLink ow idx y ∈ lw_all ∧ Cond.static y ∈ lw_all ∧ Cond.initialized y.cls ∈ lw_all ∧ gCd y b L' r' hh' ∈ lw_all ∧ gHd y na
theorem mw_in : gWT RX4 48 yX4_in cX4_in 6 (some .boolean) [] 3 := ⟨q919, q920, q57, q921, ⟨by decide, by decide⟩, by decide +kernel⟩
theorem mw_lay : gWV RX4 60 yX4_lay cX4_lay 5 none [] 3 := ⟨q922, q924, q57, q925, qs26, ⟨by decide, by decide⟩, by decide +kernel⟩
theorem mw_keepScore : gWV RX4 64 yX4_keepScore cX4_keepScore 1 (some .int) [] 0 := ⟨q926, q928, q57, q929, qs27, ⟨by decide, by decide⟩, by decide +kernel⟩
theorem mw_isNumber : gWV RX4 68 yX4_isNumber cX4_isNumber 2 (some .boolean) [] 1 := ⟨q938, q940, q57, q941, qs28, ⟨by decide, by decide⟩, by decide +kernel⟩
theorem mw_isNothing : gWV RX4 72 yX4_isNothing cX4_isNothing 2 (some .boolean) [] 1 := ⟨q942, q944, q57, q945, qs29, ⟨by decide, by decide⟩, by decide +kernel⟩
theorem mw_areLike : gWV RX4 91 yX4_areLike cX4_areLike 3 (some .boolean) [] 2 := ⟨q967, q969, q57, q970, qs31, ⟨by decide, by decide⟩, by decide +kernel⟩
theorem mw_refusal : gWV RX4 97 yX4_refusal cX4_refusal 3 (some .int) [] 2 := ⟨q963, q965, q57, q966, qs30, ⟨by decide, by decide⟩, by decide +kernel⟩
theorem mw_compare : gWV RX4 101 yX4_compare cX4_compare 7 (some .int) [] 5 := ⟨q971, q973, q57, q974, qs32, ⟨by decide, by decide⟩, by decide +kernel⟩
theorem mw_zero : gWV RX4 105 yX4_zero cX4_zero 1 none [] 0 := ⟨q975, q977, q57, q978, qs33, ⟨by decide, by decide⟩, by decide +kernel⟩
theorem mw_add : gWV RX4 108 yX4_add cX4_add 5 none [] 2 := ⟨q979, q981, q57, q982, qs34, ⟨by decide, by decide⟩, by decide +kernel⟩
theorem mw_fits : gWV RX4 114 yX4_fits cX4_fits 1 (some .boolean) [] 0 := ⟨q985, q987, q57, q988, qs35, ⟨by decide, by decide⟩, by decide +kernel⟩
theorem mw_number : gWV RX4 118 yX4_number cX4_number 1 (some .long) [] 0 := ⟨q991, q993, q57, q994, qs36, ⟨by decide, by decide⟩, by decide +kernel⟩
theorem mw_here : gWV RX4 130 yX4_here cX4_here 1 (some .int) [] 0 := ⟨q1012, q1014, q57, q1015, qs37, ⟨by decide, by decide⟩, by decide +kernel⟩
theorem mw_letter : gWT RX4 141 yX4_letter cX4_letter 2 (some .long) [] 2 := ⟨q1048, q1049, q57, q1050, ⟨by decide, by decide⟩, by decide +kernel⟩
theorem mw_take : gWV RX4 145 yX4_take cX4_take 2 none [] 1 := ⟨q1020, q1022, q57, q1023, qs39, ⟨by decide, by decide⟩, by decide +kernel⟩
theorem mw_isFigure : gWV RX4 149 yX4_isFigure cX4_isFigure 1 (some .boolean) [] 0 := ⟨q1032, q1034, q57, q1035, qs42, ⟨by decide, by decide⟩, by decide +kernel⟩
theorem mw_figure : gWV RX4 159 yX4_figure cX4_figure 7 none [] 0 := ⟨q1028, q1030, q57, q1031, qs41, ⟨by decide, by decide⟩, by decide +kernel⟩
theorem mw_level : gWV RX4 162 yX4_level cX4_level 2 none [] 1 := ⟨q1040, q1042, q57, q1043, qs43, ⟨by decide, by decide⟩, by decide +kernel⟩
theorem mw_row : gWV RX4 165 yX4_row cX4_row 3 (some .int) [] 1 := ⟨q1024, q1026, q57, q1027, qs40, ⟨by decide, by decide⟩, by decide +kernel⟩
theorem mw_word : gWV RX4 169 yX4_word cX4_word 6 none [] 1 := ⟨q1044, q1046, q57, q1047, qs44, ⟨by decide, by decide⟩, by decide +kernel⟩
theorem mw_bent : gWV RX4 172 yX4_bent cX4_bent 3 none [] 0 := ⟨q1016, q1018, q57, q1019, qs38, ⟨by decide, by decide⟩, by decide +kernel⟩
theorem mw_plain : gWV RX4 175 yX4_plain cX4_plain 2 none [] 0 := ⟨q1051, q1053, q57, q1054, qs45, ⟨by decide, by decide⟩, by decide +kernel⟩
theorem mw_write : gWV RX4 181 yX4_write cX4_write 2 none [] 1 := ⟨q1063, q1065, q57, q1066, qs47, ⟨by decide, by decide⟩, by decide +kernel⟩
theorem mw_writeNumber : gWV RX4 188 yX4_writeNumber cX4_writeNumber 9 none [] 1 := ⟨q1067, q1069, q57, q1070, qs48, ⟨by decide, by decide⟩, by decide +kernel⟩
theorem mw_writeRow : gWV RX4 192 yX4_writeRow cX4_writeRow 5 none [] 3 := ⟨q1059, q1061, q57, q1062, qs46, ⟨by decide, by decide⟩, by decide +kernel⟩
theorem mw_writeWord : gWV RX4 195 yX4_writeWord cX4_writeWord 6 none [] 1 := ⟨q1073, q1075, q57, q1076, qs49, ⟨by decide, by decide⟩, by decide +kernel⟩
theorem mw_isLikePlan : gWV RX4 204 yX4_isLikePlan cX4_isLikePlan 2 (some .boolean) [] 1 := ⟨q1089, q1091, q57, q1092, qs50, ⟨by decide, by decide⟩, by decide +kernel⟩
theorem mw_layPart : gWV RX4 207 yX4_layPart cX4_layPart 3 none [] 2 := ⟨q1102, q1104, q57, q1105, qs52, ⟨by decide, by decide⟩, by decide +kernel⟩
theorem mw_hasRoom : gWV RX4 213 yX4_hasRoom cX4_hasRoom 4 (some .boolean) [] 0 := ⟨q1098, q1100, q57, q1101, qs51, ⟨by decide, by decide⟩, by decide +kernel⟩
section MCALLS
variable {G : gG} {C : Cx} {M : gM} {k n pc : Nat} {L : Nat → Option Value} {st : List Value} {hh : List (Nat × Nat × Nat × Nat)} {cc : ByteArray} {ow : String} {nL : Nat} {rt : Option FieldType} {rm : Room} {post : gRes → gM → Prop} {a : Nat} {I : Nat → Int32} {J : Nat → Int64} {P : Nat → Nat → Int32} {Q : Nat → Nat → Int64} {M0 : gM} {y : MethodName} {b : ByteArray} {L' : Nat} {r' : Option FieldType} {rm' : Room} {M1 : gM} {index : Nat} {v : Value}
theorem mc0v (hC : Ck G C hh cc RX4 nL rt rm post) (hM : gMet C.l y (gWs y b L' r' []) rm' G (.ref a :: []) (mkM G a I J P Q M0) (gRv v M1)) (hy : y.cls = RX4) (w : gWV RX4 index y b L' r' [] 0) (hR : (rm'.frames + 1 ≤ rm.frames ∧ 8 + (L' + 11) + rm'.locals ≤ rm.locals) ∧ rm'.cells = 0 ∧ rm'.slots = 0) (hk : k ≤ rm.cells ∧ n ≤ rm.slots) (hst : (st.map fun v => v.category).sum ≤ 8) (d : decode cc pc = .ok (.invokevirtual index, 3)) (kk : V G C M1 k n (pc + 3) L (v :: st)) : V G C (mkM G a I J P Q M0) k n pc L (.ref a :: st) := by
  refine V_callV (As := []) hC hM mkM_0 (T0 := TX4) (N := 24) (by rw [hy]; rfl) w.1 w.2.1 w.2.2.1 w.2.2.2.1 w.2.2.2.2.1 w.2.2.2.2.2 ⟨hR.1, by rw [hR.2.1]; exact hk.1, by rw [hR.2.2]; exact hk.2⟩ hst d (fun v' M' h => ?_) (fun X M' h => absurd h.1 (by simp))
  obtain ⟨h1, h2⟩ := h
  cases h1
  subst h2
  rw [hR.2.1, hR.2.2]
  exact kk
theorem mt0v (hC : Ck G C hh cc ow nL rt rm post) (hM : gMet C.l y (gWs y b L' r' []) rm' G [] M (gRv v M1)) (w : gWT ow index y b L' r' [] 0) (hR : (rm'.frames + 1 ≤ rm.frames ∧ 8 + (L' + 11) + rm'.locals ≤ rm.locals) ∧ rm'.cells = 0 ∧ rm'.slots = 0) (hk : k ≤ rm.cells ∧ n ≤ rm.slots) (hst : (st.map fun v => v.category).sum ≤ 8) (d : decode cc pc = .ok (.invokestatic index, 3)) (kk : V G C M1 k n (pc + 3) L (v :: st)) : V G C M k n pc L (st) := by
  refine V_callS (As := []) hC hM w.1 w.2.1 w.2.2.1 w.2.2.2.1 w.2.2.2.2 ⟨hR.1, by rw [hR.2.1]; exact hk.1, by rw [hR.2.2]; exact hk.2⟩ hst d (fun v' M' h => ?_) (fun X M' h => absurd h.1 (by simp))
  obtain ⟨h1, h2⟩ := h
  cases h1
  subst h2
  rw [hR.2.1, hR.2.2]
  exact kk
theorem mc0n (hC : Ck G C hh cc RX4 nL rt rm post) (hM : gMet C.l y (gWs y b L' r' []) rm' G (.ref a :: []) (mkM G a I J P Q M0) (gRn M1)) (hy : y.cls = RX4) (w : gWV RX4 index y b L' r' [] 0) (hR : (rm'.frames + 1 ≤ rm.frames ∧ 8 + (L' + 11) + rm'.locals ≤ rm.locals) ∧ rm'.cells = 0 ∧ rm'.slots = 0) (hk : k ≤ rm.cells ∧ n ≤ rm.slots) (hst : (st.map fun v => v.category).sum ≤ 8) (d : decode cc pc = .ok (.invokevirtual index, 3)) (kk : V G C M1 k n (pc + 3) L st) : V G C (mkM G a I J P Q M0) k n pc L (.ref a :: st) := by
  refine V_callV (As := []) hC hM mkM_0 (T0 := TX4) (N := 24) (by rw [hy]; rfl) w.1 w.2.1 w.2.2.1 w.2.2.2.1 w.2.2.2.2.1 w.2.2.2.2.2 ⟨hR.1, by rw [hR.2.1]; exact hk.1, by rw [hR.2.2]; exact hk.2⟩ hst d (fun v' M' h => ?_) (fun X M' h => absurd h.1 (by simp))
  obtain ⟨h1, h2⟩ := h
  cases h1
  subst h2
  rw [hR.2.1, hR.2.2]
  exact kk
theorem mt0n (hC : Ck G C hh cc ow nL rt rm post) (hM : gMet C.l y (gWs y b L' r' []) rm' G [] M (gRn M1)) (w : gWT ow index y b L' r' [] 0) (hR : (rm'.frames + 1 ≤ rm.frames ∧ 8 + (L' + 11) + rm'.locals ≤ rm.locals) ∧ rm'.cells = 0 ∧ rm'.slots = 0) (hk : k ≤ rm.cells ∧ n ≤ rm.slots) (hst : (st.map fun v => v.category).sum ≤ 8) (d : decode cc pc = .ok (.invokestatic index, 3)) (kk : V G C M1 k n (pc + 3) L st) : V G C M k n pc L (st) := by
  refine V_callS (As := []) hC hM w.1 w.2.1 w.2.2.1 w.2.2.2.1 w.2.2.2.2 ⟨hR.1, by rw [hR.2.1]; exact hk.1, by rw [hR.2.2]; exact hk.2⟩ hst d (fun v' M' h => ?_) (fun X M' h => absurd h.1 (by simp))
  obtain ⟨h1, h2⟩ := h
  cases h1
  subst h2
  rw [hR.2.1, hR.2.2]
  exact kk
theorem mc1v (hC : Ck G C hh cc RX4 nL rt rm post) {x1 : Value} (hM : gMet C.l y (gWs y b L' r' []) rm' G (.ref a :: [x1]) (mkM G a I J P Q M0) (gRv v M1)) (hy : y.cls = RX4) (w : gWV RX4 index y b L' r' [] 1) (hR : (rm'.frames + 1 ≤ rm.frames ∧ 8 + (L' + 11) + rm'.locals ≤ rm.locals) ∧ rm'.cells = 0 ∧ rm'.slots = 0) (hk : k ≤ rm.cells ∧ n ≤ rm.slots) (hst : (st.map fun v => v.category).sum ≤ 8) (d : decode cc pc = .ok (.invokevirtual index, 3)) (kk : V G C M1 k n (pc + 3) L (v :: st)) : V G C (mkM G a I J P Q M0) k n pc L (x1 :: .ref a :: st) := by
  refine V_callV (As := [x1]) hC hM mkM_0 (T0 := TX4) (N := 24) (by rw [hy]; rfl) w.1 w.2.1 w.2.2.1 w.2.2.2.1 w.2.2.2.2.1 w.2.2.2.2.2 ⟨hR.1, by rw [hR.2.1]; exact hk.1, by rw [hR.2.2]; exact hk.2⟩ hst d (fun v' M' h => ?_) (fun X M' h => absurd h.1 (by simp))
  obtain ⟨h1, h2⟩ := h
  cases h1
  subst h2
  rw [hR.2.1, hR.2.2]
  exact kk
theorem mt1v (hC : Ck G C hh cc ow nL rt rm post) {x1 : Value} (hM : gMet C.l y (gWs y b L' r' []) rm' G [x1] M (gRv v M1)) (w : gWT ow index y b L' r' [] 1) (hR : (rm'.frames + 1 ≤ rm.frames ∧ 8 + (L' + 11) + rm'.locals ≤ rm.locals) ∧ rm'.cells = 0 ∧ rm'.slots = 0) (hk : k ≤ rm.cells ∧ n ≤ rm.slots) (hst : (st.map fun v => v.category).sum ≤ 8) (d : decode cc pc = .ok (.invokestatic index, 3)) (kk : V G C M1 k n (pc + 3) L (v :: st)) : V G C M k n pc L (x1 :: st) := by
  refine V_callS (As := [x1]) hC hM w.1 w.2.1 w.2.2.1 w.2.2.2.1 w.2.2.2.2 ⟨hR.1, by rw [hR.2.1]; exact hk.1, by rw [hR.2.2]; exact hk.2⟩ hst d (fun v' M' h => ?_) (fun X M' h => absurd h.1 (by simp))
  obtain ⟨h1, h2⟩ := h
  cases h1
  subst h2
  rw [hR.2.1, hR.2.2]
  exact kk
theorem mc1n (hC : Ck G C hh cc RX4 nL rt rm post) {x1 : Value} (hM : gMet C.l y (gWs y b L' r' []) rm' G (.ref a :: [x1]) (mkM G a I J P Q M0) (gRn M1)) (hy : y.cls = RX4) (w : gWV RX4 index y b L' r' [] 1) (hR : (rm'.frames + 1 ≤ rm.frames ∧ 8 + (L' + 11) + rm'.locals ≤ rm.locals) ∧ rm'.cells = 0 ∧ rm'.slots = 0) (hk : k ≤ rm.cells ∧ n ≤ rm.slots) (hst : (st.map fun v => v.category).sum ≤ 8) (d : decode cc pc = .ok (.invokevirtual index, 3)) (kk : V G C M1 k n (pc + 3) L st) : V G C (mkM G a I J P Q M0) k n pc L (x1 :: .ref a :: st) := by
  refine V_callV (As := [x1]) hC hM mkM_0 (T0 := TX4) (N := 24) (by rw [hy]; rfl) w.1 w.2.1 w.2.2.1 w.2.2.2.1 w.2.2.2.2.1 w.2.2.2.2.2 ⟨hR.1, by rw [hR.2.1]; exact hk.1, by rw [hR.2.2]; exact hk.2⟩ hst d (fun v' M' h => ?_) (fun X M' h => absurd h.1 (by simp))
  obtain ⟨h1, h2⟩ := h
  cases h1
  subst h2
  rw [hR.2.1, hR.2.2]
  exact kk
theorem mt1n (hC : Ck G C hh cc ow nL rt rm post) {x1 : Value} (hM : gMet C.l y (gWs y b L' r' []) rm' G [x1] M (gRn M1)) (w : gWT ow index y b L' r' [] 1) (hR : (rm'.frames + 1 ≤ rm.frames ∧ 8 + (L' + 11) + rm'.locals ≤ rm.locals) ∧ rm'.cells = 0 ∧ rm'.slots = 0) (hk : k ≤ rm.cells ∧ n ≤ rm.slots) (hst : (st.map fun v => v.category).sum ≤ 8) (d : decode cc pc = .ok (.invokestatic index, 3)) (kk : V G C M1 k n (pc + 3) L st) : V G C M k n pc L (x1 :: st) := by
  refine V_callS (As := [x1]) hC hM w.1 w.2.1 w.2.2.1 w.2.2.2.1 w.2.2.2.2 ⟨hR.1, by rw [hR.2.1]; exact hk.1, by rw [hR.2.2]; exact hk.2⟩ hst d (fun v' M' h => ?_) (fun X M' h => absurd h.1 (by simp))
  obtain ⟨h1, h2⟩ := h
  cases h1
  subst h2
  rw [hR.2.1, hR.2.2]
  exact kk
theorem mc2v (hC : Ck G C hh cc RX4 nL rt rm post) {x1 x2 : Value} (hM : gMet C.l y (gWs y b L' r' []) rm' G (.ref a :: [x1, x2]) (mkM G a I J P Q M0) (gRv v M1)) (hy : y.cls = RX4) (w : gWV RX4 index y b L' r' [] 2) (hR : (rm'.frames + 1 ≤ rm.frames ∧ 8 + (L' + 11) + rm'.locals ≤ rm.locals) ∧ rm'.cells = 0 ∧ rm'.slots = 0) (hk : k ≤ rm.cells ∧ n ≤ rm.slots) (hst : (st.map fun v => v.category).sum ≤ 8) (d : decode cc pc = .ok (.invokevirtual index, 3)) (kk : V G C M1 k n (pc + 3) L (v :: st)) : V G C (mkM G a I J P Q M0) k n pc L (x2 :: x1 :: .ref a :: st) := by
  refine V_callV (As := [x1, x2]) hC hM mkM_0 (T0 := TX4) (N := 24) (by rw [hy]; rfl) w.1 w.2.1 w.2.2.1 w.2.2.2.1 w.2.2.2.2.1 w.2.2.2.2.2 ⟨hR.1, by rw [hR.2.1]; exact hk.1, by rw [hR.2.2]; exact hk.2⟩ hst d (fun v' M' h => ?_) (fun X M' h => absurd h.1 (by simp))
  obtain ⟨h1, h2⟩ := h
  cases h1
  subst h2
  rw [hR.2.1, hR.2.2]
  exact kk
theorem mt2v (hC : Ck G C hh cc ow nL rt rm post) {x1 x2 : Value} (hM : gMet C.l y (gWs y b L' r' []) rm' G [x1, x2] M (gRv v M1)) (w : gWT ow index y b L' r' [] 2) (hR : (rm'.frames + 1 ≤ rm.frames ∧ 8 + (L' + 11) + rm'.locals ≤ rm.locals) ∧ rm'.cells = 0 ∧ rm'.slots = 0) (hk : k ≤ rm.cells ∧ n ≤ rm.slots) (hst : (st.map fun v => v.category).sum ≤ 8) (d : decode cc pc = .ok (.invokestatic index, 3)) (kk : V G C M1 k n (pc + 3) L (v :: st)) : V G C M k n pc L (x2 :: x1 :: st) := by
  refine V_callS (As := [x1, x2]) hC hM w.1 w.2.1 w.2.2.1 w.2.2.2.1 w.2.2.2.2 ⟨hR.1, by rw [hR.2.1]; exact hk.1, by rw [hR.2.2]; exact hk.2⟩ hst d (fun v' M' h => ?_) (fun X M' h => absurd h.1 (by simp))
  obtain ⟨h1, h2⟩ := h
  cases h1
  subst h2
  rw [hR.2.1, hR.2.2]
  exact kk
theorem mc2n (hC : Ck G C hh cc RX4 nL rt rm post) {x1 x2 : Value} (hM : gMet C.l y (gWs y b L' r' []) rm' G (.ref a :: [x1, x2]) (mkM G a I J P Q M0) (gRn M1)) (hy : y.cls = RX4) (w : gWV RX4 index y b L' r' [] 2) (hR : (rm'.frames + 1 ≤ rm.frames ∧ 8 + (L' + 11) + rm'.locals ≤ rm.locals) ∧ rm'.cells = 0 ∧ rm'.slots = 0) (hk : k ≤ rm.cells ∧ n ≤ rm.slots) (hst : (st.map fun v => v.category).sum ≤ 8) (d : decode cc pc = .ok (.invokevirtual index, 3)) (kk : V G C M1 k n (pc + 3) L st) : V G C (mkM G a I J P Q M0) k n pc L (x2 :: x1 :: .ref a :: st) := by
  refine V_callV (As := [x1, x2]) hC hM mkM_0 (T0 := TX4) (N := 24) (by rw [hy]; rfl) w.1 w.2.1 w.2.2.1 w.2.2.2.1 w.2.2.2.2.1 w.2.2.2.2.2 ⟨hR.1, by rw [hR.2.1]; exact hk.1, by rw [hR.2.2]; exact hk.2⟩ hst d (fun v' M' h => ?_) (fun X M' h => absurd h.1 (by simp))
  obtain ⟨h1, h2⟩ := h
  cases h1
  subst h2
  rw [hR.2.1, hR.2.2]
  exact kk
theorem mt2n (hC : Ck G C hh cc ow nL rt rm post) {x1 x2 : Value} (hM : gMet C.l y (gWs y b L' r' []) rm' G [x1, x2] M (gRn M1)) (w : gWT ow index y b L' r' [] 2) (hR : (rm'.frames + 1 ≤ rm.frames ∧ 8 + (L' + 11) + rm'.locals ≤ rm.locals) ∧ rm'.cells = 0 ∧ rm'.slots = 0) (hk : k ≤ rm.cells ∧ n ≤ rm.slots) (hst : (st.map fun v => v.category).sum ≤ 8) (d : decode cc pc = .ok (.invokestatic index, 3)) (kk : V G C M1 k n (pc + 3) L st) : V G C M k n pc L (x2 :: x1 :: st) := by
  refine V_callS (As := [x1, x2]) hC hM w.1 w.2.1 w.2.2.1 w.2.2.2.1 w.2.2.2.2 ⟨hR.1, by rw [hR.2.1]; exact hk.1, by rw [hR.2.2]; exact hk.2⟩ hst d (fun v' M' h => ?_) (fun X M' h => absurd h.1 (by simp))
  obtain ⟨h1, h2⟩ := h
  cases h1
  subst h2
  rw [hR.2.1, hR.2.2]
  exact kk
theorem mc3v (hC : Ck G C hh cc RX4 nL rt rm post) {x1 x2 x3 : Value} (hM : gMet C.l y (gWs y b L' r' []) rm' G (.ref a :: [x1, x2, x3]) (mkM G a I J P Q M0) (gRv v M1)) (hy : y.cls = RX4) (w : gWV RX4 index y b L' r' [] 3) (hR : (rm'.frames + 1 ≤ rm.frames ∧ 8 + (L' + 11) + rm'.locals ≤ rm.locals) ∧ rm'.cells = 0 ∧ rm'.slots = 0) (hk : k ≤ rm.cells ∧ n ≤ rm.slots) (hst : (st.map fun v => v.category).sum ≤ 8) (d : decode cc pc = .ok (.invokevirtual index, 3)) (kk : V G C M1 k n (pc + 3) L (v :: st)) : V G C (mkM G a I J P Q M0) k n pc L (x3 :: x2 :: x1 :: .ref a :: st) := by
  refine V_callV (As := [x1, x2, x3]) hC hM mkM_0 (T0 := TX4) (N := 24) (by rw [hy]; rfl) w.1 w.2.1 w.2.2.1 w.2.2.2.1 w.2.2.2.2.1 w.2.2.2.2.2 ⟨hR.1, by rw [hR.2.1]; exact hk.1, by rw [hR.2.2]; exact hk.2⟩ hst d (fun v' M' h => ?_) (fun X M' h => absurd h.1 (by simp))
  obtain ⟨h1, h2⟩ := h
  cases h1
  subst h2
  rw [hR.2.1, hR.2.2]
  exact kk
theorem mt3v (hC : Ck G C hh cc ow nL rt rm post) {x1 x2 x3 : Value} (hM : gMet C.l y (gWs y b L' r' []) rm' G [x1, x2, x3] M (gRv v M1)) (w : gWT ow index y b L' r' [] 3) (hR : (rm'.frames + 1 ≤ rm.frames ∧ 8 + (L' + 11) + rm'.locals ≤ rm.locals) ∧ rm'.cells = 0 ∧ rm'.slots = 0) (hk : k ≤ rm.cells ∧ n ≤ rm.slots) (hst : (st.map fun v => v.category).sum ≤ 8) (d : decode cc pc = .ok (.invokestatic index, 3)) (kk : V G C M1 k n (pc + 3) L (v :: st)) : V G C M k n pc L (x3 :: x2 :: x1 :: st) := by
  refine V_callS (As := [x1, x2, x3]) hC hM w.1 w.2.1 w.2.2.1 w.2.2.2.1 w.2.2.2.2 ⟨hR.1, by rw [hR.2.1]; exact hk.1, by rw [hR.2.2]; exact hk.2⟩ hst d (fun v' M' h => ?_) (fun X M' h => absurd h.1 (by simp))
  obtain ⟨h1, h2⟩ := h
  cases h1
  subst h2
  rw [hR.2.1, hR.2.2]
  exact kk
theorem mc3n (hC : Ck G C hh cc RX4 nL rt rm post) {x1 x2 x3 : Value} (hM : gMet C.l y (gWs y b L' r' []) rm' G (.ref a :: [x1, x2, x3]) (mkM G a I J P Q M0) (gRn M1)) (hy : y.cls = RX4) (w : gWV RX4 index y b L' r' [] 3) (hR : (rm'.frames + 1 ≤ rm.frames ∧ 8 + (L' + 11) + rm'.locals ≤ rm.locals) ∧ rm'.cells = 0 ∧ rm'.slots = 0) (hk : k ≤ rm.cells ∧ n ≤ rm.slots) (hst : (st.map fun v => v.category).sum ≤ 8) (d : decode cc pc = .ok (.invokevirtual index, 3)) (kk : V G C M1 k n (pc + 3) L st) : V G C (mkM G a I J P Q M0) k n pc L (x3 :: x2 :: x1 :: .ref a :: st) := by
  refine V_callV (As := [x1, x2, x3]) hC hM mkM_0 (T0 := TX4) (N := 24) (by rw [hy]; rfl) w.1 w.2.1 w.2.2.1 w.2.2.2.1 w.2.2.2.2.1 w.2.2.2.2.2 ⟨hR.1, by rw [hR.2.1]; exact hk.1, by rw [hR.2.2]; exact hk.2⟩ hst d (fun v' M' h => ?_) (fun X M' h => absurd h.1 (by simp))
  obtain ⟨h1, h2⟩ := h
  cases h1
  subst h2
  rw [hR.2.1, hR.2.2]
  exact kk
theorem mt3n (hC : Ck G C hh cc ow nL rt rm post) {x1 x2 x3 : Value} (hM : gMet C.l y (gWs y b L' r' []) rm' G [x1, x2, x3] M (gRn M1)) (w : gWT ow index y b L' r' [] 3) (hR : (rm'.frames + 1 ≤ rm.frames ∧ 8 + (L' + 11) + rm'.locals ≤ rm.locals) ∧ rm'.cells = 0 ∧ rm'.slots = 0) (hk : k ≤ rm.cells ∧ n ≤ rm.slots) (hst : (st.map fun v => v.category).sum ≤ 8) (d : decode cc pc = .ok (.invokestatic index, 3)) (kk : V G C M1 k n (pc + 3) L st) : V G C M k n pc L (x3 :: x2 :: x1 :: st) := by
  refine V_callS (As := [x1, x2, x3]) hC hM w.1 w.2.1 w.2.2.1 w.2.2.2.1 w.2.2.2.2 ⟨hR.1, by rw [hR.2.1]; exact hk.1, by rw [hR.2.2]; exact hk.2⟩ hst d (fun v' M' h => ?_) (fun X M' h => absurd h.1 (by simp))
  obtain ⟨h1, h2⟩ := h
  cases h1
  subst h2
  rw [hR.2.1, hR.2.2]
  exact kk
theorem mc5v (hC : Ck G C hh cc RX4 nL rt rm post) {x1 x2 x3 x4 x5 : Value} (hM : gMet C.l y (gWs y b L' r' []) rm' G (.ref a :: [x1, x2, x3, x4, x5]) (mkM G a I J P Q M0) (gRv v M1)) (hy : y.cls = RX4) (w : gWV RX4 index y b L' r' [] 5) (hR : (rm'.frames + 1 ≤ rm.frames ∧ 8 + (L' + 11) + rm'.locals ≤ rm.locals) ∧ rm'.cells = 0 ∧ rm'.slots = 0) (hk : k ≤ rm.cells ∧ n ≤ rm.slots) (hst : (st.map fun v => v.category).sum ≤ 8) (d : decode cc pc = .ok (.invokevirtual index, 3)) (kk : V G C M1 k n (pc + 3) L (v :: st)) : V G C (mkM G a I J P Q M0) k n pc L (x5 :: x4 :: x3 :: x2 :: x1 :: .ref a :: st) := by
  refine V_callV (As := [x1, x2, x3, x4, x5]) hC hM mkM_0 (T0 := TX4) (N := 24) (by rw [hy]; rfl) w.1 w.2.1 w.2.2.1 w.2.2.2.1 w.2.2.2.2.1 w.2.2.2.2.2 ⟨hR.1, by rw [hR.2.1]; exact hk.1, by rw [hR.2.2]; exact hk.2⟩ hst d (fun v' M' h => ?_) (fun X M' h => absurd h.1 (by simp))
  obtain ⟨h1, h2⟩ := h
  cases h1
  subst h2
  rw [hR.2.1, hR.2.2]
  exact kk
theorem mt5v (hC : Ck G C hh cc ow nL rt rm post) {x1 x2 x3 x4 x5 : Value} (hM : gMet C.l y (gWs y b L' r' []) rm' G [x1, x2, x3, x4, x5] M (gRv v M1)) (w : gWT ow index y b L' r' [] 5) (hR : (rm'.frames + 1 ≤ rm.frames ∧ 8 + (L' + 11) + rm'.locals ≤ rm.locals) ∧ rm'.cells = 0 ∧ rm'.slots = 0) (hk : k ≤ rm.cells ∧ n ≤ rm.slots) (hst : (st.map fun v => v.category).sum ≤ 8) (d : decode cc pc = .ok (.invokestatic index, 3)) (kk : V G C M1 k n (pc + 3) L (v :: st)) : V G C M k n pc L (x5 :: x4 :: x3 :: x2 :: x1 :: st) := by
  refine V_callS (As := [x1, x2, x3, x4, x5]) hC hM w.1 w.2.1 w.2.2.1 w.2.2.2.1 w.2.2.2.2 ⟨hR.1, by rw [hR.2.1]; exact hk.1, by rw [hR.2.2]; exact hk.2⟩ hst d (fun v' M' h => ?_) (fun X M' h => absurd h.1 (by simp))
  obtain ⟨h1, h2⟩ := h
  cases h1
  subst h2
  rw [hR.2.1, hR.2.2]
  exact kk
theorem mc5n (hC : Ck G C hh cc RX4 nL rt rm post) {x1 x2 x3 x4 x5 : Value} (hM : gMet C.l y (gWs y b L' r' []) rm' G (.ref a :: [x1, x2, x3, x4, x5]) (mkM G a I J P Q M0) (gRn M1)) (hy : y.cls = RX4) (w : gWV RX4 index y b L' r' [] 5) (hR : (rm'.frames + 1 ≤ rm.frames ∧ 8 + (L' + 11) + rm'.locals ≤ rm.locals) ∧ rm'.cells = 0 ∧ rm'.slots = 0) (hk : k ≤ rm.cells ∧ n ≤ rm.slots) (hst : (st.map fun v => v.category).sum ≤ 8) (d : decode cc pc = .ok (.invokevirtual index, 3)) (kk : V G C M1 k n (pc + 3) L st) : V G C (mkM G a I J P Q M0) k n pc L (x5 :: x4 :: x3 :: x2 :: x1 :: .ref a :: st) := by
  refine V_callV (As := [x1, x2, x3, x4, x5]) hC hM mkM_0 (T0 := TX4) (N := 24) (by rw [hy]; rfl) w.1 w.2.1 w.2.2.1 w.2.2.2.1 w.2.2.2.2.1 w.2.2.2.2.2 ⟨hR.1, by rw [hR.2.1]; exact hk.1, by rw [hR.2.2]; exact hk.2⟩ hst d (fun v' M' h => ?_) (fun X M' h => absurd h.1 (by simp))
  obtain ⟨h1, h2⟩ := h
  cases h1
  subst h2
  rw [hR.2.1, hR.2.2]
  exact kk
theorem mt5n (hC : Ck G C hh cc ow nL rt rm post) {x1 x2 x3 x4 x5 : Value} (hM : gMet C.l y (gWs y b L' r' []) rm' G [x1, x2, x3, x4, x5] M (gRn M1)) (w : gWT ow index y b L' r' [] 5) (hR : (rm'.frames + 1 ≤ rm.frames ∧ 8 + (L' + 11) + rm'.locals ≤ rm.locals) ∧ rm'.cells = 0 ∧ rm'.slots = 0) (hk : k ≤ rm.cells ∧ n ≤ rm.slots) (hst : (st.map fun v => v.category).sum ≤ 8) (d : decode cc pc = .ok (.invokestatic index, 3)) (kk : V G C M1 k n (pc + 3) L st) : V G C M k n pc L (x5 :: x4 :: x3 :: x2 :: x1 :: st) := by
  refine V_callS (As := [x1, x2, x3, x4, x5]) hC hM w.1 w.2.1 w.2.2.1 w.2.2.2.1 w.2.2.2.2 ⟨hR.1, by rw [hR.2.1]; exact hk.1, by rw [hR.2.2]; exact hk.2⟩ hst d (fun v' M' h => ?_) (fun X M' h => absurd h.1 (by simp))
  obtain ⟨h1, h2⟩ := h
  cases h1
  subst h2
  rw [hR.2.1, hR.2.2]
  exact kk
theorem mc0g (hC : Ck G C hh cc RX4 nL rt rm post) {post' : gRes → gM → Prop} (hM : gMet C.l y (gWs y b L' r' []) rm' G (.ref a :: []) (mkM G a I J P Q M0) post') (hy : y.cls = RX4) (w : gWV RX4 index y b L' r' [] 0) (hR : (rm'.frames + 1 ≤ rm.frames ∧ 8 + (L' + 11) + rm'.locals ≤ rm.locals) ∧ rm'.cells = 0 ∧ rm'.slots = 0) (hk : k ≤ rm.cells ∧ n ≤ rm.slots) (hst : (st.map fun v => v.category).sum ≤ 8) (d : decode cc pc = .ok (.invokevirtual index, 3)) (kt : ∀ (X : String) (M' : gM), post' (.inr X) M' → False) (kr : ∀ (v : Option Value) (M' : gM), post' (.inl v) M' → V G C M' k n (pc + 3) L (v.toList ++ st)) : V G C (mkM G a I J P Q M0) k n pc L (.ref a :: st) := by
  refine V_callV (As := []) hC hM mkM_0 (T0 := TX4) (N := 24) (by rw [hy]; rfl) w.1 w.2.1 w.2.2.1 w.2.2.2.1 w.2.2.2.2.1 w.2.2.2.2.2 ⟨hR.1, by rw [hR.2.1]; exact hk.1, by rw [hR.2.2]; exact hk.2⟩ hst d (fun v' M' h => ?_) (fun X M' h => (kt X M' h).elim)
  rw [hR.2.1, hR.2.2]
  exact kr v' M' h
theorem mc1g (hC : Ck G C hh cc RX4 nL rt rm post) {x1 : Value} {post' : gRes → gM → Prop} (hM : gMet C.l y (gWs y b L' r' []) rm' G (.ref a :: [x1]) (mkM G a I J P Q M0) post') (hy : y.cls = RX4) (w : gWV RX4 index y b L' r' [] 1) (hR : (rm'.frames + 1 ≤ rm.frames ∧ 8 + (L' + 11) + rm'.locals ≤ rm.locals) ∧ rm'.cells = 0 ∧ rm'.slots = 0) (hk : k ≤ rm.cells ∧ n ≤ rm.slots) (hst : (st.map fun v => v.category).sum ≤ 8) (d : decode cc pc = .ok (.invokevirtual index, 3)) (kt : ∀ (X : String) (M' : gM), post' (.inr X) M' → False) (kr : ∀ (v : Option Value) (M' : gM), post' (.inl v) M' → V G C M' k n (pc + 3) L (v.toList ++ st)) : V G C (mkM G a I J P Q M0) k n pc L (x1 :: .ref a :: st) := by
  refine V_callV (As := [x1]) hC hM mkM_0 (T0 := TX4) (N := 24) (by rw [hy]; rfl) w.1 w.2.1 w.2.2.1 w.2.2.2.1 w.2.2.2.2.1 w.2.2.2.2.2 ⟨hR.1, by rw [hR.2.1]; exact hk.1, by rw [hR.2.2]; exact hk.2⟩ hst d (fun v' M' h => ?_) (fun X M' h => (kt X M' h).elim)
  rw [hR.2.1, hR.2.2]
  exact kr v' M' h
theorem mc2g (hC : Ck G C hh cc RX4 nL rt rm post) {x1 x2 : Value} {post' : gRes → gM → Prop} (hM : gMet C.l y (gWs y b L' r' []) rm' G (.ref a :: [x1, x2]) (mkM G a I J P Q M0) post') (hy : y.cls = RX4) (w : gWV RX4 index y b L' r' [] 2) (hR : (rm'.frames + 1 ≤ rm.frames ∧ 8 + (L' + 11) + rm'.locals ≤ rm.locals) ∧ rm'.cells = 0 ∧ rm'.slots = 0) (hk : k ≤ rm.cells ∧ n ≤ rm.slots) (hst : (st.map fun v => v.category).sum ≤ 8) (d : decode cc pc = .ok (.invokevirtual index, 3)) (kt : ∀ (X : String) (M' : gM), post' (.inr X) M' → False) (kr : ∀ (v : Option Value) (M' : gM), post' (.inl v) M' → V G C M' k n (pc + 3) L (v.toList ++ st)) : V G C (mkM G a I J P Q M0) k n pc L (x2 :: x1 :: .ref a :: st) := by
  refine V_callV (As := [x1, x2]) hC hM mkM_0 (T0 := TX4) (N := 24) (by rw [hy]; rfl) w.1 w.2.1 w.2.2.1 w.2.2.2.1 w.2.2.2.2.1 w.2.2.2.2.2 ⟨hR.1, by rw [hR.2.1]; exact hk.1, by rw [hR.2.2]; exact hk.2⟩ hst d (fun v' M' h => ?_) (fun X M' h => (kt X M' h).elim)
  rw [hR.2.1, hR.2.2]
  exact kr v' M' h
theorem mc3g (hC : Ck G C hh cc RX4 nL rt rm post) {x1 x2 x3 : Value} {post' : gRes → gM → Prop} (hM : gMet C.l y (gWs y b L' r' []) rm' G (.ref a :: [x1, x2, x3]) (mkM G a I J P Q M0) post') (hy : y.cls = RX4) (w : gWV RX4 index y b L' r' [] 3) (hR : (rm'.frames + 1 ≤ rm.frames ∧ 8 + (L' + 11) + rm'.locals ≤ rm.locals) ∧ rm'.cells = 0 ∧ rm'.slots = 0) (hk : k ≤ rm.cells ∧ n ≤ rm.slots) (hst : (st.map fun v => v.category).sum ≤ 8) (d : decode cc pc = .ok (.invokevirtual index, 3)) (kt : ∀ (X : String) (M' : gM), post' (.inr X) M' → False) (kr : ∀ (v : Option Value) (M' : gM), post' (.inl v) M' → V G C M' k n (pc + 3) L (v.toList ++ st)) : V G C (mkM G a I J P Q M0) k n pc L (x3 :: x2 :: x1 :: .ref a :: st) := by
  refine V_callV (As := [x1, x2, x3]) hC hM mkM_0 (T0 := TX4) (N := 24) (by rw [hy]; rfl) w.1 w.2.1 w.2.2.1 w.2.2.2.1 w.2.2.2.2.1 w.2.2.2.2.2 ⟨hR.1, by rw [hR.2.1]; exact hk.1, by rw [hR.2.2]; exact hk.2⟩ hst d (fun v' M' h => ?_) (fun X M' h => (kt X M' h).elim)
  rw [hR.2.1, hR.2.2]
  exact kr v' M' h
end MCALLS
