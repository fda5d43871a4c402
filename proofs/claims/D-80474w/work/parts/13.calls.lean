/-! CALLS over V: what returns and what throws -/
theorem gCd_named {y : MethodName} {b : ByteArray} {L : Nat} {r : Option FieldType} {hh : List (Nat × Nat × Nat × Nat)} {args : Array Value} {s : State} (h : (gCd y b L r hh).before args s = true) : ∃ m, s.methodNamed? y = some m := by
  cases hh with
  | nil => exact Cond.code_named h
  | cons x t =>
    obtain ⟨m', meth, c, h0, -⟩ := Cond.codeWith_spec h
    exact ⟨m', h0⟩
/-- a throw stands over the method's frame at pc: an object of the class X -/
def VT (G : gG) (C : Cx) (M : gM) (k n pc : Nat) (L : Nat → Option Value) (X : String) : Prop :=
  ∀ (T : State) (locs : List Loc) (ls : Array Slot) (st : List Value) (a : Nat), Stand C.p C.l C.e C.R C.s C.m C.args C.below C.meth C.c T locs k n → gH G M T.heap → va_S (gA G) C.s.heap T.heap locs → gL ls C.nL L → gIs X a T →
    ∃ t, Steps C.p.tables C.e C.below ((T.setTop (F0 C.m pc ls st)).pushFrame (.throwing a)) t ∧ C.Q t
section GCALLS
variable {G : gG} {C : Cx} {M : gM} {k n pc : Nat} {L : Nat → Option Value} {st : List Value} {hh : List (Nat × Nat × Nat × Nat)} {cc : ByteArray} {ow : String} {nL : Nat} {rt : Option FieldType} {rm : Room} {post : gRes → gM → Prop}
variable {y : MethodName} {b : ByteArray} {L' : Nat} {r' : Option FieldType} {hh' : List (Nat × Nat × Nat × Nat)} {rm' : Room} {post' : gRes → gM → Prop} {As rest : List Value} {index : Nat} {o : Nat}
theorem g_goOn {H : Heap} {locs : List Loc} {ls : Array Slot} {k' n' : Nat} {T0 : State} (h2 : va_S (gA G) C.s.heap H locs) (h3 : gL ls C.nL L)
    (hc : gCame C.p C.l C.e C.R C.s C.m C.args C.below C.meth C.c G H locs k' n' post' (F0 C.m pc ls st) rest 3 T0)
    (kr : ∀ (v : Option Value) (M' : gM), post' (.inl v) M' → V G C M' k' n' (pc + 3) L (v.toList ++ rest)) (kt : ∀ (X : String) (M' : gM), post' (.inr X) M' → VT G C M' k' n' pc L X) : ∃ t, Steps C.p.tables C.e C.below T0 t ∧ C.Q t := by
  obtain ⟨U', Lc, r, M', X', hL, hp, hH', z1, z2, hs⟩ := hc
  have hS' : va_S (gA G) C.s.heap U'.heap (locs ++ Lc) := ⟨Nat.le_trans h2.1 z1, fun q q1 q2 => (z2 q (Nat.lt_of_lt_of_le q1 h2.1) q2).trans (h2.2.1 q q1 q2), fun q hq => by
    rcases List.mem_append.mp hq with h | h
    · exact h2.2.2 q h
    · exact hL q h⟩
  cases r with
  | inl v =>
    obtain ⟨t, a1, a2⟩ := kr v M' hp U'.heap (locs ++ Lc) ls hH' hS' h3 U' rfl X'
    exact ⟨t, Steps.trans hs a1, a2⟩
  | inr Y =>
    obtain ⟨a, hi, hs⟩ := hs
    obtain ⟨t, a1, a2⟩ := kt Y M' hp U' (locs ++ Lc) ls rest a X' hH' hS' h3 hi
    exact ⟨t, Steps.trans hs a1, a2⟩
theorem g_words {ws : List Cond} (hC : Ck G C hh cc ow nL rt rm post) (cw : GoodIn lw_all ws) : ∀ w ∈ ws, ∀ (a' : Array Value) (U : State), C.s.WarmedH U.vm → w.before a' U = true := pay_in hC.2.2.2.2.1 cw
theorem g_ini (hC : Ck G C hh cc ow nL rt rm post) {c0 : String} (h : Cond.initialized c0 ∈ lw_all) : ∀ (a' : Array Value) (U : State), C.s.WarmedH U.vm → (Cond.initialized c0).before a' U = true := fun _ _ hW => word_at hW (Or.inl (by first | rfl | simp [Cond.onTables, Cond.keeps, Cond.steady])) (hC.2.2.2.2.1 _ h)
theorem g_dom (hC : Ck G C hh cc ow nL rt rm post) {H : Heap} {locs : List Loc} (h2 : va_S (gA G) C.s.heap H locs) {T : State} (hT : T.heap = H) (hW : C.s.WarmedH T.vm) : gK G T := hC.2.2.2.2.2.2.2.1.moved hW (by rw [hT]; exact h2.1) (fun q q1 q2 => by rw [hT]; exact h2.2.1 q q1 q2)
/-- a static call -/
theorem V_callS (hC : Ck G C hh cc ow nL rt rm post) (hM : gMet C.l y (gWs y b L' r' hh') rm' G As M post') (w1 : Cond.methodLink ow index y ∈ lw_all) (w2 : Cond.static y ∈ lw_all) (w3 : Cond.initialized y.cls ∈ lw_all) (w4 : gCd y b L' r' hh' ∈ lw_all)
    (hd : (y.cls ≠ "java/lang/invoke/MethodHandle" ∧ y.cls ≠ "java/lang/invoke/VarHandle") ∧ (parseMethodDescriptor y.desc).map (fun d => d.parameters.length) = some As.length)
    (hR : (rm'.frames + 1 ≤ rm.frames ∧ 8 + (L' + 11) + rm'.locals ≤ rm.locals) ∧ k + rm'.cells ≤ rm.cells ∧ n + rm'.slots ≤ rm.slots) (hst : (rest.map fun v => v.category).sum ≤ 8) (d : decode cc pc = .ok (.invokestatic index, 3))
    (kr : ∀ (v : Option Value) (M' : gM), post' (.inl v) M' → V G C M' (k + rm'.cells) (n + rm'.slots) (pc + 3) L (v.toList ++ rest)) (kt : ∀ (X : String) (M' : gM), post' (.inr X) M' → VT G C M' (k + rm'.cells) (n + rm'.slots) pc L X) : V G C M k n pc L (As.reverse ++ rest) := by
  intro H locs ls h1 h2 h3 T hT X
  have hts := hC.2.2.2.2.1
  have hlocs : ls.size = C.c.maxLocals := by rw [hC.2.2.1, ← hC.2.2.2.2.2.2.2.2.2.2.1]; exact h3.1
  have cw : GoodIn lw_all (gWs y b L' r' hh') := lw_good (fun w hw => by
    rcases List.mem_cons.mp hw with e | e
    · rw [e]; exact w4
    · exact e)
  obtain ⟨mk, hnamed⟩ := gCd_named (hts _ w4)
  obtain ⟨methM, cM, hmethM, -, -, -, -, -, -, hsigM⟩ := gCd_spec hnamed (hts _ w4)
  have hstatic : methM.isStatic = true := Cond.static_spec hnamed hmethM (hts _ w2)
  obtain ⟨kP, hkP, -⟩ := className_of_methodNamed hnamed
  have hinitP : kP.init = .initialized := Cond.initialized_spec (findClass_of_methodNamed hnamed) hkP (hts _ w3)
  have hlen : As.length = methM.sig.parameters.length := by
    have h5 := hd.2
    rw [hsigM] at h5
    exact (Option.some.inj h5).symm
  obtain ⟨vm₁, X₁, hstep₁⟩ := X.invokestatic hC.1 hC.2.2.2.1 (hts _ w1) hnamed hmethM hstatic hkP hinitP hd.1 (g := F0 C.m pc ls (As.reverse ++ rest)) rfl (argsL := As) (rest := rest) hlen rfl (by rw [hC.2.1]; exact d)
  have hR0 := hC.2.2.2.2.2.2.2.2.2.1
  have hc := g_back hC.2.2.2.2.2.2.2.2.2.2.2.2.2 hM (by rw [hR0]; exact hR.1.1) (by rw [hR0]; exact hR.1.2) (g_words hC cw) (g_ini hC w3) X₁ (g := F0 C.m pc ls rest) rfl hlocs (len := 3) (by rw [hC.2.1]; exact d) (lv_room hst) (X₁.named hnamed) (by rw [hR0]; exact hR.2.1) (by rw [hR0]; exact hR.2.2) (by show gH G M T.heap; rw [hT]; exact h1) (g_dom hC h2 (show (T.setVm vm₁).heap = H from hT) X₁.warmed)
  obtain ⟨t, a1, a2⟩ := g_goOn (st := rest) (by show va_S (gA G) C.s.heap T.heap locs; rw [hT]; exact h2) h3 hc kr kt
  exact ⟨t, hstep₁ _ fun acts => by rw [doInvoke_state]; exact a1, a2⟩
/-- a call through an object of the class y.cls itself -/
theorem V_callV (hC : Ck G C hh cc ow nL rt rm post) (hM : gMet C.l y (gWs y b L' r' hh') rm' G (.ref o :: As) M post') {ci N : Nat} {T0 : u_T} {fs : List Value} (he : M.1 o = some (.inr (ci, fs))) (hcl : gcl[ci]? = some (y.cls, T0, N)) (w1 : Cond.methodLink ow index y ∈ lw_all) (w2 : Cond.instanceMethod y ∈ lw_all) (w3 : Cond.initialized y.cls ∈ lw_all) (w4 : gCd y b L' r' hh' ∈ lw_all) (w5 : Cond.selects y.cls y y ∈ lw_all)
    (hd : (y.cls ≠ "java/lang/invoke/MethodHandle" ∧ y.cls ≠ "java/lang/invoke/VarHandle") ∧ (parseMethodDescriptor y.desc).map (fun d => d.parameters.length) = some As.length)
    (hR : (rm'.frames + 1 ≤ rm.frames ∧ 8 + (L' + 11) + rm'.locals ≤ rm.locals) ∧ k + rm'.cells ≤ rm.cells ∧ n + rm'.slots ≤ rm.slots) (hst : (rest.map fun v => v.category).sum ≤ 8) (d : decode cc pc = .ok (.invokevirtual index, 3))
    (kr : ∀ (v : Option Value) (M' : gM), post' (.inl v) M' → V G C M' (k + rm'.cells) (n + rm'.slots) (pc + 3) L (v.toList ++ rest)) (kt : ∀ (X : String) (M' : gM), post' (.inr X) M' → VT G C M' (k + rm'.cells) (n + rm'.slots) pc L X) : V G C M k n pc L (As.reverse ++ .ref o :: rest) := by
  intro H locs ls h1 h2 h3 T hT X
  have hts := hC.2.2.2.2.1
  have hlocs : ls.size = C.c.maxLocals := by rw [hC.2.2.1, ← hC.2.2.2.2.2.2.2.2.2.2.1]; exact h3.1
  have cw : GoodIn lw_all (gWs y b L' r' hh') := lw_good (fun w hw => by
    rcases List.mem_cons.mp hw with e | e
    · rw [e]; exact w4
    · exact e)
  obtain ⟨cellB, hcB, hoB, hclB⟩ := va_recv (H := H) hC.2.2.2.2.2.2.2.1.1 (va_P1 (h1.2.2 o _ he).1) hcl (q0 := 0) rfl
  obtain ⟨mk, methM, hnamed, hmethM, hstM, habM⟩ := Cond.instanceMethod_spec (hts _ w2)
  obtain ⟨methM', cM, hmethM', -, -, -, -, -, -, hsigM⟩ := gCd_spec hnamed (hts _ w4)
  cases hmethM.symm.trans hmethM'
  obtain ⟨c2, r2, m2, q1, q2, q3, q4, kP, hkP, hkPi⟩ := Cond.selects_spec (hts _ w5)
  cases hclB.symm.trans q1
  cases (State.methodFound?_of_named hnamed hd.1).symm.trans q2
  cases hnamed.symm.trans q3
  have hselP : selectMethod C.e.platform C.s.vm cellB.cls mk = .method mk := by rw [Launch.admits_selectMethod X.admits]; exact q4
  have hlen : As.length = methM.sig.parameters.length := by
    have h5 := hd.2
    rw [hsigM] at h5
    exact (Option.some.inj h5).symm
  obtain ⟨vm₁, X₁, hstep₁⟩ := X.invokevirtual hC.1 hC.2.2.2.1 (hts _ w1) hnamed hmethM hstM hkP hkPi hd.1 (a := o) (cell := cellB) (by rw [hT]; exact hcB)
    (fun z h => by rw [h] at hoB; cases hoB) hselP hmethM habM hkP hkPi (g := F0 C.m pc ls (As.reverse ++ .ref o :: rest)) rfl (argsL := As) (rest := rest) hlen rfl (by rw [hC.2.1]; exact d)
  have hR0 := hC.2.2.2.2.2.2.2.2.2.1
  have hc := g_back hC.2.2.2.2.2.2.2.2.2.2.2.2.2 hM (by rw [hR0]; exact hR.1.1) (by rw [hR0]; exact hR.1.2) (g_words hC cw) (g_ini hC w3) X₁ (g := F0 C.m pc ls rest) rfl hlocs (len := 3) (by rw [hC.2.1]; exact d) (lv_room hst) (X₁.named hnamed) (by rw [hR0]; exact hR.2.1) (by rw [hR0]; exact hR.2.2) (by show gH G M T.heap; rw [hT]; exact h1) (g_dom hC h2 (show (T.setVm vm₁).heap = H from hT) X₁.warmed)
  obtain ⟨t, a1, a2⟩ := g_goOn (st := rest) (by show va_S (gA G) C.s.heap T.heap locs; rw [hT]; exact h2) h3 hc kr kt
  exact ⟨t, hstep₁ _ fun acts => by rw [doInvoke_state]; exact a1, a2⟩
/-- a constructor -/
theorem V_callI (hC : Ck G C hh cc ow nL rt rm post) (hM : gMet C.l y (gWs y b L' none hh') rm' G (.ref o :: As) M post') (w1 : Cond.methodLink ow index y ∈ lw_all) (w2 : Cond.instanceMethod y ∈ lw_all) (w3 : Cond.initialized y.cls ∈ lw_all) (w4 : Cond.code y b L' none ∈ lw_all) (e0 : hh' = [])
    (hy1 : y.name = "<init>") (hd : (y.cls ≠ "java/lang/invoke/MethodHandle" ∧ y.cls ≠ "java/lang/invoke/VarHandle") ∧ (parseMethodDescriptor y.desc).map (fun d => d.parameters.length) = some As.length)
    (hR : (rm'.frames + 1 ≤ rm.frames ∧ 8 + (L' + 11) + rm'.locals ≤ rm.locals) ∧ k + rm'.cells ≤ rm.cells ∧ n + rm'.slots ≤ rm.slots) (hst : (rest.map fun v => v.category).sum ≤ 8) (d : decode cc pc = .ok (.invokespecial index, 3))
    (kr : ∀ (v : Option Value) (M' : gM), post' (.inl v) M' → V G C M' (k + rm'.cells) (n + rm'.slots) (pc + 3) L (v.toList ++ rest)) (kt : ∀ (X : String) (M' : gM), post' (.inr X) M' → VT G C M' (k + rm'.cells) (n + rm'.slots) pc L X) : V G C M k n pc L (As.reverse ++ .ref o :: rest) := by
  subst e0
  intro H locs ls h1 h2 h3 T hT X
  have hts := hC.2.2.2.2.1
  have hlocs : ls.size = C.c.maxLocals := by rw [hC.2.2.1, ← hC.2.2.2.2.2.2.2.2.2.2.1]; exact h3.1
  have cw : GoodIn lw_all (gWs y b L' none []) := lw_good (fun w hw => by
    rcases List.mem_cons.mp hw with e | e
    · rw [e]; exact w4
    · exact e)
  have hpl : C.e.platform.magicAccessors = ({} : Platform).magicAccessors := by rw [X.admits.platform]
  have hlen : ∀ sig, parseMethodDescriptor y.desc = some sig → As.length = sig.parameters.length := fun sig h => by
    have h5 := hd.2
    rw [h] at h5
    exact (Option.some.inj h5).symm
  obtain ⟨mk, methM, cM, kP, vm₁, hnamed, hmethM, hcodeM, -, hlocalsM, -, hkP, -, hW₁, hstep₁⟩ := Steps.initColdArgs (e := C.e) X.here hC.1 X.warmed hpl hC.2.2.2.1 hy1 hd.1 (hts _ w1) (hts _ w2) (hts _ w4) (f := F0 C.m pc ls (As.reverse ++ .ref o :: rest)) rfl hlen rfl (by rw [hC.2.1]; exact d)
  have X₁ := X.noted hW₁
  have hR0 := hC.2.2.2.2.2.2.2.2.2.1
  have hc := g_back hC.2.2.2.2.2.2.2.2.2.2.2.2.2 hM (by rw [hR0]; exact hR.1.1) (by rw [hR0]; exact hR.1.2) (g_words hC cw) (g_ini hC w3) X₁ (g := F0 C.m pc ls rest) rfl hlocs (len := 3) (by rw [hC.2.1]; exact d) (lv_room hst) (X₁.named hnamed) (by rw [hR0]; exact hR.2.1) (by rw [hR0]; exact hR.2.2) (by show gH G M T.heap; rw [hT]; exact h1) (g_dom hC h2 (show (T.setVm vm₁).heap = H from hT) X₁.warmed)
  obtain ⟨t, a1, a2⟩ := g_goOn (st := rest) (by show va_S (gA G) C.s.heap T.heap locs; rw [hT]; exact h2) h3 hc kr kt
  exact ⟨t, hstep₁ _ fun acts => by rw [doInvoke_state]; exact a1, a2⟩
/-- nothing catches it here: the method throws it -/
theorem VT_out (hC : Ck G C hh cc ow nL rt rm post) {X : String} (hk : k ≤ rm.cells) (hn : n ≤ rm.slots) (hout : (tableOf hh).all (fun x => !covers x pc) = true) (hp : post (.inr X) M) : VT G C M k n pc L X := by
  intro T locs ls st a X0 h1 h2 h3 hi
  have X1 := stand_widen X0 hk hn
  obtain ⟨s1, s2, s3, s4, s5⟩ := X1.leaveThrown a (g := F0 C.m pc ls st) rfl rfl rfl (outside_of_table hC.2.2.2.2.2.2.2.2.2.2.2.1 hout) hC.2.2.2.2.2.2.1
  refine ⟨_, s1, ?_⟩
  rw [hC.2.2.2.2.2.2.2.2.2.2.2.2.1]
  exact ⟨.threw a, s2, s3, ⟨.inr X, M, ⟨a, rfl, hi⟩, hp, h1⟩, ⟨h2.1, fun q q1 q2 => h2.2.1 q q1 q2⟩, locs, ⟨s4, s5⟩, h2.2.2⟩
end GCALLS
