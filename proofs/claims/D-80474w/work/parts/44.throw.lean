/-! CATCHING: the handler's table is searched; a clause may be cold or warm, and may be passed -/
section GCATCH
def gFinds (e : Env) (s : State) (f : JFrame) (a : Addr) (h : Nat) (vm' : Vm) : Prop := ∀ (Q : Handler → Pre) (E : CtlPost) (d : Bool) (acts : List Action), wp (findHandler f a) Q E e d acts s ↔ Q (.found h) d acts (s.setVm vm')
theorem gGo_hit {Q : Handler → Pre} {E : CtlPost} {e : Env} {d : Bool} {acts : List Action} {s : State} {f : JFrame} {a : Addr} {x : ExceptionTableEntry} {t : List ExceptionTableEntry} {c : ClassId} {cell : Cell} (hx : covers x f.pc = true) (h0 : x.catchType ≠ 0)
    (hl : s.vm.ClassLinks e.platform f.method.cls x.catchType c) (hcell : s.heap[a]? = some cell) (hobj : ∀ k, cell.vm ≠ .statics k) (hk : ∃ k, s.vm.classes[cell.cls]? = some k) (hc : ∃ k, s.vm.classes[c]? = some k) (hyes : s.vm.assignable cell.cls c = true) :
    wp (findHandler.go f a (x :: t)) Q E e d acts s ↔ Q (.found x.handlerPc) d acts (s.setVm (s.vm.noted f.method.cls x.catchType (.cls c))) := by
  simp only [covers] at hx
  obtain ⟨ha, ht⟩ := (resolveClass_links e.toSetting hl).op (op := VmOp.resolveClass f.method.cls x.catchType) rfl
  have hal : s.vm.Alike (s.vm.noted f.method.cls x.catchType (.cls c)) := (Vm.Alike.refl s.vm).noted _ _ _
  obtain ⟨k1, hk1⟩ := hk
  obtain ⟨k2, hk2⟩ := hc
  obtain ⟨k1', hk1', -⟩ := hal.2.2 _ _ hk1
  obtain ⟨k2', hk2', -⟩ := hal.2.2 _ _ hk2
  have hyes' : (s.vm.noted f.method.cls x.catchType (.cls c)).assignable cell.cls c = true := by rw [hal.assignable]; exact hyes
  rw [findHandler.go]
  simp [hx, h0, ha, ht, hcell, hobj, hk1', hk2', hyes', VmOp.dirties, VmOp.acts]
theorem gCatchStep {e : Env} {s : State} {a : Addr} {f : JFrame} {r : List Frame} {pc : Nat} {vm' : Vm} (hfind : gFinds e s f a pc vm') : (stepThrowing e s a (.java f :: r)).Is ((s.setVm vm').setFrames (.java { f with pc := pc, stack := [.ref a] } :: r)) [] := by
  simp only [stepThrowing, searchFrame, vmDo]
  generalize hr : Sem.go _ e false [] s = res
  obtain ⟨as, rfl, ha⟩ := Sem.eq_ok_of hr (a := Handler.found pc) (s' := s.setVm vm') (acts' := []) (by simp [hfind _ _ _ _])
  exact ⟨rfl, ha⟩
theorem gCaught {tb : Tables} {e : Env} {s target : State} {g : JFrame} {c : Code} {below : List Frame} {a : Addr} (h : At s g.method c below) {pc : Nat} {vm' : Vm} (hfind : gFinds e ((s.setTop g).pushFrame (.throwing a)) g a pc vm')
    (hrest : Steps tb e below ((s.setVm vm').setTop { g with pc := pc, stack := [.ref a] }) target) : Steps tb e below ((s.setTop g).pushFrame (.throwing a)) target := by
  obtain ⟨hgo, hw⟩ := h.throwing a
  refine Steps.head hgo hw ?_
  rw [stepThread_throwing (frames_entered h.top _), (gCatchStep (s := (s.setTop g).pushFrame (.throwing a)) hfind).1]
  obtain ⟨g₀, hg⟩ := Option.isSome_iff_exists.mp h.top
  obtain ⟨r, hr⟩ := State.topJava?_eq_some.mp hg
  have hr' : (s.setVm vm').frames = .java g₀ :: r := hr
  have hc : ∀ (u : State) (F F' : List Frame), ((u.setFrames F).setVm vm').setFrames F' = (u.setVm vm').setFrames F' := fun u F F' => by
    show ((u.setVm vm').setFrames F).setFrames F' = _
    rw [State.setFrames_setFrames]
  rw [State.setTop_of_frames _ hr'] at hrest
  rw [hr, List.tail_cons, State.pushFrame, hc, State.setTop_of_frames _ hr, hc]
  exact hrest
theorem gGo_pass {Q : Handler → Pre} {E : CtlPost} {e : Env} {d : Bool} {acts : List Action} {s : State} {f : JFrame} {a : Addr} {x : ExceptionTableEntry} {t : List ExceptionTableEntry} {c : ClassId} {cell : Cell} (hx : covers x f.pc = true) (h0 : x.catchType ≠ 0)
    (hl : s.vm.ClassLinks e.platform f.method.cls x.catchType c) (hcell : s.heap[a]? = some cell) (hobj : ∀ k, cell.vm ≠ .statics k) (hk : ∃ k, s.vm.classes[cell.cls]? = some k) (hc : ∃ k, s.vm.classes[c]? = some k) (hno : s.vm.assignable cell.cls c = false) :
    wp (findHandler.go f a (x :: t)) Q E e d acts s ↔ wp (findHandler.go f a t) Q E e d acts (s.setVm (s.vm.noted f.method.cls x.catchType (.cls c))) := by
  simp only [covers] at hx
  obtain ⟨ha, ht⟩ := (resolveClass_links e.toSetting hl).op (op := VmOp.resolveClass f.method.cls x.catchType) rfl
  have hal : s.vm.Alike (s.vm.noted f.method.cls x.catchType (.cls c)) := (Vm.Alike.refl s.vm).noted _ _ _
  obtain ⟨k1, hk1⟩ := hk
  obtain ⟨k2, hk2⟩ := hc
  obtain ⟨k1', hk1', -⟩ := hal.2.2 _ _ hk1
  obtain ⟨k2', hk2', -⟩ := hal.2.2 _ _ hk2
  have hno' : (s.vm.noted f.method.cls x.catchType (.cls c)).assignable cell.cls c = false := by rw [hal.assignable]; exact hno
  rw [findHandler.go]
  simp [hx, h0, ha, ht, hcell, hobj, hk1', hk2', hno', VmOp.dirties, VmOp.acts]
/-- the table's answer for an object of class X at pc: the handler h -/
def gCt (U : State) (A : Array Value) (ow X : String) (pc : Nat) : List ExceptionTableEntry → Nat → Prop
  | [], _ => False
  | x :: r, h => (covers x pc = false ∧ gCt U A ow X pc r h) ∨ (covers x pc = true ∧ x.catchType ≠ 0 ∧ ∃ nm, (Cond.classLink ow x.catchType nm).before A U = true ∧ ((x.handlerPc = h ∧ (Cond.castable X nm).before A U = true) ∨ (va_Nc X nm U ∧ gCt U A ow X pc r h)))
theorem gNote_setVm {T : State} {g : JFrame} {a : Addr} (vm : Vm) {g0 : JFrame} {r : List Frame} (h : T.frames = .java g0 :: r) : ((T.setVm vm).setTop g).pushFrame (.throwing a) = ((T.setTop g).pushFrame (.throwing a)).setVm vm := by
  have h' : (T.setVm vm).frames = .java g0 :: r := h
  rw [State.pushFrame, State.pushFrame, State.frames_setTop _ h, State.frames_setTop _ h', State.setTop_of_frames _ h, State.setTop_of_frames _ h', State.setFrames_setFrames, State.setFrames_setFrames]
  rfl
theorem gFindAt {p : Program} {l : Launch} {e : Env} {R : Room} {s : State} {m : MethodId} {args : Array Value} {below : List Frame} {meth : Method} {c : Code} {locs : List Loc} {cells slots : Nat} {ow X : String} (hown : s.vm.findClass ow = some m.cls) {g : JFrame} (hg : g.method = m) {a : Addr} {cell : Cell} (hobj : cell.vm.isStatics = false) (hX : s.vm.findClass X = some cell.cls) {h : Nat} :
    ∀ (es : List ExceptionTableEntry), gCt s args ow X g.pc es h → ∀ (T : State), Stand p l e R s m args below meth c T locs cells slots → T.heap[a]? = some cell →
      ∃ vm', Stand p l e R s m args below meth c (T.setVm vm') locs cells slots ∧ ∀ (Q : Handler → Pre) (E : CtlPost) (d : Bool) (acts : List Action), wp (findHandler.go g a es) Q E e d acts ((T.setTop g).pushFrame (.throwing a)) ↔ Q (.found h) d acts (((T.setTop g).pushFrame (.throwing a)).setVm vm')
  | [], hc, _, _, _ => absurd hc id
  | x :: es, hc, T, XT, hcell => by
    rcases hc with ⟨h1, h2⟩ | ⟨h1, h2, nm, hlink, h3⟩
    · obtain ⟨vm', X', hq⟩ := gFindAt hown hg hobj hX es h2 T XT hcell
      exact ⟨vm', X', fun Q E d acts => by rw [W.findHandler_go_skip h1]; exact hq Q E d acts⟩
    · have hpl : e.platform.magicAccessors = ({} : Platform).magicAccessors := by rw [XT.admits.platform]
      obtain ⟨cT, hcT, hcl⟩ := Cond.classLink_spec hown hlink e.platform hpl
      obtain ⟨dk, _, _, kt, hd, _, _, _, _, hkt, _, hopen⟩ := hcl.here
      have hcl₀ := XT.warmed.classLinks hcl
      have hW' : s.WarmedH (T.vm.noted m.cls x.catchType (.cls cT)) := XT.warmed.noted hd hopen (State.rightAt_cls hcl)
      have hal := XT.warmed.alike
      obtain ⟨kt', hkt', -⟩ := hal.2.2 _ _ hkt
      obtain ⟨kx, hkx, -⟩ := Vm.findClass_spec hX
      obtain ⟨kx', hkx', -⟩ := hal.2.2 _ _ hkx
      have evm := Stand.throwing_vm T g a
      have ehp := Stand.throwing_heap T g a
      subst hg
      rcases h3 with ⟨e1, h4⟩ | ⟨h4, h5⟩
      · subst e1
        obtain ⟨c3, c4, q3, q4, hasg⟩ := Cond.castable_spec h4
        cases Option.some.inj (q3.symm.trans hX)
        cases Option.some.inj (q4.symm.trans hcT)
        refine ⟨_, XT.noted hW', fun Q E d acts => ?_⟩
        have := gGo_hit (Q := Q) (E := E) (e := e) (d := d) (acts := acts) (s := (T.setTop g).pushFrame (.throwing a)) (f := g) (a := a) (x := x) (t := es) (c := cT) (cell := cell) h1 h2 (by rw [evm]; exact hcl₀) (by rw [ehp]; exact hcell) (VmData.ne_statics_of hobj) (by rw [evm]; exact ⟨_, hkx'⟩) (by rw [evm]; exact ⟨_, hkt'⟩) (by rw [evm, hal.assignable]; exact hasg)
        rw [evm] at this
        exact this
      · obtain ⟨c3, c4, q3, q4, hno⟩ := h4
        cases Option.some.inj (q3.symm.trans hX)
        cases Option.some.inj (q4.symm.trans hcT)
        obtain ⟨vm', X', hq⟩ := gFindAt hown rfl hobj hX es h5 (T.setVm (T.vm.noted g.method.cls x.catchType (.cls cT))) (XT.noted hW') hcell
        refine ⟨vm', X', fun Q E d acts => ?_⟩
        have := gGo_pass (Q := Q) (E := E) (e := e) (d := d) (acts := acts) (s := (T.setTop g).pushFrame (.throwing a)) (f := g) (a := a) (x := x) (t := es) (c := cT) (cell := cell) h1 h2 (by rw [evm]; exact hcl₀) (by rw [ehp]; exact hcell) (VmData.ne_statics_of hobj) (by rw [evm]; exact ⟨_, hkx'⟩) (by rw [evm]; exact ⟨_, hkt'⟩) (by rw [evm, hal.assignable]; exact hno)
        rw [evm] at this
        rw [this]
        obtain ⟨g₀, hfr⟩ := XT.frames_eq
        have hq' := hq Q E d acts
        rw [gNote_setVm _ hfr] at hq'
        exact hq'
variable {G : gG} {C : Cx} {M : gM} {k n pc : Nat} {L : Nat → Option Value} {st : List Value} {hh : List (Nat × Nat × Nat × Nat)} {cc : ByteArray} {ow : String} {nL : Nat} {rt : Option FieldType} {rm : Room} {post : gRes → gM → Prop}
/-- caught here -/
theorem VT_catch (hC : Ck G C hh cc ow nL rt rm post) {X : String} {h : Nat} (hct : gCt C.s C.args ow X pc (tableOf hh) h) (kk : ∀ a : Nat, V G C M k n h L [.ref a]) : VT G C M k n pc L X := by
  intro T locs ls st a X0 h1 h2 h3 hi
  obtain ⟨cell, q1, q2, q3⟩ := hi
  have hX : C.s.vm.findClass X = some cell.cls := by rw [← X0.warmed.alike.findClass]; exact q3
  obtain ⟨vm', X', hq⟩ := gFindAt (g := F0 C.m pc ls st) hC.2.2.2.1 rfl q2 hX (tableOf hh) hct T X0 q1
  have hfind : gFinds C.e ((T.setTop (F0 C.m pc ls st)).pushFrame (.throwing a)) (F0 C.m pc ls st) a h vm' := fun Q E d acts => by
    rw [W.findHandler_eq (meth := C.meth) (code := C.c) X0.method' X0.code, hC.2.2.2.2.2.2.2.2.2.2.2.1]
    exact hq Q E d acts
  obtain ⟨t, a1, a2⟩ := kk a T.heap locs ls h1 h2 h3 (T.setVm vm') rfl X'
  exact ⟨t, gCaught X0.here hfind a1, a2⟩
end GCATCH
