/-! the run's constants beyond the classes: what later parts need of tables and old cells -/
/-- the run's constants: class numbers and slots; the array classes (0 int, 1 long, 2 byte, 3 Score); the first address of the law's own cells -/
abbrev gG : Type := va_G × (Nat → ClassId) × Nat
def gA (G : gG) : Nat → Prop := fun q => G.2.2 ≤ q
/-- words of the tables that don't ride in lw_all, by kind -/
def gxKind : Cond → Bool
  | .castable _ _ => true
  | .declares _ => true
  | .publicMethod _ => true
  | .unhidden _ _ _ => true
  | .arrayOver (.object _) => true
  | _ => false
theorem gx_tr {u U : State} {w : Cond} (hw : w.onTables = true) (h : w.before #[] (u.setVm U.vm) = true) : w.before #[] U = true := va_tabs hw (rfl : (u.setVm U.vm).vm = U.vm) h
theorem gxKind.moved {u U : State} (hvm : u.vm.Alike U.vm) : ∀ {w : Cond}, gxKind w = true → w.before #[] u = true → w.before #[] U = true := by
  intro w hw h
  cases w with
  | castable a b => exact gx_tr rfl (by rw [Cond.castable_setVm hvm]; exact h)
  | declares x => exact gx_tr rfl (by rw [Cond.declares_setVm hvm]; exact h)
  | publicMethod x => exact gx_tr rfl (by rw [Cond.publicMethod_setVm hvm]; exact h)
  | unhidden a b d => exact gx_tr rfl (by rw [Cond.unhidden_setVm hvm]; exact h)
  | arrayOver t =>
    cases t with
    | object C => exact va_AO.moved hvm h
    | _ => cases hw
  | _ => cases hw
theorem gx_ls {O n d : String} {s U : State} (h : (Cond.laysStatic O n d).before #[] s = true) (hvm : s.vm.Alike U.vm) (hh : ∀ c k a, s.vm.findClass O = some c → s.vm.classes[c]? = some k → k.statics = some a → U.heap[a]? = s.heap[a]?) : (Cond.laysStatic O n d).before #[] U = true ∧ ((Cond.isRef (.static O n d)).before #[] s = true → (Cond.isRef (.static O n d)).before #[] U = true) := by
  have st : ∀ w : Cond, w.steady = true → w.before #[] s = true → w.before #[] (s.setVm U.vm) = true := fun w hw hb => by
    have e := Cond.value_setVm₂ (args := #[]) (s := s) (o := none) hvm hvm w [] hw
    show (w.value #[] (s.setVm U.vm) none (s.setVm U.vm) [] == some true) = true
    rw [e]
    exact hb
  obtain ⟨c, k, i, f, a, cell, hc, hf, hst, hsta, hcell, -⟩ := Cond.laysStatic_spec h
  obtain ⟨c', k', i', f', a', cell', hc', hf', hst', hsta', hcell', hss', hcls', hlt', hty'⟩ := Cond.laysStatic_spec (st _ rfl h)
  have e1 : c' = c := by
    have : (s.setVm U.vm).vm.findClass O = some c := by show U.vm.findClass O = some c; rw [hvm.findClass]; exact hc
    exact Option.some.inj (hc'.symm.trans this)
  subst e1
  have hk := (State.fieldFound?_spec hf).1
  have hk' := (State.fieldFound?_spec hf').1
  obtain ⟨k2, hk2, he2⟩ := hvm.2.2 _ _ hk
  have e2 : k' = k2 := Option.some.inj (hk'.symm.trans hk2)
  have e3 : a' = a := by
    have : k'.statics = k.statics := by rw [e2, he2]
    rw [this, hsta] at hsta'
    exact (Option.some.inj hsta').symm
  subst e3
  have hU : U.heap[a']? = some cell' := by
    rw [hh _ _ _ hc hk hsta]
    exact hcell'
  have hfU : U.fieldFound? O n d = some (c', k', i', f') := hf'
  have hcU : U.vm.findClass O = some c' := hc'
  refine ⟨?_, fun hr => ?_⟩
  · simp [Cond.before, Cond.holds, Cond.value, hcU, hfU, hsta', hU, hst', hss', hcls', hlt', hty']
  · obtain ⟨u, hu⟩ := Cond.staticRefV hf' hst' hsta' hcell' hss' (st _ rfl hr)
    have ev : (Term.static O n d).eval #[] U none [] U = some u.v := by
      simp [Term.eval, State.fieldNamed?, hfU, hst', hsta', hU, hss', hu]
    simp only [Cond.before, Cond.holds, Cond.value, ev]
    obtain ⟨v, hv⟩ := u
    cases v <;> first | rfl | (simp [Value.isRef] at hv)
/-- the interface's methods -/
def gxIf : List MethodName := [⟨"LevelScores$Shaped", "hard", "()I"⟩, ⟨"LevelScores$Shaped", "soft", "()I"⟩, ⟨"LevelScores$Shaped", "levels", "()I"⟩, ⟨"LevelScores$Shaped", "isHard", "(I)Z"⟩]
/-- classes that aren't below one another -/
def gxNo : List (String × String) := [("LevelScores$Simple", "LevelScores$Two"), ("LevelScores$Simple", "LevelScores$Three"), ("LevelScores$Simple", "LevelScores$Bent"), ("LevelScores$Two", "LevelScores$Three"), ("LevelScores$Two", "LevelScores$Bent"), ("LevelScores$Three", "LevelScores$Bent"), ("LevelScores$Bent", "LevelScores$Simple"), ("LevelScores$Bent", "LevelScores$Two"), ("LevelScores$Bent", "LevelScores$Three"), ("java/lang/IllegalStateException", "java/lang/NullPointerException"), ("java/lang/IllegalStateException", "java/lang/ClassCastException"), ("java/lang/ClassCastException", "java/lang/NullPointerException"), ("java/lang/ArithmeticException", "java/lang/NullPointerException"), ("java/lang/IllegalStateException", "java/lang/ArithmeticException"), ("java/lang/ArrayIndexOutOfBoundsException", "java/lang/NullPointerException"), ("java/util/NoSuchElementException", "java/lang/IndexOutOfBoundsException")]
/-- Throwable's statics are older than the law's cells -/
def gxS (b0 : Nat) (U : State) : Prop := (∃ c k a, U.vm.findClass Bundle.tN = some c ∧ U.vm.classes[c]? = some k ∧ k.statics = some a ∧ a < b0 ∧ a < U.heap.size) ∧
  ((Cond.laysStatic Bundle.tN "UNASSIGNED_STACK" Bundle.steD).before #[] U = true ∧ (Cond.isRef (.static Bundle.tN "UNASSIGNED_STACK" Bundle.steD)).before #[] U = true) ∧ (Cond.laysStatic Bundle.tN "SUPPRESSED_SENTINEL" Bundle.listD).before #[] U = true ∧ (Cond.isRef (.static Bundle.tN "SUPPRESSED_SENTINEL" Bundle.listD)).before #[] U = true
def gX (G : gG) (U : State) : Prop := (∀ w ∈ lw_tbl, gxKind w = true → w.before #[] U = true) ∧ (∀ x ∈ gxIf, (Cond.declares x).before #[] U = true ∧ (Cond.interfaceMethod x.cls x.cls x.name x.desc).before #[] U = true) ∧ (∀ q ∈ gxNo, va_Nc q.1 q.2 U) ∧ gxS G.2.2 U
theorem gxS.moved {b0 : Nat} {s U : State} (h : gxS b0 s) (hvm : s.vm.Alike U.vm) (hz : s.heap.size ≤ U.heap.size) (hh : ∀ q : Nat, q < s.heap.size → ¬ b0 ≤ q → U.heap[q]? = s.heap[q]?) : gxS b0 U := by
  obtain ⟨⟨c, k, a, h1, h2, h3, h4, h5⟩, ⟨h6, h7⟩, h8, h9⟩ := h
  have key : ∀ c' k' a', s.vm.findClass Bundle.tN = some c' → s.vm.classes[c']? = some k' → k'.statics = some a' → U.heap[a']? = s.heap[a']? := fun c' k' a' e1 e2 e3 => by
    cases Option.some.inj (h1.symm.trans e1)
    cases Option.some.inj (h2.symm.trans e2)
    cases Option.some.inj (h3.symm.trans e3)
    exact hh a h5 (Nat.not_le_of_lt h4)
  obtain ⟨k2, hk2, he2⟩ := hvm.2.2 _ _ h2
  have r1 := gx_ls h6 hvm key
  have r2 := gx_ls h8 hvm key
  exact ⟨⟨c, k2, a, by rw [hvm.findClass]; exact h1, hk2, by rw [he2]; exact h3, h4, Nat.lt_of_lt_of_le h5 hz⟩, ⟨r1.1, r1.2 h7⟩, r2.1, r2.2 h9⟩
theorem gX.moved {G : gG} {s U : State} (h : gX G s) (hW : s.WarmedH U.vm) (hz : s.heap.size ≤ U.heap.size) (hh : ∀ q : Nat, q < s.heap.size → ¬ gA G q → U.heap[q]? = s.heap[q]?) : gX G U := by
  obtain ⟨h1, h2, h3, h4⟩ := h
  refine ⟨fun w hw hk => gxKind.moved hW.alike hk (h1 w hw hk), fun x hx => ?_, fun q hq => (h3 q hq).moved hW.alike, h4.moved hW.alike hz hh⟩
  obtain ⟨d1, d2⟩ := h2 x hx
  obtain ⟨r, meth, hn, -⟩ := Cond.declares_spec d1
  have hc : x.cls ≠ "java/lang/invoke/MethodHandle" ∧ x.cls ≠ "java/lang/invoke/VarHandle" := by
    unfold gxIf at hx
    simp only [List.mem_cons, List.not_mem_nil, or_false] at hx
    rcases hx with rfl | rfl | rfl | rfl <;> exact ⟨by decide, by decide⟩
  exact ⟨gx_tr rfl (by rw [Cond.declares_setVm hW.alike]; exact d1), gx_tr rfl (by rw [Cond.interfaceMethod_setVm hW.alike (r := r) hn hc]; exact d2)⟩
