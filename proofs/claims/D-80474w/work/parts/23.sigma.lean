/-! THE COMMON STATE, and what each call answers: one spec for both classes -/
/-- shape, hard levels, levels -/
abbrev Sc : Type := Nat × Nat × List Int64
/-- scores, tape, out, plan (shape, hard, size), rules (weight, count), bests -/
abbrev Sy : Type := List (Option Sc) × List Int32 × List Int32 × (Nat × Nat × Nat) × List (List Int64 × Nat) × List (List Int64)
abbrev Sy.sc (σ : Sy) : List (Option Sc) := σ.1
abbrev Sy.tp (σ : Sy) : List Int32 := σ.2.1
abbrev Sy.ou (σ : Sy) : List Int32 := σ.2.2.1
abbrev Sy.pl (σ : Sy) : Nat × Nat × Nat := σ.2.2.2.1
abbrev Sy.ru (σ : Sy) : List (List Int64 × Nat) := σ.2.2.2.2.1
abbrev Sy.be (σ : Sy) : List (List Int64) := σ.2.2.2.2.2
def Sy.add (σ : Sy) (x : Option Sc) : Sy := (σ.sc ++ [x], σ.2)
/-- the shapes that there are -/
def okS (sh h n : Nat) : Prop := (sh = 0 ∧ h = 0 ∧ n = 1) ∨ (sh = 1 ∧ h = 1 ∧ n = 2) ∨ (sh = 2 ∧ h = 1 ∧ n = 3) ∨ (sh = 3 ∧ h ≤ 6 ∧ h ≤ n ∧ n ≤ h + 6 ∧ 1 ≤ n)
def zfit (z : Int) : Prop := -9223372036854775808 ≤ z ∧ z ≤ 9223372036854775807
/-- level k of the rules' sum -/
def rsum (ru : List (List Int64 × Nat)) (k : Nat) : Int := (ru.map fun q => (q.1.getD k 0).toInt * (q.2 : Int)).sum
/-- every part and the total have room -/
def rroom (ru : List (List Int64 × Nat)) (n : Nat) : Prop := ∀ k, k < n → (∀ q ∈ ru, zfit ((q.1.getD k 0).toInt * (q.2 : Int))) ∧ zfit (rsum ru k)
/-- what always holds of the state -/
def Sw (σ : Sy) : Prop := σ.sc.length ≤ 60 ∧ (∀ x ∈ σ.sc, ∀ s, x = some s → okS s.1 s.2.1 s.2.2.length) ∧ σ.tp.length ≤ 300 ∧ (∀ c ∈ σ.tp, gIx c 128 = true) ∧ σ.ou.length ≤ 300 ∧ (∀ c ∈ σ.ou, gIx c 128 = true) ∧ okS σ.pl.1 σ.pl.2.1 σ.pl.2.2 ∧
  σ.ru.length ≤ 12 ∧ (∀ q ∈ σ.ru, q.1.length = σ.pl.2.2 ∧ q.2 ≤ 1000000) ∧ rroom σ.ru σ.pl.2.2 ∧ σ.be.length ≤ 5 ∧ ∀ q ∈ σ.be, q.length = σ.pl.2.2
def mkSc (x h s : Int32) : Sc := if x = 0 then (0, 0, [0]) else if x = 1 then (1, 1, [0, 0]) else if x = 2 then (2, 1, [0, 0, 0]) else (3, h.toNatClampNeg, List.replicate (h.toNatClampNeg + s.toNatClampNeg) 0)
noncomputable def o_make (σ : Sy) (x h s : Int32) : Int32 × Sy :=
  if gIx x 4 = false ∨ (x = 3 ∧ (6 < h ∨ 6 < s ∨ (h = 0 ∧ s = 0))) then (-3, σ) else if σ.sc.length = 60 then (-4, σ) else if x = 3 ∧ (h < 0 ∨ s < 0) then (-14, σ) else (nI σ.sc.length, σ.add (some (mkSc x h s)))
def o_nothing (σ : Sy) : Int32 × Sy := if σ.sc.length = 60 then (-4, σ) else (nI σ.sc.length, σ.add none)
/-- the score at a, if there is one there: nothing at all, or what stands there -/
def scAt (σ : Sy) (x : Int32) : Option (Option Sc) := if gIx x σ.sc.length = true then σ.sc[x.toNatClampNeg]? else none
def o_set (σ : Sy) (x lev : Int32) (v : Int64) : Int32 × Sy := match scAt σ x with
  | none => (-2, σ)
  | some none => (-11, σ)
  | some (some s) => if gIx lev s.2.2.length = true then (1, (σ.sc.set x.toNatClampNeg (some (s.1, s.2.1, s.2.2.set lev.toNatClampNeg v)), σ.2)) else (-13, σ)
def o_at (σ : Sy) (x lev : Int32) : Int32 × Int64 := match scAt σ x with
  | none => (1, 0)
  | some none => (2, 0)
  | some (some s) => if gIx lev s.2.2.length = true then (0, s.2.2.getD lev.toNatClampNeg 0) else (1, 0)
def feas (s : Sc) : Bool := (s.2.2.take s.2.1).all (fun v => decide (0 ≤ v))
def o_told (σ : Sy) (x w : Int32) : Int32 := match scAt σ x with
  | none => -2
  | some y => if gIx w 4 = false then -3 else match y with
    | none => -11
    | some s => if w = 0 then nI s.1 else if w = 1 then nI s.2.1 else if w = 2 then nI s.2.2.length else gB (feas s)
def cmpL : List Int64 → List Int64 → Int32
  | x :: xs, y :: ys => if x = y then cmpL xs ys else if x < y then -1 else 1
  | _, _ => 0
def like (s t : Sc) : Bool := decide (s.1 = t.1 ∧ s.2.1 = t.2.1 ∧ s.2.2.length = t.2.2.length)
def o_order (σ : Sy) (x y : Int32) : Int32 := match scAt σ x, scAt σ y with
  | none, _ => -2
  | _, none => -2
  | some none, _ => -11
  | _, some none => -11
  | some (some s), some (some t) => if like s t = true then 2 + cmpL s.2.2 t.2.2 else -12
def zlist (zs : List Int) : Option (List Int64) := if ∀ z ∈ zs, -9223372036854775808 ≤ z ∧ z ≤ 9223372036854775807 then some (zs.map Int64.ofInt) else none
def joinL (t : Int32) (x y : List Int64) : Option (List Int64) :=
  if t = 0 then zlist (List.zipWith (fun u v => u.toInt + v.toInt) x y) else if t = 1 then zlist (List.zipWith (fun u v => u.toInt - v.toInt) x y)
  else if t = 2 then some (if 0 ≤ cmpL x y then x else y) else if t = 3 then some (if cmpL x y ≤ 0 then x else y)
  else if t = 4 then some (List.zipWith (fun u v => if v < u then u else v) x y) else some (List.zipWith (fun u v => if u < v then u else v) x y)
def o_act (σ : Sy) (t x y : Int32) : Int32 × Sy := match scAt σ x, scAt σ y with
  | none, _ => (-2, σ)
  | _, none => (-2, σ)
  | some u, some v => if gIx t 6 = false then (-3, σ) else if σ.sc.length = 60 then (-4, σ) else match u, v with
    | none, _ => (-11, σ)
    | _, none => (-11, σ)
    | some p, some q => if like p q = true then (match joinL t p.2.2 q.2.2 with | none => (-16, σ) | some lv => (nI σ.sc.length, σ.add (some (p.1, p.2.1, lv)))) else (-12, σ)
def o_times (σ : Sy) (x up dn : Int32) : Int32 × Sy := match scAt σ x with
  | none => (-2, σ)
  | some u => if σ.sc.length = 60 then (-4, σ) else match u with
    | none => (-11, σ)
    | some p => if dn = 0 then (-15, σ) else match zlist (p.2.2.map fun v => Int.fdiv (v.toInt * up.toInt) dn.toInt) with
      | none => (-16, σ)
      | some lv => (nI σ.sc.length, σ.add (some (p.1, p.2.1, lv)))
def o_put (σ : Sy) (c : Int32) : Int32 × Sy := if gIx c 128 = false then (-3, σ) else if σ.tp.length = 300 then (-4, σ) else (nI (σ.tp.length + 1), (σ.sc, σ.tp ++ [c], σ.2.2))
def o_out (σ : Sy) (i : Int32) : Int32 := if gIx i σ.ou.length = true then σ.ou.getD i.toNatClampNeg 0 else -1
def o_plan (σ : Sy) (x : Int32) : Int32 × Sy := match scAt σ x with
  | none => (-2, σ)
  | some none => (-11, σ)
  | some (some s) => (nI σ.ru.length, (σ.sc, σ.tp, σ.ou, (s.1, s.2.1, s.2.2.length), [], []))
def likeP (s : Sc) (p : Nat × Nat × Nat) : Bool := decide (s.1 = p.1 ∧ s.2.1 = p.2.1 ∧ s.2.2.length = p.2.2)
def o_rule (σ : Sy) (x : Int32) : Int32 × Sy := match scAt σ x with
  | none => (-2, σ)
  | some u => if σ.ru.length = 12 then (-4, σ) else match u with
    | none => (-11, σ)
    | some s => if likeP s σ.pl = true then (nI σ.ru.length, (σ.sc, σ.tp, σ.ou, σ.pl, σ.ru ++ [(s.2.2, 0)], σ.be)) else (-12, σ)
def o_many (σ : Sy) (w : Int32) : Int32 := if w = 0 then nI σ.sc.length else if w = 1 then nI σ.ru.length else if w = 2 then nI σ.be.length else if w = 3 then nI σ.tp.length else if w = 4 then nI σ.ou.length else -3
def o_drop (σ : Sy) : Int32 × Sy := if σ.sc.length = 0 then (-2, σ) else (nI (σ.sc.length - 1), (σ.sc.dropLast, σ.2))
def o_kept (σ : Sy) (k : Int32) : Int32 × Sy := if gIx k σ.be.length = false then (-2, σ) else if σ.sc.length = 60 then (-4, σ) else (nI σ.sc.length, σ.add (some (σ.pl.1, σ.pl.2.1, σ.be.getD k.toNatClampNeg [])))
/-- how many of the first bests aren't less -/
def place (lv : List Int64) : List (List Int64) → Nat
  | [] => 0
  | b :: r => if 0 ≤ cmpL b lv then place lv r + 1 else 0
def o_keep (σ : Sy) (x : Int32) : Int32 × Sy := match scAt σ x with
  | none => (-2, σ)
  | some none => (-11, σ)
  | some (some s) => if likeP s σ.pl = false then (-12, σ) else if place s.2.2 σ.be = 5 then (-1, σ)
    else (nI (place s.2.2 σ.be), (σ.sc, σ.tp, σ.ou, σ.pl, σ.ru, ((σ.be.take (place s.2.2 σ.be)) ++ s.2.2 :: σ.be.drop (place s.2.2 σ.be)).take 5))
noncomputable def o_count (σ : Sy) (r n : Int32) : Int32 × Sy := if gIx r σ.ru.length = false then (-2, σ) else if gIx n 1000001 = false then (-3, σ)
  else haveI := Classical.propDecidable (rroom (σ.ru.set r.toNatClampNeg ((σ.ru.getD r.toNatClampNeg ([], 0)).1, n.toNatClampNeg)) σ.pl.2.2)
    if rroom (σ.ru.set r.toNatClampNeg ((σ.ru.getD r.toNatClampNeg ([], 0)).1, n.toNatClampNeg)) σ.pl.2.2 then (nI (σ.ru.getD r.toNatClampNeg ([], 0)).2, (σ.sc, σ.tp, σ.ou, σ.pl, σ.ru.set r.toNatClampNeg ((σ.ru.getD r.toNatClampNeg ([], 0)).1, n.toNatClampNeg), σ.be)) else (-16, σ)
noncomputable def o_weight (σ : Sy) (r x : Int32) : Int32 × Sy := if gIx r σ.ru.length = false then (-2, σ) else match scAt σ x with
  | none => (-2, σ)
  | some none => (-11, σ)
  | some (some s) => if likeP s σ.pl = false then (-12, σ)
    else haveI := Classical.propDecidable (rroom (σ.ru.set r.toNatClampNeg (s.2.2, (σ.ru.getD r.toNatClampNeg ([], 0)).2)) σ.pl.2.2)
      if rroom (σ.ru.set r.toNatClampNeg (s.2.2, (σ.ru.getD r.toNatClampNeg ([], 0)).2)) σ.pl.2.2 then (1, (σ.sc, σ.tp, σ.ou, σ.pl, σ.ru.set r.toNatClampNeg (s.2.2, (σ.ru.getD r.toNatClampNeg ([], 0)).2), σ.be)) else (-16, σ)
def o_total (σ : Sy) (r : Int32) : Int32 × Sy := if r ≠ -1 ∧ gIx r σ.ru.length = false then (-2, σ) else if σ.sc.length = 60 then (-4, σ)
  else (nI σ.sc.length, σ.add (some (σ.pl.1, σ.pl.2.1, (List.range σ.pl.2.2).map fun k => Int64.ofInt (if r = -1 then rsum σ.ru k else rsum [σ.ru.getD r.toNatClampNeg ([], 0)] k))))
/-- the weights above 0 (or not) of level k, summed, n times -/
def ssum (ru : List (List Int64 × Nat)) (up : Bool) (n k : Nat) : Int := (ru.map fun q => if decide ((0 : Int64) < q.1.getD k 0) = up then (q.1.getD k 0).toInt * (n : Int) else 0).sum
noncomputable def o_safe (σ : Sy) (n : Int32) : Int32 := if gIx n 1000001 = false then -3 else
  haveI := Classical.propDecidable (∀ k, k < σ.pl.2.2 → zfit (ssum σ.ru true n.toNatClampNeg k) ∧ zfit (ssum σ.ru false n.toNatClampNeg k))
  if ∀ k, k < σ.pl.2.2 → zfit (ssum σ.ru true n.toNatClampNeg k) ∧ zfit (ssum σ.ru false n.toNatClampNeg k) then 1 else 0
/-! the model holds the state -/
def RM (σ : Sy) (I : Nat → Int32) (P : Nat → Nat → Int32) (Q : Nat → Nat → Int64) : Prop :=
  I 0 = nI σ.sc.length ∧ (∀ i : Nat, σ.sc[i]? = some none → P 0 i = -1) ∧ (∀ (i : Nat) (s : Sc), σ.sc[i]? = some (some s) → P 0 i = nI s.1 ∧ P 1 i = nI s.2.1 ∧ P 2 i = nI s.2.2.length ∧ ∀ (k : Nat) (v : Int64), s.2.2[k]? = some v → Q 0 (12 * i + k) = v) ∧
  (I 1 = nI σ.pl.1 ∧ I 2 = nI σ.pl.2.1 ∧ I 3 = nI σ.pl.2.2) ∧ I 4 = nI σ.ru.length ∧ (∀ (r : Nat) (q : List Int64 × Nat), σ.ru[r]? = some q → P 3 r = nI q.2 ∧ ∀ (k : Nat) (v : Int64), q.1[k]? = some v → Q 1 (12 * r + k) = v) ∧
  I 5 = nI σ.be.length ∧ (∀ (r : Nat) (q : List Int64), σ.be[r]? = some q → ∀ (k : Nat) (v : Int64), q[k]? = some v → Q 2 (12 * r + k) = v) ∧ I 6 = nI σ.tp.length ∧ (∀ (j : Nat) (c : Int32), σ.tp[j]? = some c → P 4 j = c) ∧ I 7 = nI σ.ou.length ∧ ∀ (j : Nat) (c : Int32), σ.ou[j]? = some c → P 5 j = c
/-- the model's answer, and the state that it holds then -/
def RMp (G : gG) (a : Nat) (M0 : gM) (r : Int32 × Sy) : gRes → gM → Prop := fun res M' => res = .inl (some (.int r.1)) ∧ ∃ (I : Nat → Int32) (J : Nat → Int64) (P : Nat → Nat → Int32) (Q : Nat → Nat → Int64), M' = mkM G a I J P Q M0 ∧ RM r.2 I P Q
