/-! MODEL 17: row -/
def pPre {α : Type} (l : List α) (r : Nat × Option (List α)) : Nat × Option (List α) := (r.1, r.2.map (fun x => l ++ x))
/-- numbers with / between, at most so many -/
def pNums (T : List Int32) : Nat → Nat → Nat × Option (List Int64)
  | 0, p => (p, none)
  | k + 1, p => match pFg T p with
    | (q, none) => (q, none)
    | (q, some v) => if hr T q = 47 ∧ 0 < k then pPre [v] (pNums T k (q + 1)) else (q, some [v])
def pRow (T : List Int32) (p : Nat) : Nat × Option (List Int64) := if hr T p = 93 then (p, some []) else pNums T 6 p
/-- behind a number: k more may come -/
def pCont (T : List Int32) (k q : Nat) : Nat × Option (List Int64) := if hr T q = 47 ∧ 0 < k then pNums T k (q + 1) else (q, some [])
theorem pNums_s (T : List Int32) (k p : Nat) : pNums T (k + 1) p = match pFg T p with
    | (q, none) => (q, none)
    | (q, some v) => pPre [v] (pCont T k q) := by
  rw [pNums]
  cases h : pFg T p with
  | mk q o =>
    cases o with
    | none => rfl
    | some v =>
      simp only
      unfold pCont
      by_cases c : hr T q = 47 ∧ 0 < k
      · rw [if_pos c, if_pos c]
      · rw [if_neg c, if_neg c]
        rfl
theorem pPre_pre {α : Type} (l m : List α) (r : Nat × Option (List α)) : pPre l (pPre m r) = pPre (l ++ m) r := by
  unfold pPre
  cases r.2 with
  | none => rfl
  | some x => simp
theorem pPre_nil {α : Type} (r : Nat × Option (List α)) : pPre [] r = r := by
  unfold pPre
  cases h : r.2 with
  | none => rw [← h]; simp [h]; exact Prod.ext rfl h.symm
  | some x => simp; exact Prod.ext rfl h.symm
theorem pDig_le {T : List Int32} {m : Bool} : ∀ (f q : Nat) (v : Int), q ≤ T.length → (pDig T m f q v).1 ≤ T.length
  | 0, q, v, h => h
  | f + 1, q, v, h => by
    unfold pDig
    split
    · rename_i hd
      generalize (if m = true then _ else _ : Int) = w
      split
      · exact h
      · exact pDig_le f (q + 1) _ (isD_hr hd)
    · exact h
theorem pFg_le {T : List Int32} {p : Nat} (h : p ≤ T.length) : (pFg T p).1 ≤ T.length := by
  unfold pFg
  split
  · rename_i h1
    have h2 : p < T.length := hr_ne (fun z => by rw [z] at h1; exact absurd h1 (by decide))
    split
    · exact h2
    · exact pDig_le _ _ _ h2
  · split
    · exact h
    · rename_i h2
      have h3 : p < T.length := isD_hr (by cases q : isD (hr T p) with | true => rfl | false => exact absurd q h2)
      split
      · exact h3
      · exact pDig_le _ _ _ h
theorem fgS_le {T : List Int32} {q : Nat × Bool} (h : q.1 ≤ T.length) : (fgS T q).1 ≤ T.length := by
  unfold fgS
  split
  · exact h
  · exact pFg_le h
def rowS (T : List Int32) (q : Nat × Bool) : Nat × Option (List Int64) := if q.2 = true then (q.1, none) else pRow T q.1
/-- a row has been read: f: where its levels begin in the block of twelve from b on -/
def RRow (G : gG) (a : Nat) (I : Nat → Int32) (P : Nat → Nat → Int32) (Q : Nat → Nat → Int64) (M0 : gM) (b f : Nat) (q : Nat × Option (List Int64)) : gRes → gM → Prop := fun res M' => ∃ (c : Nat) (J : Nat → Int64) (Q' : Nat → Nat → Int64), res = .inl (some (.int (nI c))) ∧ c ≤ 6 ∧ M' = mkM G a (iP I (nI q.1) (gB q.2.isNone)) J P Q' M0 ∧ q.1 ≤ 300 ∧ (∀ j, j ≠ 0 → Q' j = Q j) ∧ (∀ i, (i < b + f ∨ b + f + 6 ≤ i) → Q' 0 i = Q 0 i) ∧ ∀ l, q.2 = some l → l.length = c ∧ ∀ (k : Nat) (v : Int64), l[k]? = some v → Q' 0 (b + f + k) = v
theorem lev_at {Q : Nat → Nat → Int64} {b f : Nat} {l : List Int64} (h : ∀ (k : Nat) (v : Int64), l[k]? = some v → Q 0 (b + f + k) = v) (w : Int64) : ∀ (k : Nat) (v : Int64), (l ++ [w])[k]? = some v → va_up Q 0 (va_up (Q 0) (b + (f + l.length)) w) 0 (b + f + k) = v := by
  intro k v hv
  rw [va_up_self]
  rcases gAppAt hv with ⟨q1, q2⟩ | ⟨q1, q2⟩
  · rw [va_up_ne _ _ (by omega)]
    exact h k v q2
  · rw [q1, show b + f + l.length = b + (f + l.length) by omega, va_up_self]
    exact q2
theorem iP_9x (I : Nat → Int32) (p s p' : Int32) : iP I p' s = va_up (iP I p s) 9 p' := by
  rw [← iP_iP I p s p' s]
  exact (iP_9 rfl).symm
set_option maxHeartbeats 4000000 in
theorem m_row {l : Launch} {G : gG} {a : Nat} {I : Nat → Int32} {J : Nat → Int64} {P : Nat → Nat → Int32} {Q : Nat → Nat → Int64} {M0 : gM} {T : List Int32} (hT : HT T I P) {p n f : Nat} {s : Bool} (hp : I 9 = nI p) (hs : I 10 = gB s) (hb : p ≤ T.length) (hn : I 0 = nI n) (hn60 : n < 60) (hf : f ≤ 6) : gMet l yX4_row (gWs yX4_row cX4_row 3 (some .int) []) ({ frames := 3, cells := 0, slots := 0, locals := 71 } : Room) G [.ref a, .int (nI f)] (mkM G a I J P Q M0) (RRow G a I P Q M0 (12 * n) f (rowS T (p, s))) := by
  refine gMet.intro (by decide) (Nat.le_of_ble_eq_true rfl) (fun C hl hC hN => ?_)
  subst hl
  replace hC : Ck G C [] cX4_row RX4 3 (some .int) ({ frames := 3, cells := 0, slots := 0, locals := 71 } : Room) (RRow G a I P Q M0 (12 * n) f (rowS T (p, s))) := hC
  refine V.loc [some (.ref a), some (.int (nI f))] ⟨rfl, rfl, trivial⟩ ?_
  have h300 := hT.2.1
  refine V_iconst (v := 0) hC dX4_row_0 (by decide) ?_
  refine V_istore_n hC dX4_row_1 (Nat.le_of_ble_eq_true rfl) ?_
  refine V_aload_n hC dX4_row_2 rfl ?_
  refine mg_stuck hC dX4_row_3 ?_
  rw [hs]
  refine V_ifb_ne (tgt := 20) hC dX4_row_6 (by decide) (fun c6 => ?_) (fun c6 => ?_)
  · have loop : ∀ (fuel : Nat) (c q : Nat) (sb : Bool) (l : List Int64) (K : Nat → Int64) (Q2 : Nat → Nat → Int64), 6 < c + fuel → c ≤ 6 → q ≤ T.length → (∀ j, j ≠ 0 → Q2 j = Q j) → (∀ i, (i < 12 * n + f ∨ 12 * n + f + 6 ≤ i) → Q2 0 i = Q 0 i) → (sb = true → rowS T (p, s) = (q, none)) → (sb = false → l.length = c ∧ rowS T (p, s) = pPre l (pCont T (6 - c) q) ∧ ∀ (k : Nat) (v : Int64), l[k]? = some v → Q2 0 (12 * n + f + k) = v) → V G C (mkM G a (iP I (nI q) (gB sb)) K P Q2 M0) 0 0 31 (gl [some (.ref a), some (.int (nI f)), some (.int (nI c))]) [] := by
      intro fuel
      induction fuel with
      | zero => intros; omega
      | succ fuel ih =>
        intro c q sb l K Q2 h1 h2 h3 h4 h5 h6 h7
        refine V_aload_n hC dX4_row_31 rfl ?_
        refine mg_stuck hC dX4_row_32 ?_
        refine V_seti (y := gB sb) rfl ?_
        refine V_ifb_ne (tgt := 80) hC dX4_row_35 (by decide) (fun c35 => ?_) (fun c35 => ?_)
        · refine V_iload_n hC dX4_row_80 rfl ?_
          exact V_iret hC dX4_row_81 (Nat.le_of_ble_eq_true rfl) (Nat.le_of_ble_eq_true rfl) (by
                have e : rowS T (p, s) = (q, none) := h6 c35
                rw [e]
                exact ⟨c, K, Q2, rfl, h2, by rw [c35]; rfl, by show q ≤ 300; omega, h4, h5, fun l hl => by cases hl⟩)
        · refine V_aload_n hC dX4_row_38 rfl ?_
          refine mc0v hC (m_he (hT.iP _ _) (p := q) rfl (by omega)) rfl mw_here ⟨⟨(Nat.le_of_ble_eq_true rfl), (Nat.le_of_ble_eq_true rfl)⟩, rfl, rfl⟩ ⟨(Nat.le_of_ble_eq_true rfl), (Nat.le_of_ble_eq_true rfl)⟩ (Nat.le_of_ble_eq_true rfl) dX4_row_39 ?_
          refine V_bipush (v := 47) hC dX4_row_42 (by decide) ?_
          refine V_icmp_ne (tgt := 80) hC dX4_row_44 (by decide) (fun c44 => ?_) (fun c44 => ?_)
          · refine V_iload_n hC dX4_row_80 rfl ?_
            exact V_iret hC dX4_row_81 (Nat.le_of_ble_eq_true rfl) (Nat.le_of_ble_eq_true rfl) (by
                  obtain ⟨g1, g2, g3⟩ := h7 c35
                  have e : rowS T (p, s) = (q, some l) := by
                    rw [g2]
                    unfold pCont
                    rw [if_neg (by rintro ⟨z1, z2⟩; first | exact c44 z1 | exact absurd c50 (nI_ge (show c < 6 by omega) (by decide)))]
                    unfold pPre
                    simp
                  rw [e]
                  exact ⟨c, K, Q2, rfl, h2, by rw [c35]; rfl, by show q ≤ 300; omega, h4, h5, fun l' hl => by cases hl; exact ⟨g1, g3⟩⟩)
          · refine V_iload_n hC dX4_row_47 rfl ?_
            refine V_bipush (v := 6) hC dX4_row_48 (by decide) ?_
            refine V_icmp_ge (tgt := 80) hC dX4_row_50 (by decide) (fun c50 => ?_) (fun c50 => ?_)
            · refine V_iload_n hC dX4_row_80 rfl ?_
              exact V_iret hC dX4_row_81 (Nat.le_of_ble_eq_true rfl) (Nat.le_of_ble_eq_true rfl) (by
                    obtain ⟨g1, g2, g3⟩ := h7 c35
                    have e : rowS T (p, s) = (q, some l) := by
                      rw [g2]
                      unfold pCont
                      rw [if_neg (by rintro ⟨z1, z2⟩; first | exact c44 z1 | exact absurd c50 (nI_ge (show c < 6 by omega) (by decide)))]
                      unfold pPre
                      simp
                    rw [e]
                    exact ⟨c, K, Q2, rfl, h2, by rw [c35]; rfl, by show q ≤ 300; omega, h4, h5, fun l' hl => by cases hl; exact ⟨g1, g3⟩⟩)
            · have hc6 : c < 6 := Nat.lt_of_not_le fun z => c50 (nI_le z (by omega))
              have hq : q < T.length := hr_ne (fun z => by rw [z] at c44; exact absurd c44 (by decide))
              obtain ⟨g1, g2, g3⟩ := h7 c35
              refine V_aload_n hC dX4_row_53 rfl ?_
              refine V_dup hC dX4_row_54 rfl ?_
              refine mg_place hC dX4_row_55 ?_
              refine V_iconst (v := 1) hC dX4_row_58 (by decide) ?_
              refine V_iadd hC dX4_row_59 ?_
              refine mp_place hC dX4_row_60 ?_
              refine V.eqM (show mkM G a (va_up (iP I (nI q) (gB sb)) 9 (nI q + 1)) K P Q2 M0 = mkM G a (va_up (iP I (nI q) (gB sb)) 9 (nI (q + 1))) K P Q2 M0 by rw [nI_1]) ?_
              refine V_aload_n hC dX4_row_63 rfl ?_
              refine mc0g hC (m_figure (I := va_up (iP I (nI q) (gB sb)) 9 (nI (q + 1))) ⟨hT.1, hT.2.1, hT.2.2⟩ (p := q + 1) (s := false) rfl (by rw [c35]; rfl) hq) rfl mw_figure ⟨⟨(Nat.le_of_ble_eq_true rfl), (Nat.le_of_ble_eq_true rfl)⟩, rfl, rfl⟩ ⟨(Nat.le_of_ble_eq_true rfl), (Nat.le_of_ble_eq_true rfl)⟩ (Nat.le_of_ble_eq_true rfl) dX4_row_64 (fun X M' h => by obtain ⟨h1, -⟩ := h; cases h1) (fun v M' h => ?_)
              obtain ⟨h1, J2, h2, hv2⟩ := h
              cases h1
              subst h2
              refine V_aload_n hC dX4_row_67 rfl ?_
              refine V_iload_n hC dX4_row_68 rfl ?_
              refine V_iload_n hC dX4_row_69 rfl ?_
              refine V_iadd hC dX4_row_70 ?_
              refine V_seti (y := nI (f + c)) (nI_add f c) ?_
              refine mc1n hC (m_level (s := (fgS T (q + 1, false)).2.isNone) (n := n) (j := f + c) rfl hn (by omega)) rfl mw_level ⟨⟨(Nat.le_of_ble_eq_true rfl), (Nat.le_of_ble_eq_true rfl)⟩, rfl, rfl⟩ ⟨(Nat.le_of_ble_eq_true rfl), (Nat.le_of_ble_eq_true rfl)⟩ (Nat.le_of_ble_eq_true rfl) dX4_row_71 ?_
              refine V_iinc (v := nI (c + 1)) hC dX4_row_74 rfl (gI_inc c) (Nat.le_of_ble_eq_true rfl) ?_
              refine V_goto (tgt := 31) hC dX4_row_77 (by decide) ?_
              refine V.eqM (show mkM G a (iP (va_up (iP I (nI q) (gB sb)) 9 (nI (q + 1))) _ _) _ P _ M0 = mkM G a (iP I (nI (fgS T (q + 1, false)).1) (gB (fgS T (q + 1, false)).2.isNone)) J2 P (if (fgS T (q + 1, false)).2.isNone = true then Q2 else va_up Q2 0 (va_up (Q2 0) (12 * n + (f + c)) (J2 2))) M0 by rw [c35, ← iP_9x, iP_iP]) (V.loc [some (.ref a), some (.int (nI f)), some (.int (nI (c + 1)))] ⟨rfl, rfl, rfl, trivial⟩ (ih (c + 1) (fgS T (q + 1, false)).1 (fgS T (q + 1, false)).2.isNone (l ++ [(fgS T (q + 1, false)).2.getD 0]) J2 _ (by omega) (by omega) (fgS_le hq) (fun j hj => by split; exact h4 j hj; rw [va_up_ne _ _ hj]; exact h4 j hj) (fun i hi => ?_) (fun z => ?_) (fun z => ?_)))
              · split
                · exact h5 i hi
                · rw [va_up_self, va_up_ne _ _ (by omega)]
                  exact h5 i hi
              · rw [g2, show 6 - c = 6 - (c + 1) + 1 by omega]
                unfold pCont
                rw [if_pos ⟨c44, by omega⟩, pNums_s]
                have e : fgS T (q + 1, false) = pFg T (q + 1) := rfl
                rw [e] at z ⊢
                cases h9 : pFg T (q + 1) with
                | mk q9 o =>
                  rw [h9] at z
                  cases o with
                  | none => rfl
                  | some v => cases z
              · have e : fgS T (q + 1, false) = pFg T (q + 1) := rfl
                rw [e] at z hv2 ⊢
                cases h9 : pFg T (q + 1) with
                | mk q9 o =>
                  rw [h9] at z hv2
                  cases o with
                  | none => cases z
                  | some v =>
                    refine ⟨by rw [List.length_append, g1]; rfl, ?_, ?_⟩
                    · rw [g2, show 6 - c = 6 - (c + 1) + 1 by omega]
                      conv => lhs; unfold pCont
                      rw [if_pos ⟨c44, by omega⟩, pNums_s, h9]
                      exact pPre_pre l [v] _
                    · rw [hv2 v rfl, ← g1]
                      exact lev_at g3 v
    refine V_aload_n hC dX4_row_20 rfl ?_
    refine mc0g hC (m_figure hT hp hs hb) rfl mw_figure ⟨⟨(Nat.le_of_ble_eq_true rfl), (Nat.le_of_ble_eq_true rfl)⟩, rfl, rfl⟩ ⟨(Nat.le_of_ble_eq_true rfl), (Nat.le_of_ble_eq_true rfl)⟩ (Nat.le_of_ble_eq_true rfl) dX4_row_21 (fun X M' h => by obtain ⟨h1, -⟩ := h; cases h1) (fun v M' h => ?_)
    obtain ⟨h1, J1, h2, hv1⟩ := h
    cases h1
    subst h2
    refine V_aload_n hC dX4_row_24 rfl ?_
    refine V_iload_n hC dX4_row_25 rfl ?_
    refine mc1n hC (m_level (s := (fgS T (p, s)).2.isNone) (n := n) (j := f) rfl hn (by omega)) rfl mw_level ⟨⟨(Nat.le_of_ble_eq_true rfl), (Nat.le_of_ble_eq_true rfl)⟩, rfl, rfl⟩ ⟨(Nat.le_of_ble_eq_true rfl), (Nat.le_of_ble_eq_true rfl)⟩ (Nat.le_of_ble_eq_true rfl) dX4_row_26 ?_
    refine V_iconst (v := 1) hC dX4_row_29 (by decide) ?_
    refine V_istore_n hC dX4_row_30 (Nat.le_of_ble_eq_true rfl) ?_
    refine V.eqM (show mkM G a (iP I _ _) J1 P _ M0 = mkM G a (iP I (nI (fgS T (p, s)).1) (gB (fgS T (p, s)).2.isNone)) J1 P (if (fgS T (p, s)).2.isNone = true then Q else va_up Q 0 (va_up (Q 0) (12 * n + f) (J1 2))) M0 from rfl) (V.loc [some (.ref a), some (.int (nI f)), some (.int (nI 1))] ⟨rfl, rfl, rfl, trivial⟩ (loop 6 1 (fgS T (p, s)).1 (fgS T (p, s)).2.isNone [(fgS T (p, s)).2.getD 0] J1 _ (by omega) (by omega) (fgS_le hb) (fun j hj => by split; rfl; exact va_up_ne _ _ hj) (fun i hi => ?_) (fun z => ?_) (fun z => ?_)))
    · split
      · rfl
      · rw [va_up_self, va_up_ne _ _ (by omega)]
    · unfold rowS
      unfold fgS at z ⊢
      by_cases cs : s = true
      · rw [if_pos cs, if_pos cs]
      · rw [if_neg cs] at z ⊢
        rw [if_neg cs]
        show pRow T p = _
        unfold pRow
        rw [if_neg (by exact absurd c6 cs), pNums_s]
        cases h9 : pFg T p with
        | mk q9 o =>
          rw [show pFg T (p, s).1 = pFg T p from rfl, h9] at z
          cases o with
          | none => rfl
          | some v => cases z
    · have cs : ¬ s = true := fun q => by
        unfold fgS at z
        rw [if_pos q] at z
        cases z
      have e : fgS T (p, s) = pFg T p := by unfold fgS; rw [if_neg cs]
      rw [e] at z hv1 ⊢
      cases h9 : pFg T p with
      | mk q9 o =>
        rw [h9] at z hv1
        cases o with
        | none => cases z
        | some v =>
          refine ⟨rfl, ?_, ?_⟩
          · unfold rowS
            rw [if_neg cs]
            show pRow T p = _
            unfold pRow
            rw [if_neg (by exact absurd c6 cs), pNums_s, h9]
            rfl
          · intro k w hk
            rw [hv1 v rfl]
            rcases (show k = 0 ∨ 0 < k by omega) with q | q
            · subst q
              rw [Nat.add_zero]
              show va_up Q 0 (va_up (Q 0) (12 * n + f) v) 0 (12 * n + f) = w
              rw [va_up_self, va_up_self]
              exact Option.some.inj hk
            · have := (List.getElem?_eq_some_iff.mp hk).1
              replace this : k < 1 := this
              omega
  · refine V_aload_n hC dX4_row_9 rfl ?_
    refine mc0v hC (m_he hT hp (by omega)) rfl mw_here ⟨⟨(Nat.le_of_ble_eq_true rfl), (Nat.le_of_ble_eq_true rfl)⟩, rfl, rfl⟩ ⟨(Nat.le_of_ble_eq_true rfl), (Nat.le_of_ble_eq_true rfl)⟩ (Nat.le_of_ble_eq_true rfl) dX4_row_10 ?_
    refine V_bipush (v := 93) hC dX4_row_13 (by decide) ?_
    refine V_icmp_ne (tgt := 20) hC dX4_row_15 (by decide) (fun c15 => ?_) (fun c15 => ?_)
    · have loop : ∀ (fuel : Nat) (c q : Nat) (sb : Bool) (l : List Int64) (K : Nat → Int64) (Q2 : Nat → Nat → Int64), 6 < c + fuel → c ≤ 6 → q ≤ T.length → (∀ j, j ≠ 0 → Q2 j = Q j) → (∀ i, (i < 12 * n + f ∨ 12 * n + f + 6 ≤ i) → Q2 0 i = Q 0 i) → (sb = true → rowS T (p, s) = (q, none)) → (sb = false → l.length = c ∧ rowS T (p, s) = pPre l (pCont T (6 - c) q) ∧ ∀ (k : Nat) (v : Int64), l[k]? = some v → Q2 0 (12 * n + f + k) = v) → V G C (mkM G a (iP I (nI q) (gB sb)) K P Q2 M0) 0 0 31 (gl [some (.ref a), some (.int (nI f)), some (.int (nI c))]) [] := by
        intro fuel
        induction fuel with
        | zero => intros; omega
        | succ fuel ih =>
          intro c q sb l K Q2 h1 h2 h3 h4 h5 h6 h7
          refine V_aload_n hC dX4_row_31 rfl ?_
          refine mg_stuck hC dX4_row_32 ?_
          refine V_seti (y := gB sb) rfl ?_
          refine V_ifb_ne (tgt := 80) hC dX4_row_35 (by decide) (fun c35 => ?_) (fun c35 => ?_)
          · refine V_iload_n hC dX4_row_80 rfl ?_
            exact V_iret hC dX4_row_81 (Nat.le_of_ble_eq_true rfl) (Nat.le_of_ble_eq_true rfl) (by
                  have e : rowS T (p, s) = (q, none) := h6 c35
                  rw [e]
                  exact ⟨c, K, Q2, rfl, h2, by rw [c35]; rfl, by show q ≤ 300; omega, h4, h5, fun l hl => by cases hl⟩)
          · refine V_aload_n hC dX4_row_38 rfl ?_
            refine mc0v hC (m_he (hT.iP _ _) (p := q) rfl (by omega)) rfl mw_here ⟨⟨(Nat.le_of_ble_eq_true rfl), (Nat.le_of_ble_eq_true rfl)⟩, rfl, rfl⟩ ⟨(Nat.le_of_ble_eq_true rfl), (Nat.le_of_ble_eq_true rfl)⟩ (Nat.le_of_ble_eq_true rfl) dX4_row_39 ?_
            refine V_bipush (v := 47) hC dX4_row_42 (by decide) ?_
            refine V_icmp_ne (tgt := 80) hC dX4_row_44 (by decide) (fun c44 => ?_) (fun c44 => ?_)
            · refine V_iload_n hC dX4_row_80 rfl ?_
              exact V_iret hC dX4_row_81 (Nat.le_of_ble_eq_true rfl) (Nat.le_of_ble_eq_true rfl) (by
                    obtain ⟨g1, g2, g3⟩ := h7 c35
                    have e : rowS T (p, s) = (q, some l) := by
                      rw [g2]
                      unfold pCont
                      rw [if_neg (by rintro ⟨z1, z2⟩; first | exact c44 z1 | exact absurd c50 (nI_ge (show c < 6 by omega) (by decide)))]
                      unfold pPre
                      simp
                    rw [e]
                    exact ⟨c, K, Q2, rfl, h2, by rw [c35]; rfl, by show q ≤ 300; omega, h4, h5, fun l' hl => by cases hl; exact ⟨g1, g3⟩⟩)
            · refine V_iload_n hC dX4_row_47 rfl ?_
              refine V_bipush (v := 6) hC dX4_row_48 (by decide) ?_
              refine V_icmp_ge (tgt := 80) hC dX4_row_50 (by decide) (fun c50 => ?_) (fun c50 => ?_)
              · refine V_iload_n hC dX4_row_80 rfl ?_
                exact V_iret hC dX4_row_81 (Nat.le_of_ble_eq_true rfl) (Nat.le_of_ble_eq_true rfl) (by
                      obtain ⟨g1, g2, g3⟩ := h7 c35
                      have e : rowS T (p, s) = (q, some l) := by
                        rw [g2]
                        unfold pCont
                        rw [if_neg (by rintro ⟨z1, z2⟩; first | exact c44 z1 | exact absurd c50 (nI_ge (show c < 6 by omega) (by decide)))]
                        unfold pPre
                        simp
                      rw [e]
                      exact ⟨c, K, Q2, rfl, h2, by rw [c35]; rfl, by show q ≤ 300; omega, h4, h5, fun l' hl => by cases hl; exact ⟨g1, g3⟩⟩)
              · have hc6 : c < 6 := Nat.lt_of_not_le fun z => c50 (nI_le z (by omega))
                have hq : q < T.length := hr_ne (fun z => by rw [z] at c44; exact absurd c44 (by decide))
                obtain ⟨g1, g2, g3⟩ := h7 c35
                refine V_aload_n hC dX4_row_53 rfl ?_
                refine V_dup hC dX4_row_54 rfl ?_
                refine mg_place hC dX4_row_55 ?_
                refine V_iconst (v := 1) hC dX4_row_58 (by decide) ?_
                refine V_iadd hC dX4_row_59 ?_
                refine mp_place hC dX4_row_60 ?_
                refine V.eqM (show mkM G a (va_up (iP I (nI q) (gB sb)) 9 (nI q + 1)) K P Q2 M0 = mkM G a (va_up (iP I (nI q) (gB sb)) 9 (nI (q + 1))) K P Q2 M0 by rw [nI_1]) ?_
                refine V_aload_n hC dX4_row_63 rfl ?_
                refine mc0g hC (m_figure (I := va_up (iP I (nI q) (gB sb)) 9 (nI (q + 1))) ⟨hT.1, hT.2.1, hT.2.2⟩ (p := q + 1) (s := false) rfl (by rw [c35]; rfl) hq) rfl mw_figure ⟨⟨(Nat.le_of_ble_eq_true rfl), (Nat.le_of_ble_eq_true rfl)⟩, rfl, rfl⟩ ⟨(Nat.le_of_ble_eq_true rfl), (Nat.le_of_ble_eq_true rfl)⟩ (Nat.le_of_ble_eq_true rfl) dX4_row_64 (fun X M' h => by obtain ⟨h1, -⟩ := h; cases h1) (fun v M' h => ?_)
                obtain ⟨h1, J2, h2, hv2⟩ := h
                cases h1
                subst h2
                refine V_aload_n hC dX4_row_67 rfl ?_
                refine V_iload_n hC dX4_row_68 rfl ?_
                refine V_iload_n hC dX4_row_69 rfl ?_
                refine V_iadd hC dX4_row_70 ?_
                refine V_seti (y := nI (f + c)) (nI_add f c) ?_
                refine mc1n hC (m_level (s := (fgS T (q + 1, false)).2.isNone) (n := n) (j := f + c) rfl hn (by omega)) rfl mw_level ⟨⟨(Nat.le_of_ble_eq_true rfl), (Nat.le_of_ble_eq_true rfl)⟩, rfl, rfl⟩ ⟨(Nat.le_of_ble_eq_true rfl), (Nat.le_of_ble_eq_true rfl)⟩ (Nat.le_of_ble_eq_true rfl) dX4_row_71 ?_
                refine V_iinc (v := nI (c + 1)) hC dX4_row_74 rfl (gI_inc c) (Nat.le_of_ble_eq_true rfl) ?_
                refine V_goto (tgt := 31) hC dX4_row_77 (by decide) ?_
                refine V.eqM (show mkM G a (iP (va_up (iP I (nI q) (gB sb)) 9 (nI (q + 1))) _ _) _ P _ M0 = mkM G a (iP I (nI (fgS T (q + 1, false)).1) (gB (fgS T (q + 1, false)).2.isNone)) J2 P (if (fgS T (q + 1, false)).2.isNone = true then Q2 else va_up Q2 0 (va_up (Q2 0) (12 * n + (f + c)) (J2 2))) M0 by rw [c35, ← iP_9x, iP_iP]) (V.loc [some (.ref a), some (.int (nI f)), some (.int (nI (c + 1)))] ⟨rfl, rfl, rfl, trivial⟩ (ih (c + 1) (fgS T (q + 1, false)).1 (fgS T (q + 1, false)).2.isNone (l ++ [(fgS T (q + 1, false)).2.getD 0]) J2 _ (by omega) (by omega) (fgS_le hq) (fun j hj => by split; exact h4 j hj; rw [va_up_ne _ _ hj]; exact h4 j hj) (fun i hi => ?_) (fun z => ?_) (fun z => ?_)))
                · split
                  · exact h5 i hi
                  · rw [va_up_self, va_up_ne _ _ (by omega)]
                    exact h5 i hi
                · rw [g2, show 6 - c = 6 - (c + 1) + 1 by omega]
                  unfold pCont
                  rw [if_pos ⟨c44, by omega⟩, pNums_s]
                  have e : fgS T (q + 1, false) = pFg T (q + 1) := rfl
                  rw [e] at z ⊢
                  cases h9 : pFg T (q + 1) with
                  | mk q9 o =>
                    rw [h9] at z
                    cases o with
                    | none => rfl
                    | some v => cases z
                · have e : fgS T (q + 1, false) = pFg T (q + 1) := rfl
                  rw [e] at z hv2 ⊢
                  cases h9 : pFg T (q + 1) with
                  | mk q9 o =>
                    rw [h9] at z hv2
                    cases o with
                    | none => cases z
                    | some v =>
                      refine ⟨by rw [List.length_append, g1]; rfl, ?_, ?_⟩
                      · rw [g2, show 6 - c = 6 - (c + 1) + 1 by omega]
                        conv => lhs; unfold pCont
                        rw [if_pos ⟨c44, by omega⟩, pNums_s, h9]
                        exact pPre_pre l [v] _
                      · rw [hv2 v rfl, ← g1]
                        exact lev_at g3 v
      refine V_aload_n hC dX4_row_20 rfl ?_
      refine mc0g hC (m_figure hT hp hs hb) rfl mw_figure ⟨⟨(Nat.le_of_ble_eq_true rfl), (Nat.le_of_ble_eq_true rfl)⟩, rfl, rfl⟩ ⟨(Nat.le_of_ble_eq_true rfl), (Nat.le_of_ble_eq_true rfl)⟩ (Nat.le_of_ble_eq_true rfl) dX4_row_21 (fun X M' h => by obtain ⟨h1, -⟩ := h; cases h1) (fun v M' h => ?_)
      obtain ⟨h1, J1, h2, hv1⟩ := h
      cases h1
      subst h2
      refine V_aload_n hC dX4_row_24 rfl ?_
      refine V_iload_n hC dX4_row_25 rfl ?_
      refine mc1n hC (m_level (s := (fgS T (p, s)).2.isNone) (n := n) (j := f) rfl hn (by omega)) rfl mw_level ⟨⟨(Nat.le_of_ble_eq_true rfl), (Nat.le_of_ble_eq_true rfl)⟩, rfl, rfl⟩ ⟨(Nat.le_of_ble_eq_true rfl), (Nat.le_of_ble_eq_true rfl)⟩ (Nat.le_of_ble_eq_true rfl) dX4_row_26 ?_
      refine V_iconst (v := 1) hC dX4_row_29 (by decide) ?_
      refine V_istore_n hC dX4_row_30 (Nat.le_of_ble_eq_true rfl) ?_
      refine V.eqM (show mkM G a (iP I _ _) J1 P _ M0 = mkM G a (iP I (nI (fgS T (p, s)).1) (gB (fgS T (p, s)).2.isNone)) J1 P (if (fgS T (p, s)).2.isNone = true then Q else va_up Q 0 (va_up (Q 0) (12 * n + f) (J1 2))) M0 from rfl) (V.loc [some (.ref a), some (.int (nI f)), some (.int (nI 1))] ⟨rfl, rfl, rfl, trivial⟩ (loop 6 1 (fgS T (p, s)).1 (fgS T (p, s)).2.isNone [(fgS T (p, s)).2.getD 0] J1 _ (by omega) (by omega) (fgS_le hb) (fun j hj => by split; rfl; exact va_up_ne _ _ hj) (fun i hi => ?_) (fun z => ?_) (fun z => ?_)))
      · split
        · rfl
        · rw [va_up_self, va_up_ne _ _ (by omega)]
      · unfold rowS
        unfold fgS at z ⊢
        by_cases cs : s = true
        · rw [if_pos cs, if_pos cs]
        · rw [if_neg cs] at z ⊢
          rw [if_neg cs]
          show pRow T p = _
          unfold pRow
          rw [if_neg (by exact c15), pNums_s]
          cases h9 : pFg T p with
          | mk q9 o =>
            rw [show pFg T (p, s).1 = pFg T p from rfl, h9] at z
            cases o with
            | none => rfl
            | some v => cases z
      · have cs : ¬ s = true := fun q => by
          unfold fgS at z
          rw [if_pos q] at z
          cases z
        have e : fgS T (p, s) = pFg T p := by unfold fgS; rw [if_neg cs]
        rw [e] at z hv1 ⊢
        cases h9 : pFg T p with
        | mk q9 o =>
          rw [h9] at z hv1
          cases o with
          | none => cases z
          | some v =>
            refine ⟨rfl, ?_, ?_⟩
            · unfold rowS
              rw [if_neg cs]
              show pRow T p = _
              unfold pRow
              rw [if_neg (by exact c15), pNums_s, h9]
              rfl
            · intro k w hk
              rw [hv1 v rfl]
              rcases (show k = 0 ∨ 0 < k by omega) with q | q
              · subst q
                rw [Nat.add_zero]
                show va_up Q 0 (va_up (Q 0) (12 * n + f) v) 0 (12 * n + f) = w
                rw [va_up_self, va_up_self]
                exact Option.some.inj hk
              · have := (List.getElem?_eq_some_iff.mp hk).1
                replace this : k < 1 := this
                omega
    · refine V_iconst (v := 0) hC dX4_row_18 (by decide) ?_
      exact V_iret hC dX4_row_19 (Nat.le_of_ble_eq_true rfl) (Nat.le_of_ble_eq_true rfl) ⟨0, J, Q, rfl, by omega, (by
            have e : rowS T (p, s) = (p, some []) := by unfold rowS pRow; rw [if_neg (by rw [c6]; simp), if_pos c15]
            rw [e]
            show _ = mkM G a (iP I (nI p) (gB false)) J P Q M0
            rw [iP_self hp (by rw [hs, c6])]), (by
            have e : rowS T (p, s) = (p, some []) := by unfold rowS pRow; rw [if_neg (by rw [c6]; simp), if_pos c15]
            rw [e]
            show p ≤ 300
            omega), fun _ _ => rfl, fun _ _ => rfl, (by
            have e : rowS T (p, s) = (p, some []) := by unfold rowS pRow; rw [if_neg (by rw [c6]; simp), if_pos c15]
            rw [e]
            intro l hl
            cases hl
            exact ⟨rfl, fun k v hk => by simp at hk⟩)⟩
