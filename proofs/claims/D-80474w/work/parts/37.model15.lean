/-! TEXTS as they are read: the spec. A place, and what was read (none: no text goes on so there) -/
def hr (T : List Int32) (p : Nat) : Int32 := T.getD p (-1)
def isD (c : Int32) : Bool := gIn c.toInt64 48 57
def pWd (T : List Int32) : List Int32 → Nat → Nat × Bool
  | [], p => (p, true)
  | c :: cs, p => if hr T p = c then pWd T cs (p + 1) else (p, false)
/-- figures, as a number below 0; m: a minus stood ahead -/
def pDig (T : List Int32) (m : Bool) : Nat → Nat → Int → Nat × Option Int64
  | 0, p, _ => (p, none)
  | f + 1, p, v => if isD (hr T p) = true then (if 10 * v - ((hr T p).toInt - 48) < (if m = true then -9223372036854775808 else -9223372036854775807) then (p, none) else pDig T m f (p + 1) (10 * v - ((hr T p).toInt - 48))) else (p, some (Int64.ofInt (if m = true then v else -v)))
def pFg (T : List Int32) (p : Nat) : Nat × Option Int64 :=
  if hr T p = 45 then (if isD (hr T (p + 1)) = false ∨ hr T (p + 1) = 48 then (p + 1, none) else pDig T true (T.length + 1 - (p + 1)) (p + 1) 0)
  else if isD (hr T p) = false then (p, none) else if hr T p = 48 then (p + 1, some 0) else pDig T false (T.length + 1 - p) p 0
theorem hr_ne {T : List Int32} {p : Nat} (h : ¬ hr T p = -1) : p < T.length := by
  rcases Nat.lt_or_ge p T.length with q | q
  · exact q
  · exact absurd (by unfold hr; rw [List.getD_eq_getElem?_getD, List.getElem?_eq_none q]; rfl) h
theorem isD_hr {T : List Int32} {p : Nat} (h : isD (hr T p) = true) : p < T.length := hr_ne fun q => by rw [q] at h; exact absurd h (by decide)
theorem isD_d {c : Int32} (h : isD c = true) : ∃ d : Nat, d ≤ 9 ∧ c = nI (48 + d) := by
  unfold isD gIn at h
  simp only [Bool.and_eq_true, decide_eq_true_eq] at h
  rw [Int64.le_iff_toInt_le, Int64.le_iff_toInt_le, Int32.toInt_toInt64] at h
  have e1 : (48 : Int64).toInt = 48 := by decide
  have e2 : (57 : Int64).toInt = 57 := by decide
  rw [e1, e2] at h
  obtain ⟨j, hj, rfl⟩ := vp_in_of (x := c) (n := 58) (vp_in_iff.mpr (by omega)) (by decide)
  rw [nI_toInt (by omega)] at h
  exact ⟨j - 48, by omega, by rw [show 48 + (j - 48) = j by omega]⟩
/-- the tape as the model holds it -/
def HT (T : List Int32) (I : Nat → Int32) (P : Nat → Nat → Int32) : Prop := I 6 = nI T.length ∧ T.length ≤ 300 ∧ ∀ (j : Nat) (c : Int32), T[j]? = some c → P 4 j = c
theorem HT.hv {T : List Int32} {I : Nat → Int32} {P : Nat → Nat → Int32} (h : HT T I P) (p : Nat) : hereV (P 4) p T.length = hr T p := by
  unfold hereV hr
  rw [List.getD_eq_getElem?_getD]
  by_cases q : p < T.length
  · rw [if_pos q, h.2.2 p _ (List.getElem?_eq_getElem q), List.getElem?_eq_getElem q]
    rfl
  · rw [if_neg q, List.getElem?_eq_none (by omega)]
    rfl
theorem HT.iP {T : List Int32} {I : Nat → Int32} {P : Nat → Nat → Int32} (h : HT T I P) (p s : Int32) : HT T (iP I p s) P := ⟨h.1, h.2.1, h.2.2⟩
theorem iP_self {I : Nat → Int32} {p s : Int32} (h1 : I 9 = p) (h2 : I 10 = s) : iP I p s = I := by
  funext q
  unfold iP
  by_cases a : q = 10
  · subst a; rw [va_up_self, h2]
  · rw [va_up_ne _ _ a]
    by_cases b : q = 9
    · subst b; rw [va_up_self, h1]
    · rw [va_up_ne _ _ b]
/-- what 'here' answers, over the tape -/
theorem m_he {l : Launch} {G : gG} {a : Nat} {I : Nat → Int32} {J : Nat → Int64} {P : Nat → Nat → Int32} {Q : Nat → Nat → Int64} {M0 : gM} {T : List Int32} {p : Nat} (h : HT T I P) (hp : I 9 = nI p) (hb : p < 2 ^ 30) : gMet l yX4_here (gWs yX4_here cX4_here 1 (some .int) []) ({ frames := 0, cells := 0, slots := 0, locals := 0 } : Room) G [.ref a] (mkM G a I J P Q M0) (gRv (.int (hr T p)) (mkM G a I J P Q M0)) := by
  rw [← h.hv p]
  exact m_here hp h.1 h.2.1 hb
/-- a place and whether it is stuck there -/
def tkS (T : List Int32) (c : Int32) (q : Nat × Bool) : Nat × Bool := if q.2 = true then q else if hr T q.1 = c then (q.1 + 1, false) else (q.1, true)
def wdS (T : List Int32) (cs : List Int32) (q : Nat × Bool) : Nat × Bool := cs.foldl (fun q c => tkS T c q) q
theorem wdS_stuck (T : List Int32) : ∀ (cs : List Int32) (p : Nat), wdS T cs (p, true) = (p, true)
  | [], _ => rfl
  | c :: cs, p => wdS_stuck T cs p
theorem wdS_pWd (T : List Int32) : ∀ (cs : List Int32) (p : Nat), wdS T cs (p, false) = ((pWd T cs p).1, !(pWd T cs p).2)
  | [], _ => rfl
  | c :: cs, p => by
    show wdS T cs (tkS T c (p, false)) = _
    unfold tkS pWd
    rw [if_neg (by simp)]
    by_cases h : hr T p = c
    · rw [if_pos h, if_pos h]
      exact wdS_pWd T cs (p + 1)
    · rw [if_neg h, if_neg h]
      exact wdS_stuck T cs p
theorem tkS_le {T : List Int32} {c : Int32} {q : Nat × Bool} (hc : ¬ c = -1) (h : q.1 ≤ T.length) : (tkS T c q).1 ≤ T.length := by
  unfold tkS
  split
  · exact h
  · split
    · rename_i h2
      exact hr_ne (fun z => hc (by rw [← h2, z]))
    · exact h
theorem wdS_le {T : List Int32} : ∀ (cs : List Int32) (q : Nat × Bool), (∀ c ∈ cs, ¬ c = -1) → q.1 ≤ T.length → (wdS T cs q).1 ≤ T.length
  | [], _, _, h => h
  | c :: cs, q, hc, h => wdS_le cs (tkS T c q) (fun d hd => hc d (List.mem_cons_of_mem _ hd)) (tkS_le (hc c List.mem_cons_self) h)
/-! MODEL 15: take, word -/
set_option maxHeartbeats 4000000 in
theorem m_take {l : Launch} {G : gG} {a : Nat} {I : Nat → Int32} {J : Nat → Int64} {P : Nat → Nat → Int32} {Q : Nat → Nat → Int64} {M0 : gM} {T : List Int32} (hT : HT T I P) {p : Nat} {s : Bool} (hp : I 9 = nI p) (hs : I 10 = gB s) (hb : p < 2 ^ 29) {c : Int32} : gMet l yX4_take (gWs yX4_take cX4_take 2 none []) ({ frames := 1, cells := 0, slots := 0, locals := 20 } : Room) G [.ref a, .int c] (mkM G a I J P Q M0) (gRn (mkM G a (iP I (nI (tkS T c (p, s)).1) (gB (tkS T c (p, s)).2)) J P Q M0)) := by
  refine gMet.intro (by decide) (Nat.le_of_ble_eq_true rfl) (fun C hl hC hN => ?_)
  subst hl
  replace hC : Ck G C [] cX4_take RX4 2 none ({ frames := 1, cells := 0, slots := 0, locals := 20 } : Room) (gRn (mkM G a (iP I (nI (tkS T c (p, s)).1) (gB (tkS T c (p, s)).2)) J P Q M0)) := hC
  refine V.loc [some (.ref a), some (.int c)] ⟨rfl, rfl, trivial⟩ ?_
  refine V_aload_n hC dX4_take_0 rfl ?_
  refine V_aload_n hC dX4_take_1 rfl ?_
  refine mg_stuck hC dX4_take_2 ?_
  rw [hs]
  refine V_ifb_ne (tgt := 16) hC dX4_take_5 (by decide) (fun c5 => ?_) (fun c5 => ?_)
  · refine V_iconst (v := 1) hC dX4_take_16 (by decide) ?_
    refine V_goto (tgt := 21) hC dX4_take_17 (by decide) ?_
    refine mp_stuck hC dX4_take_21 rfl rfl ?_
    refine V_aload_n hC dX4_take_24 rfl ?_
    refine V_dup hC dX4_take_25 rfl ?_
    refine mg_place hC dX4_take_26 ?_
    refine V_aload_n hC dX4_take_29 rfl ?_
    refine mg_stuck hC dX4_take_30 ?_
    refine V_seti (y := 1) (va_up_self _ _ _) ?_
    refine V_if_eq (tgt := 40) hC dX4_take_33 (by decide) (fun c => absurd c (by decide)) (fun _ => ?_)
    refine V_iconst (v := 0) hC dX4_take_36 (by decide) ?_
    refine V_goto (tgt := 41) hC dX4_take_37 (by decide) ?_
    refine V_iadd hC dX4_take_41 ?_
    refine mp_place hC dX4_take_42 ?_
    exact V_vret hC dX4_take_45 (Nat.le_of_ble_eq_true rfl) (Nat.le_of_ble_eq_true rfl) ⟨rfl, by
          rw [iP_ps]
          unfold tkS
          rw [if_pos c5]
          show mkM G a (iP I (I 9 + 0) 1) J P Q M0 = _
          rw [hp, show nI p + 0 = nI p from (by have := nI_add p 0; exact this)]
          show _ = mkM G a (iP I (nI p) (gB s)) J P Q M0
          rw [c5]; rfl⟩
  · refine V_aload_n hC dX4_take_8 rfl ?_
    refine mc0v hC (m_he hT hp (by omega)) rfl mw_here ⟨⟨(Nat.le_of_ble_eq_true rfl), (Nat.le_of_ble_eq_true rfl)⟩, rfl, rfl⟩ ⟨(Nat.le_of_ble_eq_true rfl), (Nat.le_of_ble_eq_true rfl)⟩ (Nat.le_of_ble_eq_true rfl) dX4_take_9 ?_
    refine V_iload_n hC dX4_take_12 rfl ?_
    refine V_icmp_eq (tgt := 20) hC dX4_take_13 (by decide) (fun c13 => ?_) (fun c13 => ?_)
    · refine V_iconst (v := 0) hC dX4_take_20 (by decide) ?_
      refine mp_stuck hC dX4_take_21 rfl rfl ?_
      refine V_aload_n hC dX4_take_24 rfl ?_
      refine V_dup hC dX4_take_25 rfl ?_
      refine mg_place hC dX4_take_26 ?_
      refine V_aload_n hC dX4_take_29 rfl ?_
      refine mg_stuck hC dX4_take_30 ?_
      refine V_seti (y := 0) (va_up_self _ _ _) ?_
      refine V_if_eq (tgt := 40) hC dX4_take_33 (by decide) (fun _ => ?_) (fun c => absurd c (by decide))
      refine V_iconst (v := 1) hC dX4_take_40 (by decide) ?_
      refine V_iadd hC dX4_take_41 ?_
      refine mp_place hC dX4_take_42 ?_
      exact V_vret hC dX4_take_45 (Nat.le_of_ble_eq_true rfl) (Nat.le_of_ble_eq_true rfl) ⟨rfl, by
            rw [iP_ps]
            unfold tkS
            rw [if_neg (by rw [c5]; simp), if_pos c13]
            show mkM G a (iP I (I 9 + 1) 0) J P Q M0 = _
            rw [hp, nI_1]
            rfl
            ⟩
    · refine V_iconst (v := 1) hC dX4_take_16 (by decide) ?_
      refine V_goto (tgt := 21) hC dX4_take_17 (by decide) ?_
      refine mp_stuck hC dX4_take_21 rfl rfl ?_
      refine V_aload_n hC dX4_take_24 rfl ?_
      refine V_dup hC dX4_take_25 rfl ?_
      refine mg_place hC dX4_take_26 ?_
      refine V_aload_n hC dX4_take_29 rfl ?_
      refine mg_stuck hC dX4_take_30 ?_
      refine V_seti (y := 1) (va_up_self _ _ _) ?_
      refine V_if_eq (tgt := 40) hC dX4_take_33 (by decide) (fun c => absurd c (by decide)) (fun _ => ?_)
      refine V_iconst (v := 0) hC dX4_take_36 (by decide) ?_
      refine V_goto (tgt := 41) hC dX4_take_37 (by decide) ?_
      refine V_iadd hC dX4_take_41 ?_
      refine mp_place hC dX4_take_42 ?_
      exact V_vret hC dX4_take_45 (Nat.le_of_ble_eq_true rfl) (Nat.le_of_ble_eq_true rfl) ⟨rfl, by
            rw [iP_ps]
            unfold tkS
            rw [if_neg (by rw [c5]; simp), if_neg c13]
            show mkM G a (iP I (I 9 + 0) 1) J P Q M0 = _
            rw [hp, show nI p + 0 = nI p from (by have := nI_add p 0; exact this)]
            rfl
            ⟩
def wHard : List Int32 := [104, 97, 114, 100, 47]
def wMed : List Int32 := [109, 101, 100, 105, 117, 109, 47]
def wSoft : List Int32 := [115, 111, 102, 116]
theorem wdS_s (T : List Int32) (cs : List Int32) (q : Nat × Bool) {k : Nat} {c : Int32} (h : cs[k]? = some c) : wdS T (cs.take (k + 1)) q = tkS T c (wdS T (cs.take k) q) := by
  unfold wdS
  rw [List.take_succ, h, List.foldl_append]
  rfl
set_option maxHeartbeats 4000000 in
theorem m_wd0 {l : Launch} {G : gG} {a : Nat} {I : Nat → Int32} {J : Nat → Int64} {P : Nat → Nat → Int32} {Q : Nat → Nat → Int64} {M0 : gM} {T : List Int32} (hT : HT T I P) {p : Nat} {s : Bool} (hp : I 9 = nI p) (hs : I 10 = gB s) (hb : p ≤ T.length) : gMet l yX4_word (gWs yX4_word cX4_word 6 none []) ({ frames := 2, cells := 0, slots := 0, locals := 41 } : Room) G [.ref a, .int 0] (mkM G a I J P Q M0) (gRn (mkM G a (iP I (nI (wdS T wHard (p, s)).1) (gB (wdS T wHard (p, s)).2)) J P Q M0)) := by
  refine gMet.intro (by decide) (Nat.le_of_ble_eq_true rfl) (fun C hl hC hN => ?_)
  subst hl
  replace hC : Ck G C [] cX4_word RX4 6 none ({ frames := 2, cells := 0, slots := 0, locals := 41 } : Room) (gRn (mkM G a (iP I (nI (wdS T wHard (p, s)).1) (gB (wdS T wHard (p, s)).2)) J P Q M0)) := hC
  refine V.loc [some (.ref a), some (.int 0)] ⟨rfl, rfl, trivial⟩ ?_
  have hch : ∀ k, k < 5 → (((12828061928 : Int64) >>> (((7 : Int32) * nI k).toInt64 &&& 63)) &&& 127).toInt32 = wHard.getD k 0 := by decide
  have hm1 : ∀ c ∈ wHard, ¬ c = -1 := by decide
  have h300 := hT.2.1
  refine V_iload_n hC dX4_word_0 rfl ?_
  refine V_if_ne (tgt := 8) hC dX4_word_1 (by decide) (fun c => absurd c (by decide)) (fun _ => ?_)
  refine V_iconst (v := 5) hC dX4_word_4 (by decide) ?_
  refine V_goto (tgt := 19) hC dX4_word_5 (by decide) ?_
  refine V_istore_n hC dX4_word_19 (Nat.le_of_ble_eq_true rfl) ?_
  refine V_iload_n hC dX4_word_20 rfl ?_
  refine V_if_ne (tgt := 61) hC dX4_word_21 (by decide) (fun c => absurd c (by decide)) (fun _ => ?_)
  refine V_bipush (v := 104) hC dX4_word_24 (by decide) ?_
  refine V_iconst (v := 0) hC dX4_word_26 (by decide) ?_
  refine mt2v hC m_letter mw_letter ⟨⟨(Nat.le_of_ble_eq_true rfl), (Nat.le_of_ble_eq_true rfl)⟩, rfl, rfl⟩ ⟨(Nat.le_of_ble_eq_true rfl), (Nat.le_of_ble_eq_true rfl)⟩ (Nat.le_of_ble_eq_true rfl) dX4_word_27 ?_
  refine V_bipush (v := 97) hC dX4_word_30 (by decide) ?_
  refine V_iconst (v := 1) hC dX4_word_32 (by decide) ?_
  refine mt2v hC m_letter mw_letter ⟨⟨(Nat.le_of_ble_eq_true rfl), (Nat.le_of_ble_eq_true rfl)⟩, rfl, rfl⟩ ⟨(Nat.le_of_ble_eq_true rfl), (Nat.le_of_ble_eq_true rfl)⟩ (Nat.le_of_ble_eq_true rfl) dX4_word_33 ?_
  refine V_lor hC dX4_word_36 ?_
  refine V_bipush (v := 114) hC dX4_word_37 (by decide) ?_
  refine V_iconst (v := 2) hC dX4_word_39 (by decide) ?_
  refine mt2v hC m_letter mw_letter ⟨⟨(Nat.le_of_ble_eq_true rfl), (Nat.le_of_ble_eq_true rfl)⟩, rfl, rfl⟩ ⟨(Nat.le_of_ble_eq_true rfl), (Nat.le_of_ble_eq_true rfl)⟩ (Nat.le_of_ble_eq_true rfl) dX4_word_40 ?_
  refine V_lor hC dX4_word_43 ?_
  refine V_bipush (v := 100) hC dX4_word_44 (by decide) ?_
  refine V_iconst (v := 3) hC dX4_word_46 (by decide) ?_
  refine mt2v hC m_letter mw_letter ⟨⟨(Nat.le_of_ble_eq_true rfl), (Nat.le_of_ble_eq_true rfl)⟩, rfl, rfl⟩ ⟨(Nat.le_of_ble_eq_true rfl), (Nat.le_of_ble_eq_true rfl)⟩ (Nat.le_of_ble_eq_true rfl) dX4_word_47 ?_
  refine V_lor hC dX4_word_50 ?_
  refine V_bipush (v := 47) hC dX4_word_51 (by decide) ?_
  refine V_iconst (v := 4) hC dX4_word_53 (by decide) ?_
  refine mt2v hC m_letter mw_letter ⟨⟨(Nat.le_of_ble_eq_true rfl), (Nat.le_of_ble_eq_true rfl)⟩, rfl, rfl⟩ ⟨(Nat.le_of_ble_eq_true rfl), (Nat.le_of_ble_eq_true rfl)⟩ (Nat.le_of_ble_eq_true rfl) dX4_word_54 ?_
  refine V_lor hC dX4_word_57 ?_
  refine V_goto (tgt := 145) hC dX4_word_58 (by decide) ?_
  refine V_setl (y := 12828061928) (by decide) ?_
  refine V_lstore_n hC dX4_word_145 (Nat.le_of_ble_eq_true rfl) ?_
  have loop : ∀ (fuel : Nat) (k : Nat), 5 < k + fuel → k ≤ 5 → V G C (mkM G a (iP I (nI (wdS T (wHard.take k) (p, s)).1) (gB (wdS T (wHard.take k) (p, s)).2)) J P Q M0) 0 0 149 (gl [some (.ref a), some (.int 0), some (.int 5), some (.long 12828061928), none, some (.int (nI k))]) [] := by
    intro fuel
    induction fuel with
    | zero => intros; omega
    | succ fuel ih =>
      intro k a1 a2
      refine V_iload hC dX4_word_149 rfl ?_
      refine V_iload_n hC dX4_word_151 rfl ?_
      refine V_icmp_ge (tgt := 177) hC dX4_word_152 (by decide) (fun c152 => ?_) (fun c152 => ?_)
      · exact V_vret hC dX4_word_177 (Nat.le_of_ble_eq_true rfl) (Nat.le_of_ble_eq_true rfl) ⟨rfl, by
              have hk : k = 5 := Nat.le_antisymm a2 (Nat.le_of_not_lt fun q => nI_ge q (by omega) c152)
              subst hk
              rw [show wHard.take 5 = wHard from rfl]⟩
      · have h4 : k < 5 := Nat.lt_of_not_le fun q => c152 (nI_le q (by omega))
        have ex : wHard[k]? = some (wHard.getD k 0) := by
          rw [List.getD_eq_getElem?_getD, List.getElem?_eq_getElem (show k < wHard.length from h4)]
          rfl
        refine V_aload_n hC dX4_word_155 rfl ?_
        refine V_lload_n hC dX4_word_156 rfl ?_
        refine V_bipush (v := 7) hC dX4_word_157 (by decide) ?_
        refine V_iload hC dX4_word_159 rfl ?_
        refine V_imul hC dX4_word_161 ?_
        refine V_lshr hC dX4_word_162 ?_
        refine V_ldc2 hC dX4_word_163 q1007 ?_
        refine V_land hC dX4_word_166 ?_
        refine V_l2i hC dX4_word_167 ?_
        refine V_seti (y := wHard.getD k 0) (hch k h4) ?_
        refine mc1n hC (m_take (hT.iP _ _) (p := (wdS T (wHard.take k) (p, s)).1) (s := (wdS T (wHard.take k) (p, s)).2) rfl rfl (by have := wdS_le (T := T) (wHard.take k) (p, s) (fun c hc => hm1 c (List.mem_of_mem_take hc)) hb; omega)) rfl mw_take ⟨⟨(Nat.le_of_ble_eq_true rfl), (Nat.le_of_ble_eq_true rfl)⟩, rfl, rfl⟩ ⟨(Nat.le_of_ble_eq_true rfl), (Nat.le_of_ble_eq_true rfl)⟩ (Nat.le_of_ble_eq_true rfl) dX4_word_168 ?_
        refine V_iinc (v := nI (k + 1)) hC dX4_word_171 rfl (gI_inc k) (Nat.le_of_ble_eq_true rfl) ?_
        refine V_goto (tgt := 149) hC dX4_word_174 (by decide) ?_
        refine V.eqM ?_ (V.loc [some (.ref a), some (.int 0), some (.int 5), some (.long 12828061928), none, some (.int (nI (k + 1)))] ⟨rfl, rfl, rfl, rfl, rfl, trivial⟩ (ih (k + 1) (by omega) (by omega)))
        rw [iP_iP, wdS_s T wHard (p, s) ex]
  refine V_iconst (v := 0) hC dX4_word_146 (by decide) ?_
  refine V_istore hC dX4_word_147 (Nat.le_of_ble_eq_true rfl) ?_
  refine V.eqM (show mkM G a I J P Q M0 = (mkM G a (iP I (nI (wdS T (wHard.take 0) (p, s)).1) (gB (wdS T (wHard.take 0) (p, s)).2)) J P Q M0) by rw [List.take_zero]; show _ = mkM G a (iP I (nI p) (gB s)) J P Q M0; rw [iP_self hp hs]) (V.loc [some (.ref a), some (.int 0), some (.int 5), some (.long 12828061928), none, some (.int (nI 0))] ⟨rfl, rfl, rfl, rfl, rfl, trivial⟩ (loop 6 0 (by omega) (by omega)))
set_option maxHeartbeats 4000000 in
theorem m_wd1 {l : Launch} {G : gG} {a : Nat} {I : Nat → Int32} {J : Nat → Int64} {P : Nat → Nat → Int32} {Q : Nat → Nat → Int64} {M0 : gM} {T : List Int32} (hT : HT T I P) {p : Nat} {s : Bool} (hp : I 9 = nI p) (hs : I 10 = gB s) (hb : p ≤ T.length) : gMet l yX4_word (gWs yX4_word cX4_word 6 none []) ({ frames := 2, cells := 0, slots := 0, locals := 41 } : Room) G [.ref a, .int 1] (mkM G a I J P Q M0) (gRn (mkM G a (iP I (nI (wdS T wMed (p, s)).1) (gB (wdS T wMed (p, s)).2)) J P Q M0)) := by
  refine gMet.intro (by decide) (Nat.le_of_ble_eq_true rfl) (fun C hl hC hN => ?_)
  subst hl
  replace hC : Ck G C [] cX4_word RX4 6 none ({ frames := 2, cells := 0, slots := 0, locals := 41 } : Room) (gRn (mkM G a (iP I (nI (wdS T wMed (p, s)).1) (gB (wdS T wMed (p, s)).2)) J P Q M0)) := hC
  refine V.loc [some (.ref a), some (.int 1)] ⟨rfl, rfl, trivial⟩ ?_
  have hch : ∀ k, k < 7 → (((210485026304749 : Int64) >>> (((7 : Int32) * nI k).toInt64 &&& 63)) &&& 127).toInt32 = wMed.getD k 0 := by decide
  have hm1 : ∀ c ∈ wMed, ¬ c = -1 := by decide
  have h300 := hT.2.1
  refine V_iload_n hC dX4_word_0 rfl ?_
  refine V_if_ne (tgt := 8) hC dX4_word_1 (by decide) (fun _ => ?_) (fun c => absurd c (by decide))
  refine V_iload_n hC dX4_word_8 rfl ?_
  refine V_iconst (v := 1) hC dX4_word_9 (by decide) ?_
  refine V_icmp_ne (tgt := 18) hC dX4_word_10 (by decide) (fun c => absurd c (by decide)) (fun _ => ?_)
  refine V_bipush (v := 7) hC dX4_word_13 (by decide) ?_
  refine V_goto (tgt := 19) hC dX4_word_15 (by decide) ?_
  refine V_istore_n hC dX4_word_19 (Nat.le_of_ble_eq_true rfl) ?_
  refine V_iload_n hC dX4_word_20 rfl ?_
  refine V_if_ne (tgt := 61) hC dX4_word_21 (by decide) (fun _ => ?_) (fun c => absurd c (by decide))
  refine V_iload_n hC dX4_word_61 rfl ?_
  refine V_iconst (v := 1) hC dX4_word_62 (by decide) ?_
  refine V_icmp_ne (tgt := 118) hC dX4_word_63 (by decide) (fun c => absurd c (by decide)) (fun _ => ?_)
  refine V_bipush (v := 109) hC dX4_word_66 (by decide) ?_
  refine V_iconst (v := 0) hC dX4_word_68 (by decide) ?_
  refine mt2v hC m_letter mw_letter ⟨⟨(Nat.le_of_ble_eq_true rfl), (Nat.le_of_ble_eq_true rfl)⟩, rfl, rfl⟩ ⟨(Nat.le_of_ble_eq_true rfl), (Nat.le_of_ble_eq_true rfl)⟩ (Nat.le_of_ble_eq_true rfl) dX4_word_69 ?_
  refine V_bipush (v := 101) hC dX4_word_72 (by decide) ?_
  refine V_iconst (v := 1) hC dX4_word_74 (by decide) ?_
  refine mt2v hC m_letter mw_letter ⟨⟨(Nat.le_of_ble_eq_true rfl), (Nat.le_of_ble_eq_true rfl)⟩, rfl, rfl⟩ ⟨(Nat.le_of_ble_eq_true rfl), (Nat.le_of_ble_eq_true rfl)⟩ (Nat.le_of_ble_eq_true rfl) dX4_word_75 ?_
  refine V_lor hC dX4_word_78 ?_
  refine V_bipush (v := 100) hC dX4_word_79 (by decide) ?_
  refine V_iconst (v := 2) hC dX4_word_81 (by decide) ?_
  refine mt2v hC m_letter mw_letter ⟨⟨(Nat.le_of_ble_eq_true rfl), (Nat.le_of_ble_eq_true rfl)⟩, rfl, rfl⟩ ⟨(Nat.le_of_ble_eq_true rfl), (Nat.le_of_ble_eq_true rfl)⟩ (Nat.le_of_ble_eq_true rfl) dX4_word_82 ?_
  refine V_lor hC dX4_word_85 ?_
  refine V_bipush (v := 105) hC dX4_word_86 (by decide) ?_
  refine V_iconst (v := 3) hC dX4_word_88 (by decide) ?_
  refine mt2v hC m_letter mw_letter ⟨⟨(Nat.le_of_ble_eq_true rfl), (Nat.le_of_ble_eq_true rfl)⟩, rfl, rfl⟩ ⟨(Nat.le_of_ble_eq_true rfl), (Nat.le_of_ble_eq_true rfl)⟩ (Nat.le_of_ble_eq_true rfl) dX4_word_89 ?_
  refine V_lor hC dX4_word_92 ?_
  refine V_bipush (v := 117) hC dX4_word_93 (by decide) ?_
  refine V_iconst (v := 4) hC dX4_word_95 (by decide) ?_
  refine mt2v hC m_letter mw_letter ⟨⟨(Nat.le_of_ble_eq_true rfl), (Nat.le_of_ble_eq_true rfl)⟩, rfl, rfl⟩ ⟨(Nat.le_of_ble_eq_true rfl), (Nat.le_of_ble_eq_true rfl)⟩ (Nat.le_of_ble_eq_true rfl) dX4_word_96 ?_
  refine V_lor hC dX4_word_99 ?_
  refine V_bipush (v := 109) hC dX4_word_100 (by decide) ?_
  refine V_iconst (v := 5) hC dX4_word_102 (by decide) ?_
  refine mt2v hC m_letter mw_letter ⟨⟨(Nat.le_of_ble_eq_true rfl), (Nat.le_of_ble_eq_true rfl)⟩, rfl, rfl⟩ ⟨(Nat.le_of_ble_eq_true rfl), (Nat.le_of_ble_eq_true rfl)⟩ (Nat.le_of_ble_eq_true rfl) dX4_word_103 ?_
  refine V_lor hC dX4_word_106 ?_
  refine V_bipush (v := 47) hC dX4_word_107 (by decide) ?_
  refine V_bipush (v := 6) hC dX4_word_109 (by decide) ?_
  refine mt2v hC m_letter mw_letter ⟨⟨(Nat.le_of_ble_eq_true rfl), (Nat.le_of_ble_eq_true rfl)⟩, rfl, rfl⟩ ⟨(Nat.le_of_ble_eq_true rfl), (Nat.le_of_ble_eq_true rfl)⟩ (Nat.le_of_ble_eq_true rfl) dX4_word_111 ?_
  refine V_lor hC dX4_word_114 ?_
  refine V_goto (tgt := 145) hC dX4_word_115 (by decide) ?_
  refine V_setl (y := 210485026304749) (by decide) ?_
  refine V_lstore_n hC dX4_word_145 (Nat.le_of_ble_eq_true rfl) ?_
  have loop : ∀ (fuel : Nat) (k : Nat), 7 < k + fuel → k ≤ 7 → V G C (mkM G a (iP I (nI (wdS T (wMed.take k) (p, s)).1) (gB (wdS T (wMed.take k) (p, s)).2)) J P Q M0) 0 0 149 (gl [some (.ref a), some (.int 1), some (.int 7), some (.long 210485026304749), none, some (.int (nI k))]) [] := by
    intro fuel
    induction fuel with
    | zero => intros; omega
    | succ fuel ih =>
      intro k a1 a2
      refine V_iload hC dX4_word_149 rfl ?_
      refine V_iload_n hC dX4_word_151 rfl ?_
      refine V_icmp_ge (tgt := 177) hC dX4_word_152 (by decide) (fun c152 => ?_) (fun c152 => ?_)
      · exact V_vret hC dX4_word_177 (Nat.le_of_ble_eq_true rfl) (Nat.le_of_ble_eq_true rfl) ⟨rfl, by
              have hk : k = 7 := Nat.le_antisymm a2 (Nat.le_of_not_lt fun q => nI_ge q (by omega) c152)
              subst hk
              rw [show wMed.take 7 = wMed from rfl]⟩
      · have h4 : k < 7 := Nat.lt_of_not_le fun q => c152 (nI_le q (by omega))
        have ex : wMed[k]? = some (wMed.getD k 0) := by
          rw [List.getD_eq_getElem?_getD, List.getElem?_eq_getElem (show k < wMed.length from h4)]
          rfl
        refine V_aload_n hC dX4_word_155 rfl ?_
        refine V_lload_n hC dX4_word_156 rfl ?_
        refine V_bipush (v := 7) hC dX4_word_157 (by decide) ?_
        refine V_iload hC dX4_word_159 rfl ?_
        refine V_imul hC dX4_word_161 ?_
        refine V_lshr hC dX4_word_162 ?_
        refine V_ldc2 hC dX4_word_163 q1007 ?_
        refine V_land hC dX4_word_166 ?_
        refine V_l2i hC dX4_word_167 ?_
        refine V_seti (y := wMed.getD k 0) (hch k h4) ?_
        refine mc1n hC (m_take (hT.iP _ _) (p := (wdS T (wMed.take k) (p, s)).1) (s := (wdS T (wMed.take k) (p, s)).2) rfl rfl (by have := wdS_le (T := T) (wMed.take k) (p, s) (fun c hc => hm1 c (List.mem_of_mem_take hc)) hb; omega)) rfl mw_take ⟨⟨(Nat.le_of_ble_eq_true rfl), (Nat.le_of_ble_eq_true rfl)⟩, rfl, rfl⟩ ⟨(Nat.le_of_ble_eq_true rfl), (Nat.le_of_ble_eq_true rfl)⟩ (Nat.le_of_ble_eq_true rfl) dX4_word_168 ?_
        refine V_iinc (v := nI (k + 1)) hC dX4_word_171 rfl (gI_inc k) (Nat.le_of_ble_eq_true rfl) ?_
        refine V_goto (tgt := 149) hC dX4_word_174 (by decide) ?_
        refine V.eqM ?_ (V.loc [some (.ref a), some (.int 1), some (.int 7), some (.long 210485026304749), none, some (.int (nI (k + 1)))] ⟨rfl, rfl, rfl, rfl, rfl, trivial⟩ (ih (k + 1) (by omega) (by omega)))
        rw [iP_iP, wdS_s T wMed (p, s) ex]
  refine V_iconst (v := 0) hC dX4_word_146 (by decide) ?_
  refine V_istore hC dX4_word_147 (Nat.le_of_ble_eq_true rfl) ?_
  refine V.eqM (show mkM G a I J P Q M0 = (mkM G a (iP I (nI (wdS T (wMed.take 0) (p, s)).1) (gB (wdS T (wMed.take 0) (p, s)).2)) J P Q M0) by rw [List.take_zero]; show _ = mkM G a (iP I (nI p) (gB s)) J P Q M0; rw [iP_self hp hs]) (V.loc [some (.ref a), some (.int 1), some (.int 7), some (.long 210485026304749), none, some (.int (nI 0))] ⟨rfl, rfl, rfl, rfl, rfl, trivial⟩ (loop 8 0 (by omega) (by omega)))
set_option maxHeartbeats 4000000 in
theorem m_wd2 {l : Launch} {G : gG} {a : Nat} {I : Nat → Int32} {J : Nat → Int64} {P : Nat → Nat → Int32} {Q : Nat → Nat → Int64} {M0 : gM} {T : List Int32} (hT : HT T I P) {p : Nat} {s : Bool} (hp : I 9 = nI p) (hs : I 10 = gB s) (hb : p ≤ T.length) : gMet l yX4_word (gWs yX4_word cX4_word 6 none []) ({ frames := 2, cells := 0, slots := 0, locals := 41 } : Room) G [.ref a, .int 2] (mkM G a I J P Q M0) (gRn (mkM G a (iP I (nI (wdS T wSoft (p, s)).1) (gB (wdS T wSoft (p, s)).2)) J P Q M0)) := by
  refine gMet.intro (by decide) (Nat.le_of_ble_eq_true rfl) (fun C hl hC hN => ?_)
  subst hl
  replace hC : Ck G C [] cX4_word RX4 6 none ({ frames := 2, cells := 0, slots := 0, locals := 41 } : Room) (gRn (mkM G a (iP I (nI (wdS T wSoft (p, s)).1) (gB (wdS T wSoft (p, s)).2)) J P Q M0)) := hC
  refine V.loc [some (.ref a), some (.int 2)] ⟨rfl, rfl, trivial⟩ ?_
  have hch : ∀ k, k < 4 → (((244955123 : Int64) >>> (((7 : Int32) * nI k).toInt64 &&& 63)) &&& 127).toInt32 = wSoft.getD k 0 := by decide
  have hm1 : ∀ c ∈ wSoft, ¬ c = -1 := by decide
  have h300 := hT.2.1
  refine V_iload_n hC dX4_word_0 rfl ?_
  refine V_if_ne (tgt := 8) hC dX4_word_1 (by decide) (fun _ => ?_) (fun c => absurd c (by decide))
  refine V_iload_n hC dX4_word_8 rfl ?_
  refine V_iconst (v := 1) hC dX4_word_9 (by decide) ?_
  refine V_icmp_ne (tgt := 18) hC dX4_word_10 (by decide) (fun _ => ?_) (fun c => absurd c (by decide))
  refine V_iconst (v := 4) hC dX4_word_18 (by decide) ?_
  refine V_istore_n hC dX4_word_19 (Nat.le_of_ble_eq_true rfl) ?_
  refine V_iload_n hC dX4_word_20 rfl ?_
  refine V_if_ne (tgt := 61) hC dX4_word_21 (by decide) (fun _ => ?_) (fun c => absurd c (by decide))
  refine V_iload_n hC dX4_word_61 rfl ?_
  refine V_iconst (v := 1) hC dX4_word_62 (by decide) ?_
  refine V_icmp_ne (tgt := 118) hC dX4_word_63 (by decide) (fun _ => ?_) (fun c => absurd c (by decide))
  refine V_bipush (v := 115) hC dX4_word_118 (by decide) ?_
  refine V_iconst (v := 0) hC dX4_word_120 (by decide) ?_
  refine mt2v hC m_letter mw_letter ⟨⟨(Nat.le_of_ble_eq_true rfl), (Nat.le_of_ble_eq_true rfl)⟩, rfl, rfl⟩ ⟨(Nat.le_of_ble_eq_true rfl), (Nat.le_of_ble_eq_true rfl)⟩ (Nat.le_of_ble_eq_true rfl) dX4_word_121 ?_
  refine V_bipush (v := 111) hC dX4_word_124 (by decide) ?_
  refine V_iconst (v := 1) hC dX4_word_126 (by decide) ?_
  refine mt2v hC m_letter mw_letter ⟨⟨(Nat.le_of_ble_eq_true rfl), (Nat.le_of_ble_eq_true rfl)⟩, rfl, rfl⟩ ⟨(Nat.le_of_ble_eq_true rfl), (Nat.le_of_ble_eq_true rfl)⟩ (Nat.le_of_ble_eq_true rfl) dX4_word_127 ?_
  refine V_lor hC dX4_word_130 ?_
  refine V_bipush (v := 102) hC dX4_word_131 (by decide) ?_
  refine V_iconst (v := 2) hC dX4_word_133 (by decide) ?_
  refine mt2v hC m_letter mw_letter ⟨⟨(Nat.le_of_ble_eq_true rfl), (Nat.le_of_ble_eq_true rfl)⟩, rfl, rfl⟩ ⟨(Nat.le_of_ble_eq_true rfl), (Nat.le_of_ble_eq_true rfl)⟩ (Nat.le_of_ble_eq_true rfl) dX4_word_134 ?_
  refine V_lor hC dX4_word_137 ?_
  refine V_bipush (v := 116) hC dX4_word_138 (by decide) ?_
  refine V_iconst (v := 3) hC dX4_word_140 (by decide) ?_
  refine mt2v hC m_letter mw_letter ⟨⟨(Nat.le_of_ble_eq_true rfl), (Nat.le_of_ble_eq_true rfl)⟩, rfl, rfl⟩ ⟨(Nat.le_of_ble_eq_true rfl), (Nat.le_of_ble_eq_true rfl)⟩ (Nat.le_of_ble_eq_true rfl) dX4_word_141 ?_
  refine V_lor hC dX4_word_144 ?_
  refine V_setl (y := 244955123) (by decide) ?_
  refine V_lstore_n hC dX4_word_145 (Nat.le_of_ble_eq_true rfl) ?_
  have loop : ∀ (fuel : Nat) (k : Nat), 4 < k + fuel → k ≤ 4 → V G C (mkM G a (iP I (nI (wdS T (wSoft.take k) (p, s)).1) (gB (wdS T (wSoft.take k) (p, s)).2)) J P Q M0) 0 0 149 (gl [some (.ref a), some (.int 2), some (.int 4), some (.long 244955123), none, some (.int (nI k))]) [] := by
    intro fuel
    induction fuel with
    | zero => intros; omega
    | succ fuel ih =>
      intro k a1 a2
      refine V_iload hC dX4_word_149 rfl ?_
      refine V_iload_n hC dX4_word_151 rfl ?_
      refine V_icmp_ge (tgt := 177) hC dX4_word_152 (by decide) (fun c152 => ?_) (fun c152 => ?_)
      · exact V_vret hC dX4_word_177 (Nat.le_of_ble_eq_true rfl) (Nat.le_of_ble_eq_true rfl) ⟨rfl, by
              have hk : k = 4 := Nat.le_antisymm a2 (Nat.le_of_not_lt fun q => nI_ge q (by omega) c152)
              subst hk
              rw [show wSoft.take 4 = wSoft from rfl]⟩
      · have h4 : k < 4 := Nat.lt_of_not_le fun q => c152 (nI_le q (by omega))
        have ex : wSoft[k]? = some (wSoft.getD k 0) := by
          rw [List.getD_eq_getElem?_getD, List.getElem?_eq_getElem (show k < wSoft.length from h4)]
          rfl
        refine V_aload_n hC dX4_word_155 rfl ?_
        refine V_lload_n hC dX4_word_156 rfl ?_
        refine V_bipush (v := 7) hC dX4_word_157 (by decide) ?_
        refine V_iload hC dX4_word_159 rfl ?_
        refine V_imul hC dX4_word_161 ?_
        refine V_lshr hC dX4_word_162 ?_
        refine V_ldc2 hC dX4_word_163 q1007 ?_
        refine V_land hC dX4_word_166 ?_
        refine V_l2i hC dX4_word_167 ?_
        refine V_seti (y := wSoft.getD k 0) (hch k h4) ?_
        refine mc1n hC (m_take (hT.iP _ _) (p := (wdS T (wSoft.take k) (p, s)).1) (s := (wdS T (wSoft.take k) (p, s)).2) rfl rfl (by have := wdS_le (T := T) (wSoft.take k) (p, s) (fun c hc => hm1 c (List.mem_of_mem_take hc)) hb; omega)) rfl mw_take ⟨⟨(Nat.le_of_ble_eq_true rfl), (Nat.le_of_ble_eq_true rfl)⟩, rfl, rfl⟩ ⟨(Nat.le_of_ble_eq_true rfl), (Nat.le_of_ble_eq_true rfl)⟩ (Nat.le_of_ble_eq_true rfl) dX4_word_168 ?_
        refine V_iinc (v := nI (k + 1)) hC dX4_word_171 rfl (gI_inc k) (Nat.le_of_ble_eq_true rfl) ?_
        refine V_goto (tgt := 149) hC dX4_word_174 (by decide) ?_
        refine V.eqM ?_ (V.loc [some (.ref a), some (.int 2), some (.int 4), some (.long 244955123), none, some (.int (nI (k + 1)))] ⟨rfl, rfl, rfl, rfl, rfl, trivial⟩ (ih (k + 1) (by omega) (by omega)))
        rw [iP_iP, wdS_s T wSoft (p, s) ex]
  refine V_iconst (v := 0) hC dX4_word_146 (by decide) ?_
  refine V_istore hC dX4_word_147 (Nat.le_of_ble_eq_true rfl) ?_
  refine V.eqM (show mkM G a I J P Q M0 = (mkM G a (iP I (nI (wdS T (wSoft.take 0) (p, s)).1) (gB (wdS T (wSoft.take 0) (p, s)).2)) J P Q M0) by rw [List.take_zero]; show _ = mkM G a (iP I (nI p) (gB s)) J P Q M0; rw [iP_self hp hs]) (V.loc [some (.ref a), some (.int 2), some (.int 4), some (.long 244955123), none, some (.int (nI 0))] ⟨rfl, rfl, rfl, rfl, rfl, trivial⟩ (loop 5 0 (by omega) (by omega)))
