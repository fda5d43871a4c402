/-! MODEL 19: plain -/
theorem lvQ {Q Q' : Nat → Nat → Int64} {n j : Nat} {v : Int64} {b : Bool} (e : Q' = if b = true then Q else va_up Q 0 (va_up (Q 0) (12 * n + j) v)) : (∀ k, k ≠ 0 → Q' k = Q k) ∧ (∀ i, i ≠ 12 * n + j → Q' 0 i = Q 0 i) ∧ (b = false → Q' 0 (12 * n + j) = v) := by
  cases b with
  | true =>
    rw [if_pos rfl] at e
    subst e
    exact ⟨fun _ _ => rfl, fun _ _ => rfl, fun h => by cases h⟩
  | false =>
    rw [if_neg (by decide)] at e
    subst e
    exact ⟨fun k hk => va_up_ne _ _ hk, fun i hi => by rw [va_up_self, va_up_ne _ _ hi], fun _ => by rw [va_up_self, va_up_self]⟩
theorem pl_end {G : gG} {a : Nat} {I : Nat → Int32} {J : Nat → Int64} {P : Nat → Nat → Int32} {Q Q' : Nat → Nat → Int64} {M0 : gM} {n sh h : Nat} {l : List Int64} {q : Nat × Bool} {x y z : Int32} (hq : q.1 ≤ 300) (hj : ∀ k, k ≠ 0 → Q' k = Q k) (hi : ∀ i, i < 12 * n → Q' 0 i = Q 0 i) (hx : x = nI sh) (hy : y = nI h) (hz : z = nI l.length) (hok : okS sh h l.length) (hl : q.2 = false → ∀ (k : Nat) (v : Int64), l[k]? = some v → Q' 0 (12 * n + k) = v) :
    RSc G a I P Q M0 n (plainE sh h l q) (.inl none) (mkM G a (iP I (nI q.1) (gB q.2)) J (layP P n x y z) Q' M0) := by
  have ei : (plainE sh h l q).2.isNone = q.2 := by
    unfold plainE
    cases q.2 <;> rfl
  refine ⟨rfl, J, _, Q', by rw [ei]; rfl, hq, fun j i hj hi => layP_lt hj hi, fun j hj => layP_gt hj, hi, hj, fun s hs => ?_⟩
  unfold plainE at hs
  cases h2 : q.2 with
  | true => rw [h2] at hs; cases hs
  | false =>
    rw [h2] at hs
    cases hs
    exact ⟨hok, by rw [layP_0, hx], by rw [layP_1, hy], by rw [layP_2, hz], hl h2⟩
theorem l1at {Q : Nat → Int64} {b : Nat} {v1 : Int64} (h1 : Q (b + 0) = v1) : ∀ (k : Nat) (v : Int64), [v1][k]? = some v → Q (b + k) = v
  | 0, v, h => by cases h; exact h1
  | k + 1, v, h => by cases h
theorem l2at {Q : Nat → Int64} {b : Nat} {v1 v2 : Int64} (h1 : Q (b + 0) = v1) (h2 : Q (b + 1) = v2) : ∀ (k : Nat) (v : Int64), [v1, v2][k]? = some v → Q (b + k) = v
  | 0, v, h => by cases h; exact h1
  | 1, v, h => by cases h; exact h2
  | k + 2, v, h => by cases h
theorem l3at {Q : Nat → Int64} {b : Nat} {v1 v2 v3 : Int64} (h1 : Q (b + 0) = v1) (h2 : Q (b + 1) = v2) (h3 : Q (b + 2) = v3) : ∀ (k : Nat) (v : Int64), [v1, v2, v3][k]? = some v → Q (b + k) = v
  | 0, v, h => by cases h; exact h1
  | 1, v, h => by cases h; exact h2
  | 2, v, h => by cases h; exact h3
  | k + 3, v, h => by cases h
theorem gD {x : Option Int64} {y : Int64} (hv : ∀ v, x = some v → y = v) (h : x.isNone = false) : y = x.getD 0 := by
  obtain ⟨v, rfl⟩ := gIsN h
  exact hv v rfl
set_option maxHeartbeats 4000000 in
theorem m_plain {l : Launch} {G : gG} {a : Nat} {I : Nat → Int32} {J : Nat → Int64} {P : Nat → Nat → Int32} {Q : Nat → Nat → Int64} {M0 : gM} {T : List Int32} (hT : HT T I P) {p n : Nat} (hp : I 9 = nI p) (hs : I 10 = gB false) (hb : p ≤ T.length) (hn : I 0 = nI n) (hn60 : n < 60) : gMet l yX4_plain (gWs yX4_plain cX4_plain 2 none []) ({ frames := 3, cells := 0, slots := 0, locals := 71 } : Room) G [.ref a] (mkM G a I J P Q M0) (RSc G a I P Q M0 n (plainS T p)) := by
  refine gMet.intro (by decide) (Nat.le_of_ble_eq_true rfl) (fun C hl hC hN => ?_)
  subst hl
  replace hC : Ck G C [] cX4_plain RX4 2 none ({ frames := 3, cells := 0, slots := 0, locals := 71 } : Room) (RSc G a I P Q M0 n (plainS T p)) := hC
  refine V.loc [some (.ref a)] ⟨rfl, trivial⟩ ?_
  have h300 := hT.2.1
  refine V_aload_n hC dX4_plain_0 rfl ?_
  refine mc0g hC (m_figure hT hp hs hb) rfl mw_figure ⟨⟨(Nat.le_of_ble_eq_true rfl), (Nat.le_of_ble_eq_true rfl)⟩, rfl, rfl⟩ ⟨(Nat.le_of_ble_eq_true rfl), (Nat.le_of_ble_eq_true rfl)⟩ (Nat.le_of_ble_eq_true rfl) dX4_plain_1 (fun X M' h => by obtain ⟨h1, -⟩ := h; cases h1) (fun v M' h => ?_)
  obtain ⟨h1, J1, h2, hv1⟩ := h
  cases h1
  subst h2
  obtain ⟨f1, ef1⟩ : ∃ q, q = fgS T (p, false) := ⟨_, rfl⟩
  rw [← ef1] at hv1 ⊢
  have lf1 : f1.1 ≤ T.length := by rw [ef1]; exact fgS_le hb
  refine V_aload_n hC dX4_plain_4 rfl ?_
  refine V_iconst (v := 0) hC dX4_plain_5 (by decide) ?_
  refine mc1n hC (m_level (s := f1.2.isNone) (n := n) (j := 0) rfl hn (by omega)) rfl mw_level ⟨⟨(Nat.le_of_ble_eq_true rfl), (Nat.le_of_ble_eq_true rfl)⟩, rfl, rfl⟩ ⟨(Nat.le_of_ble_eq_true rfl), (Nat.le_of_ble_eq_true rfl)⟩ (Nat.le_of_ble_eq_true rfl) dX4_plain_6 ?_
  obtain ⟨Q1, eQ1⟩ : ∃ q, q = (if f1.2.isNone = true then Q else va_up Q 0 (va_up (Q 0) (12 * n + 0) (J1 2))) := ⟨_, rfl⟩
  rw [← eQ1]
  obtain ⟨a1, b1, w1⟩ := lvQ eQ1
  refine V_iconst (v := 0) hC dX4_plain_9 (by decide) ?_
  refine V_istore_n hC dX4_plain_10 (Nat.le_of_ble_eq_true rfl) ?_
  refine V_aload_n hC dX4_plain_11 rfl ?_
  refine mg_stuck hC dX4_plain_12 ?_
  refine V_seti (y := gB f1.2.isNone) rfl ?_
  refine V_ifb_ne (tgt := 82) hC dX4_plain_15 (by decide) (fun c15 => ?_) (fun c15 => ?_)
  · skip
    refine V_aload_n hC dX4_plain_82 rfl ?_
    refine mg_shapes hC dX4_plain_83 ?_
    refine V_aload_n hC dX4_plain_86 rfl ?_
    refine mg_scores hC dX4_plain_87 ?_
    refine V_iload_n hC dX4_plain_90 rfl ?_
    rw [show (iP I _ _) 0 = nI n from hn]
    refine ms_shapes hC n rfl (by omega) dX4_plain_91 ?_
    refine V_aload_n hC dX4_plain_92 rfl ?_
    refine mg_hards hC dX4_plain_93 ?_
    refine V_aload_n hC dX4_plain_96 rfl ?_
    refine mg_scores hC dX4_plain_97 ?_
    refine V_iload_n hC dX4_plain_100 rfl ?_
    refine V_if_ne (tgt := 108) hC dX4_plain_101 (by decide) (fun c => absurd c (by decide)) (fun _ => ?_)
    refine V_iconst (v := 0) hC dX4_plain_104 (by decide) ?_
    refine V_goto (tgt := 109) hC dX4_plain_105 (by decide) ?_
    rw [show (iP I _ _) 0 = nI n from hn]
    refine ms_hards hC n rfl (by omega) dX4_plain_109 ?_
    refine V_aload_n hC dX4_plain_110 rfl ?_
    refine mg_sizes hC dX4_plain_111 ?_
    refine V_aload_n hC dX4_plain_114 rfl ?_
    refine mg_scores hC dX4_plain_115 ?_
    refine V_iload_n hC dX4_plain_118 rfl ?_
    refine V_iconst (v := 1) hC dX4_plain_119 (by decide) ?_
    refine V_iadd hC dX4_plain_120 ?_
    rw [show (iP I _ _) 0 = nI n from hn]
    refine ms_sizes hC n rfl (by omega) dX4_plain_121 ?_
    exact V_vret hC dX4_plain_122 (Nat.le_of_ble_eq_true rfl) (Nat.le_of_ble_eq_true rfl) (by
          have e : plainS T p = plain1 T f1 := by rw [ef1]; rfl
          rw [e]
          unfold plain1
          rw [if_neg (by rintro ⟨z, -⟩; rw [c15] at z; cases z)]
          exact pl_end (by show f1.1 ≤ 300; omega) a1 (fun i hi => b1 i (by omega)) rfl rfl rfl (Or.inl ⟨rfl, rfl, rfl⟩) (fun z => l1at (by rw [w1 z]; exact gD hv1 z)))
  · refine V_aload_n hC dX4_plain_18 rfl ?_
    refine mg_place hC dX4_plain_19 ?_
    refine V_seti (y := nI f1.1) rfl ?_
    refine V_aload_n hC dX4_plain_22 rfl ?_
    refine mg_tapeSize hC dX4_plain_23 ?_
    refine V_seti (y := nI T.length) hT.1 ?_
    refine V_icmp_ge (tgt := 82) hC dX4_plain_26 (by decide) (fun c26 => ?_) (fun c26 => ?_)
    · skip
      refine V_aload_n hC dX4_plain_82 rfl ?_
      refine mg_shapes hC dX4_plain_83 ?_
      refine V_aload_n hC dX4_plain_86 rfl ?_
      refine mg_scores hC dX4_plain_87 ?_
      refine V_iload_n hC dX4_plain_90 rfl ?_
      rw [show (iP I _ _) 0 = nI n from hn]
      refine ms_shapes hC n rfl (by omega) dX4_plain_91 ?_
      refine V_aload_n hC dX4_plain_92 rfl ?_
      refine mg_hards hC dX4_plain_93 ?_
      refine V_aload_n hC dX4_plain_96 rfl ?_
      refine mg_scores hC dX4_plain_97 ?_
      refine V_iload_n hC dX4_plain_100 rfl ?_
      refine V_if_ne (tgt := 108) hC dX4_plain_101 (by decide) (fun c => absurd c (by decide)) (fun _ => ?_)
      refine V_iconst (v := 0) hC dX4_plain_104 (by decide) ?_
      refine V_goto (tgt := 109) hC dX4_plain_105 (by decide) ?_
      rw [show (iP I _ _) 0 = nI n from hn]
      refine ms_hards hC n rfl (by omega) dX4_plain_109 ?_
      refine V_aload_n hC dX4_plain_110 rfl ?_
      refine mg_sizes hC dX4_plain_111 ?_
      refine V_aload_n hC dX4_plain_114 rfl ?_
      refine mg_scores hC dX4_plain_115 ?_
      refine V_iload_n hC dX4_plain_118 rfl ?_
      refine V_iconst (v := 1) hC dX4_plain_119 (by decide) ?_
      refine V_iadd hC dX4_plain_120 ?_
      rw [show (iP I _ _) 0 = nI n from hn]
      refine ms_sizes hC n rfl (by omega) dX4_plain_121 ?_
      exact V_vret hC dX4_plain_122 (Nat.le_of_ble_eq_true rfl) (Nat.le_of_ble_eq_true rfl) (by
            have e : plainS T p = plain1 T f1 := by rw [ef1]; rfl
            rw [e]
            unfold plain1
            rw [if_neg (by rintro ⟨-, z⟩; exact nI_ge z (by omega) c26)]
            exact pl_end (by show f1.1 ≤ 300; omega) a1 (fun i hi => b1 i (by omega)) rfl rfl rfl (Or.inl ⟨rfl, rfl, rfl⟩) (fun z => l1at (by rw [w1 z]; exact gD hv1 z)))
    · refine V_aload_n hC dX4_plain_29 rfl ?_
      refine V_iconst (v := 0) hC dX4_plain_30 (by decide) ?_
      refine mc1n hC (m_wd0 (hT.iP _ _) (p := f1.1) (s := f1.2.isNone) rfl rfl lf1) rfl mw_word ⟨⟨(Nat.le_of_ble_eq_true rfl), (Nat.le_of_ble_eq_true rfl)⟩, rfl, rfl⟩ ⟨(Nat.le_of_ble_eq_true rfl), (Nat.le_of_ble_eq_true rfl)⟩ (Nat.le_of_ble_eq_true rfl) dX4_plain_31 ?_
      rw [c15]
      obtain ⟨q1, eq1⟩ : ∃ q, q = wdS T wHard (f1.1, false) := ⟨_, rfl⟩
      rw [← eq1]
      rw [iP_iP]
      have lq1 : q1.1 ≤ T.length := by rw [eq1]; exact wdS_le _ _ wdok.1 lf1
      refine V_aload_n hC dX4_plain_34 rfl ?_
      refine mc0g hC (m_figure (hT.iP _ _) (p := q1.1) (s := q1.2) rfl rfl lq1) rfl mw_figure ⟨⟨(Nat.le_of_ble_eq_true rfl), (Nat.le_of_ble_eq_true rfl)⟩, rfl, rfl⟩ ⟨(Nat.le_of_ble_eq_true rfl), (Nat.le_of_ble_eq_true rfl)⟩ (Nat.le_of_ble_eq_true rfl) dX4_plain_35 (fun X M' h => by obtain ⟨h1, -⟩ := h; cases h1) (fun v M' h => ?_)
      obtain ⟨h1, J2, h2, hv2⟩ := h
      cases h1
      subst h2
      obtain ⟨f2, ef2⟩ : ∃ q, q = fgS T (q1.1, q1.2) := ⟨_, rfl⟩
      rw [← ef2] at hv2 ⊢
      rw [iP_iP]
      have lf2 : f2.1 ≤ T.length := by rw [ef2]; exact fgS_le lq1
      refine V_aload_n hC dX4_plain_38 rfl ?_
      refine V_iconst (v := 1) hC dX4_plain_39 (by decide) ?_
      refine mc1n hC (m_level (s := f2.2.isNone) (n := n) (j := 1) rfl hn (by omega)) rfl mw_level ⟨⟨(Nat.le_of_ble_eq_true rfl), (Nat.le_of_ble_eq_true rfl)⟩, rfl, rfl⟩ ⟨(Nat.le_of_ble_eq_true rfl), (Nat.le_of_ble_eq_true rfl)⟩ (Nat.le_of_ble_eq_true rfl) dX4_plain_40 ?_
      obtain ⟨Q2, eQ2⟩ : ∃ q, q = (if f2.2.isNone = true then Q1 else va_up Q1 0 (va_up (Q1 0) (12 * n + 1) (J2 2))) := ⟨_, rfl⟩
      rw [← eQ2]
      obtain ⟨a2, b2, w2⟩ := lvQ eQ2
      refine V_iconst (v := 1) hC dX4_plain_43 (by decide) ?_
      refine V_istore_n hC dX4_plain_44 (Nat.le_of_ble_eq_true rfl) ?_
      refine V_aload_n hC dX4_plain_45 rfl ?_
      refine mg_stuck hC dX4_plain_46 ?_
      refine V_seti (y := gB f2.2.isNone) rfl ?_
      refine V_ifb_ne (tgt := 77) hC dX4_plain_49 (by decide) (fun c49 => ?_) (fun c49 => ?_)
      · refine V_aload_n hC dX4_plain_77 rfl ?_
        refine V_iconst (v := 2) hC dX4_plain_78 (by decide) ?_
        refine mc1n hC (m_wd2 (hT.iP _ _) (p := f2.1) (s := f2.2.isNone) rfl rfl lf2) rfl mw_word ⟨⟨(Nat.le_of_ble_eq_true rfl), (Nat.le_of_ble_eq_true rfl)⟩, rfl, rfl⟩ ⟨(Nat.le_of_ble_eq_true rfl), (Nat.le_of_ble_eq_true rfl)⟩ (Nat.le_of_ble_eq_true rfl) dX4_plain_79 ?_
        obtain ⟨q4, eq4⟩ : ∃ q, q = wdS T wSoft (f2.1, f2.2.isNone) := ⟨_, rfl⟩
        rw [← eq4]
        rw [iP_iP]
        have lq4 : q4.1 ≤ T.length := by rw [eq4]; exact wdS_le _ _ wdok.2.2 lf2
        refine V_aload_n hC dX4_plain_82 rfl ?_
        refine mg_shapes hC dX4_plain_83 ?_
        refine V_aload_n hC dX4_plain_86 rfl ?_
        refine mg_scores hC dX4_plain_87 ?_
        refine V_iload_n hC dX4_plain_90 rfl ?_
        rw [show (iP I _ _) 0 = nI n from hn]
        refine ms_shapes hC n rfl (by omega) dX4_plain_91 ?_
        refine V_aload_n hC dX4_plain_92 rfl ?_
        refine mg_hards hC dX4_plain_93 ?_
        refine V_aload_n hC dX4_plain_96 rfl ?_
        refine mg_scores hC dX4_plain_97 ?_
        refine V_iload_n hC dX4_plain_100 rfl ?_
        refine V_if_ne (tgt := 108) hC dX4_plain_101 (by decide) (fun _ => ?_) (fun c => absurd c (by decide))
        refine V_iconst (v := 1) hC dX4_plain_108 (by decide) ?_
        rw [show (iP I _ _) 0 = nI n from hn]
        refine ms_hards hC n rfl (by omega) dX4_plain_109 ?_
        refine V_aload_n hC dX4_plain_110 rfl ?_
        refine mg_sizes hC dX4_plain_111 ?_
        refine V_aload_n hC dX4_plain_114 rfl ?_
        refine mg_scores hC dX4_plain_115 ?_
        refine V_iload_n hC dX4_plain_118 rfl ?_
        refine V_iconst (v := 1) hC dX4_plain_119 (by decide) ?_
        refine V_iadd hC dX4_plain_120 ?_
        rw [show (iP I _ _) 0 = nI n from hn]
        refine ms_sizes hC n rfl (by omega) dX4_plain_121 ?_
        exact V_vret hC dX4_plain_122 (Nat.le_of_ble_eq_true rfl) (Nat.le_of_ble_eq_true rfl) (by
              have e : plainS T p = plain1 T f1 := by rw [ef1]; rfl
              rw [e]
              unfold plain1
              rw [if_pos ⟨c15, Nat.lt_of_not_le fun z => c26 (nI_le z (by omega))⟩]
              have e2 : fgS T (wdS T wHard (f1.1, false)) = f2 := by rw [ef2, eq1]
              rw [e2]
              unfold plain2
              rw [if_neg (by rintro ⟨z, -⟩; rw [c49] at z; cases z)]
              rw [show wdS T wSoft (f2.1, f2.2.isNone) = q4 from eq4.symm]
              exact pl_end (by show q4.1 ≤ 300; omega) (fun k hk => by rw [a2 k hk, a1 k hk]) (fun i hi => by rw [b2 i (by omega), b1 i (by omega)]) rfl rfl rfl (Or.inr (Or.inl ⟨rfl, rfl, rfl⟩)) (fun z => by
                have z2 : f2.2.isNone = false := wdS_f (T := T) (cs := wSoft) (q := (f2.1, f2.2.isNone)) (by rw [← eq4]; exact z)
                refine l2at ?_ (by rw [w2 z2]; exact gD hv2 z2)
                rw [b2 _ (by omega), w1 c15]
                exact gD hv1 c15))
      · refine V_aload_n hC dX4_plain_52 rfl ?_
        refine mc0v hC (m_he (hT.iP _ _) (p := f2.1) rfl (by omega)) rfl mw_here ⟨⟨(Nat.le_of_ble_eq_true rfl), (Nat.le_of_ble_eq_true rfl)⟩, rfl, rfl⟩ ⟨(Nat.le_of_ble_eq_true rfl), (Nat.le_of_ble_eq_true rfl)⟩ (Nat.le_of_ble_eq_true rfl) dX4_plain_53 ?_
        refine V_bipush (v := 109) hC dX4_plain_56 (by decide) ?_
        refine V_icmp_ne (tgt := 77) hC dX4_plain_58 (by decide) (fun c58 => ?_) (fun c58 => ?_)
        · refine V_aload_n hC dX4_plain_77 rfl ?_
          refine V_iconst (v := 2) hC dX4_plain_78 (by decide) ?_
          refine mc1n hC (m_wd2 (hT.iP _ _) (p := f2.1) (s := f2.2.isNone) rfl rfl lf2) rfl mw_word ⟨⟨(Nat.le_of_ble_eq_true rfl), (Nat.le_of_ble_eq_true rfl)⟩, rfl, rfl⟩ ⟨(Nat.le_of_ble_eq_true rfl), (Nat.le_of_ble_eq_true rfl)⟩ (Nat.le_of_ble_eq_true rfl) dX4_plain_79 ?_
          obtain ⟨q4, eq4⟩ : ∃ q, q = wdS T wSoft (f2.1, f2.2.isNone) := ⟨_, rfl⟩
          rw [← eq4]
          rw [iP_iP]
          have lq4 : q4.1 ≤ T.length := by rw [eq4]; exact wdS_le _ _ wdok.2.2 lf2
          refine V_aload_n hC dX4_plain_82 rfl ?_
          refine mg_shapes hC dX4_plain_83 ?_
          refine V_aload_n hC dX4_plain_86 rfl ?_
          refine mg_scores hC dX4_plain_87 ?_
          refine V_iload_n hC dX4_plain_90 rfl ?_
          rw [show (iP I _ _) 0 = nI n from hn]
          refine ms_shapes hC n rfl (by omega) dX4_plain_91 ?_
          refine V_aload_n hC dX4_plain_92 rfl ?_
          refine mg_hards hC dX4_plain_93 ?_
          refine V_aload_n hC dX4_plain_96 rfl ?_
          refine mg_scores hC dX4_plain_97 ?_
          refine V_iload_n hC dX4_plain_100 rfl ?_
          refine V_if_ne (tgt := 108) hC dX4_plain_101 (by decide) (fun _ => ?_) (fun c => absurd c (by decide))
          refine V_iconst (v := 1) hC dX4_plain_108 (by decide) ?_
          rw [show (iP I _ _) 0 = nI n from hn]
          refine ms_hards hC n rfl (by omega) dX4_plain_109 ?_
          refine V_aload_n hC dX4_plain_110 rfl ?_
          refine mg_sizes hC dX4_plain_111 ?_
          refine V_aload_n hC dX4_plain_114 rfl ?_
          refine mg_scores hC dX4_plain_115 ?_
          refine V_iload_n hC dX4_plain_118 rfl ?_
          refine V_iconst (v := 1) hC dX4_plain_119 (by decide) ?_
          refine V_iadd hC dX4_plain_120 ?_
          rw [show (iP I _ _) 0 = nI n from hn]
          refine ms_sizes hC n rfl (by omega) dX4_plain_121 ?_
          exact V_vret hC dX4_plain_122 (Nat.le_of_ble_eq_true rfl) (Nat.le_of_ble_eq_true rfl) (by
                have e : plainS T p = plain1 T f1 := by rw [ef1]; rfl
                rw [e]
                unfold plain1
                rw [if_pos ⟨c15, Nat.lt_of_not_le fun z => c26 (nI_le z (by omega))⟩]
                have e2 : fgS T (wdS T wHard (f1.1, false)) = f2 := by rw [ef2, eq1]
                rw [e2]
                unfold plain2
                rw [if_neg (by rintro ⟨-, z⟩; exact c58 z)]
                rw [show wdS T wSoft (f2.1, f2.2.isNone) = q4 from eq4.symm]
                exact pl_end (by show q4.1 ≤ 300; omega) (fun k hk => by rw [a2 k hk, a1 k hk]) (fun i hi => by rw [b2 i (by omega), b1 i (by omega)]) rfl rfl rfl (Or.inr (Or.inl ⟨rfl, rfl, rfl⟩)) (fun z => by
                  have z2 : f2.2.isNone = false := wdS_f (T := T) (cs := wSoft) (q := (f2.1, f2.2.isNone)) (by rw [← eq4]; exact z)
                  refine l2at ?_ (by rw [w2 z2]; exact gD hv2 z2)
                  rw [b2 _ (by omega), w1 c15]
                  exact gD hv1 c15))
        · refine V_aload_n hC dX4_plain_61 rfl ?_
          refine V_iconst (v := 1) hC dX4_plain_62 (by decide) ?_
          refine mc1n hC (m_wd1 (hT.iP _ _) (p := f2.1) (s := f2.2.isNone) rfl rfl lf2) rfl mw_word ⟨⟨(Nat.le_of_ble_eq_true rfl), (Nat.le_of_ble_eq_true rfl)⟩, rfl, rfl⟩ ⟨(Nat.le_of_ble_eq_true rfl), (Nat.le_of_ble_eq_true rfl)⟩ (Nat.le_of_ble_eq_true rfl) dX4_plain_63 ?_
          rw [c49]
          obtain ⟨q3, eq3⟩ : ∃ q, q = wdS T wMed (f2.1, false) := ⟨_, rfl⟩
          rw [← eq3]
          rw [iP_iP]
          have lq3 : q3.1 ≤ T.length := by rw [eq3]; exact wdS_le _ _ wdok.2.1 lf2
          refine V_aload_n hC dX4_plain_66 rfl ?_
          refine mc0g hC (m_figure (hT.iP _ _) (p := q3.1) (s := q3.2) rfl rfl lq3) rfl mw_figure ⟨⟨(Nat.le_of_ble_eq_true rfl), (Nat.le_of_ble_eq_true rfl)⟩, rfl, rfl⟩ ⟨(Nat.le_of_ble_eq_true rfl), (Nat.le_of_ble_eq_true rfl)⟩ (Nat.le_of_ble_eq_true rfl) dX4_plain_67 (fun X M' h => by obtain ⟨h1, -⟩ := h; cases h1) (fun v M' h => ?_)
          obtain ⟨h1, J3, h2, hv3⟩ := h
          cases h1
          subst h2
          obtain ⟨f3, ef3⟩ : ∃ q, q = fgS T (q3.1, q3.2) := ⟨_, rfl⟩
          rw [← ef3] at hv3 ⊢
          rw [iP_iP]
          have lf3 : f3.1 ≤ T.length := by rw [ef3]; exact fgS_le lq3
          refine V_aload_n hC dX4_plain_70 rfl ?_
          refine V_iconst (v := 2) hC dX4_plain_71 (by decide) ?_
          refine mc1n hC (m_level (s := f3.2.isNone) (n := n) (j := 2) rfl hn (by omega)) rfl mw_level ⟨⟨(Nat.le_of_ble_eq_true rfl), (Nat.le_of_ble_eq_true rfl)⟩, rfl, rfl⟩ ⟨(Nat.le_of_ble_eq_true rfl), (Nat.le_of_ble_eq_true rfl)⟩ (Nat.le_of_ble_eq_true rfl) dX4_plain_72 ?_
          obtain ⟨Q3, eQ3⟩ : ∃ q, q = (if f3.2.isNone = true then Q2 else va_up Q2 0 (va_up (Q2 0) (12 * n + 2) (J3 2))) := ⟨_, rfl⟩
          rw [← eQ3]
          obtain ⟨a3, b3, w3⟩ := lvQ eQ3
          refine V_iconst (v := 2) hC dX4_plain_75 (by decide) ?_
          refine V_istore_n hC dX4_plain_76 (Nat.le_of_ble_eq_true rfl) ?_
          refine V_aload_n hC dX4_plain_77 rfl ?_
          refine V_iconst (v := 2) hC dX4_plain_78 (by decide) ?_
          refine mc1n hC (m_wd2 (hT.iP _ _) (p := f3.1) (s := f3.2.isNone) rfl rfl lf3) rfl mw_word ⟨⟨(Nat.le_of_ble_eq_true rfl), (Nat.le_of_ble_eq_true rfl)⟩, rfl, rfl⟩ ⟨(Nat.le_of_ble_eq_true rfl), (Nat.le_of_ble_eq_true rfl)⟩ (Nat.le_of_ble_eq_true rfl) dX4_plain_79 ?_
          obtain ⟨q4, eq4⟩ : ∃ q, q = wdS T wSoft (f3.1, f3.2.isNone) := ⟨_, rfl⟩
          rw [← eq4]
          rw [iP_iP]
          have lq4 : q4.1 ≤ T.length := by rw [eq4]; exact wdS_le _ _ wdok.2.2 lf3
          refine V_aload_n hC dX4_plain_82 rfl ?_
          refine mg_shapes hC dX4_plain_83 ?_
          refine V_aload_n hC dX4_plain_86 rfl ?_
          refine mg_scores hC dX4_plain_87 ?_
          refine V_iload_n hC dX4_plain_90 rfl ?_
          rw [show (iP I _ _) 0 = nI n from hn]
          refine ms_shapes hC n rfl (by omega) dX4_plain_91 ?_
          refine V_aload_n hC dX4_plain_92 rfl ?_
          refine mg_hards hC dX4_plain_93 ?_
          refine V_aload_n hC dX4_plain_96 rfl ?_
          refine mg_scores hC dX4_plain_97 ?_
          refine V_iload_n hC dX4_plain_100 rfl ?_
          refine V_if_ne (tgt := 108) hC dX4_plain_101 (by decide) (fun _ => ?_) (fun c => absurd c (by decide))
          refine V_iconst (v := 1) hC dX4_plain_108 (by decide) ?_
          rw [show (iP I _ _) 0 = nI n from hn]
          refine ms_hards hC n rfl (by omega) dX4_plain_109 ?_
          refine V_aload_n hC dX4_plain_110 rfl ?_
          refine mg_sizes hC dX4_plain_111 ?_
          refine V_aload_n hC dX4_plain_114 rfl ?_
          refine mg_scores hC dX4_plain_115 ?_
          refine V_iload_n hC dX4_plain_118 rfl ?_
          refine V_iconst (v := 1) hC dX4_plain_119 (by decide) ?_
          refine V_iadd hC dX4_plain_120 ?_
          rw [show (iP I _ _) 0 = nI n from hn]
          refine ms_sizes hC n rfl (by omega) dX4_plain_121 ?_
          exact V_vret hC dX4_plain_122 (Nat.le_of_ble_eq_true rfl) (Nat.le_of_ble_eq_true rfl) (by
                have e : plainS T p = plain1 T f1 := by rw [ef1]; rfl
                rw [e]
                unfold plain1
                rw [if_pos ⟨c15, Nat.lt_of_not_le fun z => c26 (nI_le z (by omega))⟩]
                have e2 : fgS T (wdS T wHard (f1.1, false)) = f2 := by rw [ef2, eq1]
                rw [e2]
                unfold plain2
                rw [if_pos ⟨c49, c58⟩]
                have e3 : fgS T (wdS T wMed (f2.1, false)) = f3 := by rw [ef3, eq3]
                rw [e3]
                unfold plain3
                rw [show wdS T wSoft (f3.1, f3.2.isNone) = q4 from eq4.symm]
                exact pl_end (by show q4.1 ≤ 300; omega) (fun k hk => by rw [a3 k hk, a2 k hk, a1 k hk]) (fun i hi => by rw [b3 i (by omega), b2 i (by omega), b1 i (by omega)]) rfl rfl rfl (Or.inr (Or.inr (Or.inl ⟨rfl, rfl, rfl⟩))) (fun z => by
                  have z2 : f3.2.isNone = false := wdS_f (T := T) (cs := wSoft) (q := (f3.1, f3.2.isNone)) (by rw [← eq4]; exact z)
                  refine l3at ?_ ?_ (by rw [w3 z2]; exact gD hv3 z2)
                  · rw [b3 _ (by omega), b2 _ (by omega), w1 c15]
                    exact gD hv1 c15
                  · rw [b3 _ (by omega), w2 c49]
                    exact gD hv2 c49))
