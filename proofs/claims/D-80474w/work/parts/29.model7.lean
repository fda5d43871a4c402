/-! MODEL 7: times -/
/-- q times N, and o times 1 -/
theorem wadT (q o N : Int64) (n1 : -2147483648 ≤ N.toInt) (n2 : N.toInt ≤ 2147483648) : wok (wadH (wadH 0 0 q N) (wadL 0 q N) o 1) (wadL (wadL 0 q N) o 1) ∧ wv (wadH (wadH 0 0 q N) (wadL 0 q N) o 1) (wadL (wadL 0 q N) o 1) = q.toInt * N.toInt + o.toInt := by
  obtain ⟨a1, a2⟩ := wad (h := 0) (w := 0) (v := q) (m := N) (c := 2147483648) w00.1 (by decide) n1 n2 (by decide) (by rw [z_0]; decide) (by rw [z_0]; decide) (by rw [z_0]; decide)
  rw [w00.2, Int.zero_add] at a2
  have hq := z_rng q
  have b1 : -4611686018427387905 ≤ (wadH 0 0 q N).toInt ∧ (wadH 0 0 q N).toInt ≤ 4611686018427387904 := by
    obtain ⟨p1, p2⟩ := z_pd (a := q.toInt) (A := 9223372036854775808) (by omega) (by omega) (by decide) n1 n2 (by decide)
    unfold wok at a1
    unfold wv at a2
    omega
  obtain ⟨c1, c2⟩ := wad (h := wadH 0 0 q N) (w := wadL 0 q N) (v := o) (m := 1) (c := 1) a1 (by decide) (by decide) (by decide) (by decide) (by unfold wok at a1; omega) (by omega) (by omega)
  refine ⟨c1, ?_⟩
  rw [c2, a2, z_1, Int.mul_one]
theorem fl_eq {v N D : Int} (hD : 1 ≤ D) : v / D * N + v % D * N / D = v * N / D := by
  have h2 := Int.emod_add_mul_ediv v D
  have h3 : v * N = v % D * N + D * (v / D * N) := by
    calc v * N = (v % D + D * (v / D)) * N := by rw [h2]
      _ = v % D * N + D * (v / D * N) := by rw [Int.add_mul, Int.mul_assoc]
  rw [h3, Int.add_mul_ediv_left _ _ (by omega), Int.add_comm]
theorem z_i (x : Int32) : x.toInt64.toInt = x.toInt := Int32.toInt_toInt64 x
theorem i_rng (x : Int32) : -2147483648 ≤ x.toInt ∧ x.toInt ≤ 2147483647 := by
  have h1 := Int32.le_toInt x
  have h2 := Int32.toInt_lt x
  omega
theorem z_negi (x : Int32) : (-x.toInt64).toInt = -x.toInt := by
  have := i_rng x
  rw [z_neg (by rw [z_i]; omega), z_i]
theorem fd_pos {z u d : Int} (hd : 0 < d) : Int.fdiv (z * u) d = z * u / d := Int.fdiv_eq_ediv_of_nonneg _ (by omega)
theorem fd_neg {z u d : Int} (hd : d < 0) : Int.fdiv (z * u) d = z * (-u) / (-d) := by
  rw [← Int.neg_fdiv_neg, Int.fdiv_eq_ediv_of_nonneg _ (by omega), Int.mul_neg]
theorem times_no {σ : Sy} {i : Nat} {s : Sc} {up dn : Int32} {k : Nat} {u : Int64} (ei : scAt σ (nI i) = some (some s)) (h60 : ¬ σ.sc.length = 60) (hd : ¬ dn = 0) (hu : s.2.2[k]? = some u) (hz : ¬ zfit (Int.fdiv (u.toInt * up.toInt) dn.toInt)) : o_times σ (nI i) up dn = (-16, σ) := by
  unfold o_times
  rw [ei]
  simp only
  rw [if_neg h60, if_neg hd]
  unfold zlist
  rw [if_neg]
  intro q
  refine hz (q _ (List.mem_map.mpr ⟨u, List.mem_of_getElem? hu, rfl⟩))
theorem times_ok {σ : Sy} {i : Nat} {s : Sc} {up dn : Int32} (ei : scAt σ (nI i) = some (some s)) (h60 : ¬ σ.sc.length = 60) (hd : ¬ dn = 0) (hz : ∀ (k : Nat) (u : Int64), s.2.2[k]? = some u → zfit (Int.fdiv (u.toInt * up.toInt) dn.toInt)) : o_times σ (nI i) up dn = (nI σ.sc.length, σ.add (some (s.1, s.2.1, s.2.2.map (fun v => Int64.ofInt (Int.fdiv (v.toInt * up.toInt) dn.toInt))))) := by
  unfold o_times
  rw [ei]
  simp only
  rw [if_neg h60, if_neg hd]
  unfold zlist
  rw [if_pos]
  · simp only [List.map_map]
    rfl
  · intro z hz2
    obtain ⟨u, hu, rfl⟩ := List.mem_map.mp hz2
    obtain ⟨k, hk⟩ := List.getElem?_of_mem hu
    exact hz k u hk
set_option maxHeartbeats 4000000 in
theorem m_times {l : Launch} {G : gG} {a : Nat} {I : Nat → Int32} {J : Nat → Int64} {P : Nat → Nat → Int32} {Q : Nat → Nat → Int64} {M0 : gM} {σ : Sy} (hw : Sw σ) (hr : RM σ I P Q) {x up dn : Int32} : gMet l yX4_times (gWs yX4_times cX4_times 19 (some .int) []) ({ frames := 2, cells := 0, slots := 0, locals := 46 } : Room) G [.ref a, .int x, .int up, .int dn] (mkM G a I J P Q M0) (RMp G a M0 (o_times σ x up dn)) := by
  refine gMet.intro (by decide) (Nat.le_of_ble_eq_true rfl) (fun C hl hC hN => ?_)
  subst hl
  replace hC : Ck G C [] cX4_times RX4 19 (some .int) ({ frames := 2, cells := 0, slots := 0, locals := 46 } : Room) (RMp G a M0 (o_times σ x up dn)) := hC
  refine V.loc [some (.ref a), some (.int x), some (.int up), some (.int dn)] ⟨rfl, rfl, rfl, rfl, trivial⟩ ?_
  refine V_aload_n hC dX4_times_0 rfl ?_
  refine V_iload_n hC dX4_times_1 rfl ?_
  refine mc1v hC (m_isNumber hr.1 (by have := hw.1; omega)) rfl mw_isNumber ⟨⟨(Nat.le_of_ble_eq_true rfl), (Nat.le_of_ble_eq_true rfl)⟩, rfl, rfl⟩ ⟨(Nat.le_of_ble_eq_true rfl), (Nat.le_of_ble_eq_true rfl)⟩ (Nat.le_of_ble_eq_true rfl) dX4_times_2 ?_
  refine V_ifb_ne (tgt := 11) hC dX4_times_5 (by decide) (fun c5 => ?_) (fun c5 => ?_)
  · obtain ⟨i, hi, rfl⟩ := gIx_of c5 (by have := hw.1; omega)
    have hb := hw.1
    have ei := scAt_nI hi hb
    refine V_aload_n hC dX4_times_11 rfl ?_
    refine mg_scores hC dX4_times_12 ?_
    refine V_bipush (v := 60) hC dX4_times_15 (by decide) ?_
    rw [hr.1]
    refine V_icmp_ne (tgt := 23) hC dX4_times_17 (by decide) (fun c17 => ?_) (fun c17 => ?_)
    · refine V_aload_n hC dX4_times_23 rfl ?_
      refine V_iload_n hC dX4_times_24 rfl ?_
      refine mc1v hC (m_isNothing (j := i) (by omega)) rfl mw_isNothing ⟨⟨(Nat.le_of_ble_eq_true rfl), (Nat.le_of_ble_eq_true rfl)⟩, rfl, rfl⟩ ⟨(Nat.le_of_ble_eq_true rfl), (Nat.le_of_ble_eq_true rfl)⟩ (Nat.le_of_ble_eq_true rfl) dX4_times_25 ?_
      refine V_ifb_eq (tgt := 34) hC dX4_times_28 (by decide) (fun c28 => ?_) (fun c28 => ?_)
      · obtain ⟨s, hs1, hs2⟩ := hr.yes hw hi c28
        obtain ⟨p1, p2, p3, p4⟩ := hr.2.2.1 i s hs2
        have hl := hw.len hs2
        have hn60 : σ.sc.length < 60 := by
          have : ¬ σ.sc.length = 60 := fun q => c17 ((n60 hw).mpr q)
          omega
        refine V_iload_n hC dX4_times_34 rfl ?_
        refine V_if_ne (tgt := 41) hC dX4_times_35 (by decide) (fun c35 => ?_) (fun c35 => ?_)
        · have key : ∀ (N D : Int64), -2147483648 ≤ N.toInt → N.toInt ≤ 2147483648 → 1 ≤ D.toInt → D.toInt ≤ 2147483648 → (∀ z : Int, Int.fdiv (z * up.toInt) dn.toInt = z * N.toInt / D.toInt) → V G C (mkM G a I J P Q M0) 0 0 69 (gl [some (.ref a), some (.int (nI i)), some (.int up), some (.int dn), some (.long N), none, some (.long D), none]) [] := by
            intro N D hN1 hN2 hD1 hD2 hND
            have hD0 : ¬ D = 0 := fun q => by rw [q] at hD1; exact absurd hD1 (by decide)
            refine V_aload_n hC dX4_times_69 rfl ?_
            refine V_aload_n hC dX4_times_70 rfl ?_
            refine mg_shapes hC dX4_times_71 ?_
            refine V_iload_n hC dX4_times_74 rfl ?_
            refine ml_shapes hC i rfl (by omega) dX4_times_75 ?_
            refine V_aload_n hC dX4_times_76 rfl ?_
            refine mg_hards hC dX4_times_77 ?_
            refine V_iload_n hC dX4_times_80 rfl ?_
            refine ml_hards hC i rfl (by omega) dX4_times_81 ?_
            refine V_aload_n hC dX4_times_82 rfl ?_
            refine mg_sizes hC dX4_times_83 ?_
            refine V_iload_n hC dX4_times_86 rfl ?_
            refine ml_sizes hC i rfl (by omega) dX4_times_87 ?_
            refine mc3n hC (m_lay hr.1 (by omega)) rfl mw_lay ⟨⟨(Nat.le_of_ble_eq_true rfl), (Nat.le_of_ble_eq_true rfl)⟩, rfl, rfl⟩ ⟨(Nat.le_of_ble_eq_true rfl), (Nat.le_of_ble_eq_true rfl)⟩ (Nat.le_of_ble_eq_true rfl) dX4_times_88 ?_
            have loop : ∀ (fuel : Nat) (k : Nat) (K : Nat → Int64), s.2.2.length < k + fuel → k ≤ s.2.2.length → (∀ (z : Nat) (u : Int64), z < k → s.2.2[z]? = some u → zfit (Int.fdiv (u.toInt * up.toInt) dn.toInt)) → V G C (mkM G a I K (layP P σ.sc.length (P 0 i) (P 1 i) (P 2 i)) (va_up (layQ Q σ.sc.length) 0 (gCpy (layQ Q σ.sc.length 0) (12 * σ.sc.length) (fun z => Int64.ofInt (Int.fdiv ((Q 0 (12 * i + z)).toInt * up.toInt) dn.toInt)) 0 k)) M0) 0 0 94 (gl [some (.ref a), some (.int (nI i)), some (.int up), some (.int dn), some (.long N), none, some (.long D), none, some (.int (nI k))]) [] := by
              intro fuel
              induction fuel with
              | zero => intros; omega
              | succ fuel ih =>
                intro k K h1 h2 h5
                refine V_iload hC dX4_times_94 rfl ?_
                refine V_aload_n hC dX4_times_96 rfl ?_
                refine mg_sizes hC dX4_times_97 ?_
                refine V_iload_n hC dX4_times_100 rfl ?_
                refine ml_sizes hC i rfl (by omega) dX4_times_101 ?_
                refine V_seti (y := nI s.2.2.length) (by rw [layP_lt (by decide) hi, p3]) ?_
                refine V_icmp_ge (tgt := 237) hC dX4_times_102 (by decide) (fun c102 => ?_) (fun c102 => ?_)
                · refine V_aload_n hC dX4_times_237 rfl ?_
                  refine mc0v hC m_keepScore rfl mw_keepScore ⟨⟨(Nat.le_of_ble_eq_true rfl), (Nat.le_of_ble_eq_true rfl)⟩, rfl, rfl⟩ ⟨(Nat.le_of_ble_eq_true rfl), (Nat.le_of_ble_eq_true rfl)⟩ (Nat.le_of_ble_eq_true rfl) dX4_times_238 ?_
                  exact V_iret hC dX4_times_241 (Nat.le_of_ble_eq_true rfl) (Nat.le_of_ble_eq_true rfl) (by
                        have hk : k = s.2.2.length := Nat.le_antisymm h2 (Nat.le_of_not_lt fun q => nI_ge q (by omega) c102)
                        subst hk
                        rw [show I 0 + 1 - 1 = nI σ.sc.length by rw [hr.1, g_pm]]
                        refine RMp_i (times_ok hs1 (by omega) c35 (fun k u hu => h5 k u (List.getElem?_eq_some_iff.mp hu).1 hu)) ?_
                        refine hr.laidL hw p1 p2 (by rw [p3, List.length_map]) (fun z hz => ?_) ⟨rfl, rfl⟩ (fun z v hv => ?_)
                        · rw [va_up_self, gCpy_out _ (by omega), layQ_lt hz]
                        · have hz : z < s.2.2.length := by
                            have := (List.getElem?_eq_some_iff.mp hv).1
                            rwa [List.length_map] at this
                          have e1 := List.getElem?_eq_getElem hz
                          rw [va_up_self, gCpy_in _ hz, Nat.zero_add]
                          rw [List.getElem?_map, e1] at hv
                          simp only [p4 z _ e1]
                          exact Option.some.inj hv)
                · have h4 : k < s.2.2.length := Nat.lt_of_not_le fun q => c102 (nI_le q (by omega))
                  refine V_aload_n hC dX4_times_105 rfl ?_
                  refine mg_levels hC dX4_times_106 ?_
                  refine V_bipush (v := 12) hC dX4_times_109 (by decide) ?_
                  refine V_iload_n hC dX4_times_111 rfl ?_
                  refine V_imul hC dX4_times_112 ?_
                  refine V_iload hC dX4_times_113 rfl ?_
                  refine V_iadd hC dX4_times_115 ?_
                  refine ml_levels hC (12 * i + k) (g12 i k) (by omega) dX4_times_116 ?_
                  refine V_setl (y := Q 0 (12 * i + k)) (by rw [va_up_self, gCpy_out _ (by omega), layQ_lt (by omega)]) ?_
                  refine V_lstore hC dX4_times_117 (Nat.le_of_ble_eq_true rfl) ?_
                  refine V_lload hC dX4_times_119 rfl ?_
                  refine V_lload hC dX4_times_121 rfl ?_
                  refine V_lrem hC dX4_times_123 hD0 ?_
                  refine V_lstore hC dX4_times_124 (Nat.le_of_ble_eq_true rfl) ?_
                  refine V_lload hC dX4_times_126 rfl ?_
                  refine V_lload hC dX4_times_128 rfl ?_
                  refine V_ldiv hC dX4_times_130 hD0 ?_
                  refine V_lstore hC dX4_times_131 (Nat.le_of_ble_eq_true rfl) ?_
                  refine V_lload hC dX4_times_133 rfl ?_
                  refine V_lconst (v := 0) hC dX4_times_135 (by decide) ?_
                  refine V_lc_ge (tgt := 153) hC dX4_times_136 rfl dX4_times_137 (by decide) (fun c137 => ?_) (fun c137 => ?_)
                  · refine V_lload hC dX4_times_153 rfl ?_
                    refine V_lload hC dX4_times_155 rfl ?_
                    refine V_lmul hC dX4_times_157 ?_
                    refine V_lstore hC dX4_times_158 (Nat.le_of_ble_eq_true rfl) ?_
                    refine V_lload hC dX4_times_160 rfl ?_
                    refine V_lload hC dX4_times_162 rfl ?_
                    refine V_ldiv hC dX4_times_164 hD0 ?_
                    refine V_lstore hC dX4_times_165 (Nat.le_of_ble_eq_true rfl) ?_
                    refine V_lload hC dX4_times_167 rfl ?_
                    refine V_lload hC dX4_times_169 rfl ?_
                    refine V_lrem hC dX4_times_171 hD0 ?_
                    refine V_lconst (v := 0) hC dX4_times_172 (by decide) ?_
                    refine V_lc_ge (tgt := 183) hC dX4_times_173 rfl dX4_times_174 (by decide) (fun c174 => ?_) (fun c174 => ?_)
                    · obtain ⟨hq, hr0⟩ := tq_t hD1 c137
                      have hr1 : 0 ≤ (Q 0 (12 * i + k) - Q 0 (12 * i + k) / D * D).toInt := by rw [hr0]; exact Int.emod_nonneg _ (by omega)
                      have hr2 : (Q 0 (12 * i + k) - Q 0 (12 * i + k) / D * D).toInt < D.toInt := by rw [hr0]; exact Int.emod_lt_of_pos _ (by omega)
                      have hpt : ((Q 0 (12 * i + k) - Q 0 (12 * i + k) / D * D) * N).toInt = (Q 0 (12 * i + k) - Q 0 (12 * i + k) / D * D).toInt * N.toInt := by
                        obtain ⟨g1, g2⟩ := z_pd (a := (Q 0 (12 * i + k) - Q 0 (12 * i + k) / D * D).toInt) (b := N.toInt) (A := 2147483648) (c := 2147483648) (by omega) (by omega) (by decide) hN1 hN2 (by decide)
                        exact z_mul (by omega) (by omega)
                      have ho := (tq_t hD1 c174).1
                      have hW := wadT (Q 0 (12 * i + k) / D) (((Q 0 (12 * i + k) - Q 0 (12 * i + k) / D * D) * N) / D) N hN1 hN2
                      rw [hq, ho, hpt, hr0, fl_eq hD1, ← hND] at hW
                      refine V_aload_n hC dX4_times_183 rfl ?_
                      refine mc0n hC m_zero rfl mw_zero ⟨⟨(Nat.le_of_ble_eq_true rfl), (Nat.le_of_ble_eq_true rfl)⟩, rfl, rfl⟩ ⟨(Nat.le_of_ble_eq_true rfl), (Nat.le_of_ble_eq_true rfl)⟩ (Nat.le_of_ble_eq_true rfl) dX4_times_184 ?_
                      refine V_aload_n hC dX4_times_187 rfl ?_
                      refine V_lload hC dX4_times_188 rfl ?_
                      refine V_lload hC dX4_times_190 rfl ?_
                      refine mc2n hC m_add rfl mw_add ⟨⟨(Nat.le_of_ble_eq_true rfl), (Nat.le_of_ble_eq_true rfl)⟩, rfl, rfl⟩ ⟨(Nat.le_of_ble_eq_true rfl), (Nat.le_of_ble_eq_true rfl)⟩ (Nat.le_of_ble_eq_true rfl) dX4_times_192 ?_
                      refine V_aload_n hC dX4_times_195 rfl ?_
                      refine V_lload hC dX4_times_196 rfl ?_
                      refine V_lconst (v := 1) hC dX4_times_198 (by decide) ?_
                      refine mc2n hC m_add rfl mw_add ⟨⟨(Nat.le_of_ble_eq_true rfl), (Nat.le_of_ble_eq_true rfl)⟩, rfl, rfl⟩ ⟨(Nat.le_of_ble_eq_true rfl), (Nat.le_of_ble_eq_true rfl)⟩ (Nat.le_of_ble_eq_true rfl) dX4_times_199 ?_
                      refine V_aload_n hC dX4_times_202 rfl ?_
                      refine mc0v hC m_fits rfl mw_fits ⟨⟨(Nat.le_of_ble_eq_true rfl), (Nat.le_of_ble_eq_true rfl)⟩, rfl, rfl⟩ ⟨(Nat.le_of_ble_eq_true rfl), (Nat.le_of_ble_eq_true rfl)⟩ (Nat.le_of_ble_eq_true rfl) dX4_times_203 ?_
                      refine V_ifb_ne (tgt := 212) hC dX4_times_206 (by decide) (fun c206 => ?_) (fun c206 => ?_)
                      · have hfit := (wfit hW.1).mp c206
                        refine V_aload_n hC dX4_times_212 rfl ?_
                        refine mg_levels hC dX4_times_213 ?_
                        refine V_bipush (v := 12) hC dX4_times_216 (by decide) ?_
                        refine V_aload_n hC dX4_times_218 rfl ?_
                        refine mg_scores hC dX4_times_219 ?_
                        rw [hr.1]
                        refine V_imul hC dX4_times_222 ?_
                        refine V_iload hC dX4_times_223 rfl ?_
                        refine V_iadd hC dX4_times_225 ?_
                        refine V_aload_n hC dX4_times_226 rfl ?_
                        refine mc0v hC m_number rfl mw_number ⟨⟨(Nat.le_of_ble_eq_true rfl), (Nat.le_of_ble_eq_true rfl)⟩, rfl, rfl⟩ ⟨(Nat.le_of_ble_eq_true rfl), (Nat.le_of_ble_eq_true rfl)⟩ (Nat.le_of_ble_eq_true rfl) dX4_times_227 ?_
                        refine ms_levels hC (12 * σ.sc.length + k) (g12 _ k) (by omega) dX4_times_230 ?_
                        refine V_iinc (v := nI (k + 1)) hC dX4_times_231 rfl (gI_inc k) (Nat.le_of_ble_eq_true rfl) ?_
                        refine V_goto (tgt := 94) hC dX4_times_234 (by decide) ?_
                        refine V.eqM (mkM_Q ?_) (V.loc [some (.ref a), some (.int (nI i)), some (.int up), some (.int dn), some (.long N), none, some (.long D), none, some (.int (nI (k + 1)))] ⟨rfl, rfl, rfl, rfl, rfl, rfl, rfl, trivial⟩ (ih (k + 1) _ (by omega) (by omega) (fun z u hz9 hu => ?_)))
                        · refine (gUU _ 0 _ _).trans (congrArg (va_up (layQ Q σ.sc.length) 0) ((congrArg (va_up _ (12 * σ.sc.length + k)) ((show _ = Int64.ofInt (Int.fdiv ((Q 0 (12 * i + k)).toInt * up.toInt) dn.toInt) from (wnum hfit).trans (congrArg Int64.ofInt hW.2)).trans (by rw [Nat.zero_add]))).trans (gCpy_s _ _ (fun z => Int64.ofInt (Int.fdiv ((Q 0 (12 * i + z)).toInt * up.toInt) dn.toInt)) 0 k)))
                        · rcases (show z < k ∨ z = k by omega) with q | q
                          · exact h5 z u q hu
                          · subst q
                            rw [← p4 z u hu, ← hW.2]
                            exact hfit
                      · refine V_bipush (v := (-16)) hC dX4_times_209 (by decide) ?_
                        exact V_iret hC dX4_times_211 (Nat.le_of_ble_eq_true rfl) (Nat.le_of_ble_eq_true rfl) (by
                              have hno : ¬ zfit (Int.fdiv ((Q 0 (12 * i + k)).toInt * up.toInt) dn.toInt) := fun q => by
                                have e : gIn _ (-2147483648) 2147483647 = true := (wfit hW.1).mpr (by rw [hW.2]; exact q)
                                exact absurd (c206.symm.trans e) (by decide)
                              have e1 := List.getElem?_eq_getElem h4
                              rw [p4 k _ e1] at hno
                              have e2 := times_no hs1 (by omega) c35 e1 hno
                              refine ⟨by rw [e2], I, _, _, _, rfl, ?_⟩
                              rw [e2]
                              exact hr.junk (fun j i hj hi => layP_lt hj hi) (fun j h1 _ => layP_gt h1) (fun z hz => by rw [va_up_self, gCpy_out _ (by omega), layQ_lt hz]) ⟨rfl, rfl⟩ hw)
                    · refine V_lload hC dX4_times_177 rfl ?_
                      refine V_lconst (v := 1) hC dX4_times_179 (by decide) ?_
                      refine V_lsub hC dX4_times_180 ?_
                      refine V_lstore hC dX4_times_181 (Nat.le_of_ble_eq_true rfl) ?_
                      obtain ⟨hq, hr0⟩ := tq_t hD1 c137
                      have hr1 : 0 ≤ (Q 0 (12 * i + k) - Q 0 (12 * i + k) / D * D).toInt := by rw [hr0]; exact Int.emod_nonneg _ (by omega)
                      have hr2 : (Q 0 (12 * i + k) - Q 0 (12 * i + k) / D * D).toInt < D.toInt := by rw [hr0]; exact Int.emod_lt_of_pos _ (by omega)
                      have hpt : ((Q 0 (12 * i + k) - Q 0 (12 * i + k) / D * D) * N).toInt = (Q 0 (12 * i + k) - Q 0 (12 * i + k) / D * D).toInt * N.toInt := by
                        obtain ⟨g1, g2⟩ := z_pd (a := (Q 0 (12 * i + k) - Q 0 (12 * i + k) / D * D).toInt) (b := N.toInt) (A := 2147483648) (c := 2147483648) (by omega) (by omega) (by decide) hN1 hN2 (by decide)
                        exact z_mul (by omega) (by omega)
                      have ho := (tq_f hD1 hD2 c174).1
                      have hW := wadT (Q 0 (12 * i + k) / D) (((Q 0 (12 * i + k) - Q 0 (12 * i + k) / D * D) * N) / D - 1) N hN1 hN2
                      rw [hq, ho, hpt, hr0, fl_eq hD1, ← hND] at hW
                      refine V_aload_n hC dX4_times_183 rfl ?_
                      refine mc0n hC m_zero rfl mw_zero ⟨⟨(Nat.le_of_ble_eq_true rfl), (Nat.le_of_ble_eq_true rfl)⟩, rfl, rfl⟩ ⟨(Nat.le_of_ble_eq_true rfl), (Nat.le_of_ble_eq_true rfl)⟩ (Nat.le_of_ble_eq_true rfl) dX4_times_184 ?_
                      refine V_aload_n hC dX4_times_187 rfl ?_
                      refine V_lload hC dX4_times_188 rfl ?_
                      refine V_lload hC dX4_times_190 rfl ?_
                      refine mc2n hC m_add rfl mw_add ⟨⟨(Nat.le_of_ble_eq_true rfl), (Nat.le_of_ble_eq_true rfl)⟩, rfl, rfl⟩ ⟨(Nat.le_of_ble_eq_true rfl), (Nat.le_of_ble_eq_true rfl)⟩ (Nat.le_of_ble_eq_true rfl) dX4_times_192 ?_
                      refine V_aload_n hC dX4_times_195 rfl ?_
                      refine V_lload hC dX4_times_196 rfl ?_
                      refine V_lconst (v := 1) hC dX4_times_198 (by decide) ?_
                      refine mc2n hC m_add rfl mw_add ⟨⟨(Nat.le_of_ble_eq_true rfl), (Nat.le_of_ble_eq_true rfl)⟩, rfl, rfl⟩ ⟨(Nat.le_of_ble_eq_true rfl), (Nat.le_of_ble_eq_true rfl)⟩ (Nat.le_of_ble_eq_true rfl) dX4_times_199 ?_
                      refine V_aload_n hC dX4_times_202 rfl ?_
                      refine mc0v hC m_fits rfl mw_fits ⟨⟨(Nat.le_of_ble_eq_true rfl), (Nat.le_of_ble_eq_true rfl)⟩, rfl, rfl⟩ ⟨(Nat.le_of_ble_eq_true rfl), (Nat.le_of_ble_eq_true rfl)⟩ (Nat.le_of_ble_eq_true rfl) dX4_times_203 ?_
                      refine V_ifb_ne (tgt := 212) hC dX4_times_206 (by decide) (fun c206 => ?_) (fun c206 => ?_)
                      · have hfit := (wfit hW.1).mp c206
                        refine V_aload_n hC dX4_times_212 rfl ?_
                        refine mg_levels hC dX4_times_213 ?_
                        refine V_bipush (v := 12) hC dX4_times_216 (by decide) ?_
                        refine V_aload_n hC dX4_times_218 rfl ?_
                        refine mg_scores hC dX4_times_219 ?_
                        rw [hr.1]
                        refine V_imul hC dX4_times_222 ?_
                        refine V_iload hC dX4_times_223 rfl ?_
                        refine V_iadd hC dX4_times_225 ?_
                        refine V_aload_n hC dX4_times_226 rfl ?_
                        refine mc0v hC m_number rfl mw_number ⟨⟨(Nat.le_of_ble_eq_true rfl), (Nat.le_of_ble_eq_true rfl)⟩, rfl, rfl⟩ ⟨(Nat.le_of_ble_eq_true rfl), (Nat.le_of_ble_eq_true rfl)⟩ (Nat.le_of_ble_eq_true rfl) dX4_times_227 ?_
                        refine ms_levels hC (12 * σ.sc.length + k) (g12 _ k) (by omega) dX4_times_230 ?_
                        refine V_iinc (v := nI (k + 1)) hC dX4_times_231 rfl (gI_inc k) (Nat.le_of_ble_eq_true rfl) ?_
                        refine V_goto (tgt := 94) hC dX4_times_234 (by decide) ?_
                        refine V.eqM (mkM_Q ?_) (V.loc [some (.ref a), some (.int (nI i)), some (.int up), some (.int dn), some (.long N), none, some (.long D), none, some (.int (nI (k + 1)))] ⟨rfl, rfl, rfl, rfl, rfl, rfl, rfl, trivial⟩ (ih (k + 1) _ (by omega) (by omega) (fun z u hz9 hu => ?_)))
                        · refine (gUU _ 0 _ _).trans (congrArg (va_up (layQ Q σ.sc.length) 0) ((congrArg (va_up _ (12 * σ.sc.length + k)) ((show _ = Int64.ofInt (Int.fdiv ((Q 0 (12 * i + k)).toInt * up.toInt) dn.toInt) from (wnum hfit).trans (congrArg Int64.ofInt hW.2)).trans (by rw [Nat.zero_add]))).trans (gCpy_s _ _ (fun z => Int64.ofInt (Int.fdiv ((Q 0 (12 * i + z)).toInt * up.toInt) dn.toInt)) 0 k)))
                        · rcases (show z < k ∨ z = k by omega) with q | q
                          · exact h5 z u q hu
                          · subst q
                            rw [← p4 z u hu, ← hW.2]
                            exact hfit
                      · refine V_bipush (v := (-16)) hC dX4_times_209 (by decide) ?_
                        exact V_iret hC dX4_times_211 (Nat.le_of_ble_eq_true rfl) (Nat.le_of_ble_eq_true rfl) (by
                              have hno : ¬ zfit (Int.fdiv ((Q 0 (12 * i + k)).toInt * up.toInt) dn.toInt) := fun q => by
                                have e : gIn _ (-2147483648) 2147483647 = true := (wfit hW.1).mpr (by rw [hW.2]; exact q)
                                exact absurd (c206.symm.trans e) (by decide)
                              have e1 := List.getElem?_eq_getElem h4
                              rw [p4 k _ e1] at hno
                              have e2 := times_no hs1 (by omega) c35 e1 hno
                              refine ⟨by rw [e2], I, _, _, _, rfl, ?_⟩
                              rw [e2]
                              exact hr.junk (fun j i hj hi => layP_lt hj hi) (fun j h1 _ => layP_gt h1) (fun z hz => by rw [va_up_self, gCpy_out _ (by omega), layQ_lt hz]) ⟨rfl, rfl⟩ hw)
                  · refine V_lload hC dX4_times_140 rfl ?_
                    refine V_lload hC dX4_times_142 rfl ?_
                    refine V_ladd hC dX4_times_144 ?_
                    refine V_lstore hC dX4_times_145 (Nat.le_of_ble_eq_true rfl) ?_
                    refine V_lload hC dX4_times_147 rfl ?_
                    refine V_lconst (v := 1) hC dX4_times_149 (by decide) ?_
                    refine V_lsub hC dX4_times_150 ?_
                    refine V_lstore hC dX4_times_151 (Nat.le_of_ble_eq_true rfl) ?_
                    refine V_lload hC dX4_times_153 rfl ?_
                    refine V_lload hC dX4_times_155 rfl ?_
                    refine V_lmul hC dX4_times_157 ?_
                    refine V_lstore hC dX4_times_158 (Nat.le_of_ble_eq_true rfl) ?_
                    refine V_lload hC dX4_times_160 rfl ?_
                    refine V_lload hC dX4_times_162 rfl ?_
                    refine V_ldiv hC dX4_times_164 hD0 ?_
                    refine V_lstore hC dX4_times_165 (Nat.le_of_ble_eq_true rfl) ?_
                    refine V_lload hC dX4_times_167 rfl ?_
                    refine V_lload hC dX4_times_169 rfl ?_
                    refine V_lrem hC dX4_times_171 hD0 ?_
                    refine V_lconst (v := 0) hC dX4_times_172 (by decide) ?_
                    refine V_lc_ge (tgt := 183) hC dX4_times_173 rfl dX4_times_174 (by decide) (fun c174 => ?_) (fun c174 => ?_)
                    · obtain ⟨hq, hr0⟩ := tq_f hD1 hD2 c137
                      have hr1 : 0 ≤ (Q 0 (12 * i + k) - Q 0 (12 * i + k) / D * D + D).toInt := by rw [hr0]; exact Int.emod_nonneg _ (by omega)
                      have hr2 : (Q 0 (12 * i + k) - Q 0 (12 * i + k) / D * D + D).toInt < D.toInt := by rw [hr0]; exact Int.emod_lt_of_pos _ (by omega)
                      have hpt : ((Q 0 (12 * i + k) - Q 0 (12 * i + k) / D * D + D) * N).toInt = (Q 0 (12 * i + k) - Q 0 (12 * i + k) / D * D + D).toInt * N.toInt := by
                        obtain ⟨g1, g2⟩ := z_pd (a := (Q 0 (12 * i + k) - Q 0 (12 * i + k) / D * D + D).toInt) (b := N.toInt) (A := 2147483648) (c := 2147483648) (by omega) (by omega) (by decide) hN1 hN2 (by decide)
                        exact z_mul (by omega) (by omega)
                      have ho := (tq_t hD1 c174).1
                      have hW := wadT (Q 0 (12 * i + k) / D - 1) (((Q 0 (12 * i + k) - Q 0 (12 * i + k) / D * D + D) * N) / D) N hN1 hN2
                      rw [hq, ho, hpt, hr0, fl_eq hD1, ← hND] at hW
                      refine V_aload_n hC dX4_times_183 rfl ?_
                      refine mc0n hC m_zero rfl mw_zero ⟨⟨(Nat.le_of_ble_eq_true rfl), (Nat.le_of_ble_eq_true rfl)⟩, rfl, rfl⟩ ⟨(Nat.le_of_ble_eq_true rfl), (Nat.le_of_ble_eq_true rfl)⟩ (Nat.le_of_ble_eq_true rfl) dX4_times_184 ?_
                      refine V_aload_n hC dX4_times_187 rfl ?_
                      refine V_lload hC dX4_times_188 rfl ?_
                      refine V_lload hC dX4_times_190 rfl ?_
                      refine mc2n hC m_add rfl mw_add ⟨⟨(Nat.le_of_ble_eq_true rfl), (Nat.le_of_ble_eq_true rfl)⟩, rfl, rfl⟩ ⟨(Nat.le_of_ble_eq_true rfl), (Nat.le_of_ble_eq_true rfl)⟩ (Nat.le_of_ble_eq_true rfl) dX4_times_192 ?_
                      refine V_aload_n hC dX4_times_195 rfl ?_
                      refine V_lload hC dX4_times_196 rfl ?_
                      refine V_lconst (v := 1) hC dX4_times_198 (by decide) ?_
                      refine mc2n hC m_add rfl mw_add ⟨⟨(Nat.le_of_ble_eq_true rfl), (Nat.le_of_ble_eq_true rfl)⟩, rfl, rfl⟩ ⟨(Nat.le_of_ble_eq_true rfl), (Nat.le_of_ble_eq_true rfl)⟩ (Nat.le_of_ble_eq_true rfl) dX4_times_199 ?_
                      refine V_aload_n hC dX4_times_202 rfl ?_
                      refine mc0v hC m_fits rfl mw_fits ⟨⟨(Nat.le_of_ble_eq_true rfl), (Nat.le_of_ble_eq_true rfl)⟩, rfl, rfl⟩ ⟨(Nat.le_of_ble_eq_true rfl), (Nat.le_of_ble_eq_true rfl)⟩ (Nat.le_of_ble_eq_true rfl) dX4_times_203 ?_
                      refine V_ifb_ne (tgt := 212) hC dX4_times_206 (by decide) (fun c206 => ?_) (fun c206 => ?_)
                      · have hfit := (wfit hW.1).mp c206
                        refine V_aload_n hC dX4_times_212 rfl ?_
                        refine mg_levels hC dX4_times_213 ?_
                        refine V_bipush (v := 12) hC dX4_times_216 (by decide) ?_
                        refine V_aload_n hC dX4_times_218 rfl ?_
                        refine mg_scores hC dX4_times_219 ?_
                        rw [hr.1]
                        refine V_imul hC dX4_times_222 ?_
                        refine V_iload hC dX4_times_223 rfl ?_
                        refine V_iadd hC dX4_times_225 ?_
                        refine V_aload_n hC dX4_times_226 rfl ?_
                        refine mc0v hC m_number rfl mw_number ⟨⟨(Nat.le_of_ble_eq_true rfl), (Nat.le_of_ble_eq_true rfl)⟩, rfl, rfl⟩ ⟨(Nat.le_of_ble_eq_true rfl), (Nat.le_of_ble_eq_true rfl)⟩ (Nat.le_of_ble_eq_true rfl) dX4_times_227 ?_
                        refine ms_levels hC (12 * σ.sc.length + k) (g12 _ k) (by omega) dX4_times_230 ?_
                        refine V_iinc (v := nI (k + 1)) hC dX4_times_231 rfl (gI_inc k) (Nat.le_of_ble_eq_true rfl) ?_
                        refine V_goto (tgt := 94) hC dX4_times_234 (by decide) ?_
                        refine V.eqM (mkM_Q ?_) (V.loc [some (.ref a), some (.int (nI i)), some (.int up), some (.int dn), some (.long N), none, some (.long D), none, some (.int (nI (k + 1)))] ⟨rfl, rfl, rfl, rfl, rfl, rfl, rfl, trivial⟩ (ih (k + 1) _ (by omega) (by omega) (fun z u hz9 hu => ?_)))
                        · refine (gUU _ 0 _ _).trans (congrArg (va_up (layQ Q σ.sc.length) 0) ((congrArg (va_up _ (12 * σ.sc.length + k)) ((show _ = Int64.ofInt (Int.fdiv ((Q 0 (12 * i + k)).toInt * up.toInt) dn.toInt) from (wnum hfit).trans (congrArg Int64.ofInt hW.2)).trans (by rw [Nat.zero_add]))).trans (gCpy_s _ _ (fun z => Int64.ofInt (Int.fdiv ((Q 0 (12 * i + z)).toInt * up.toInt) dn.toInt)) 0 k)))
                        · rcases (show z < k ∨ z = k by omega) with q | q
                          · exact h5 z u q hu
                          · subst q
                            rw [← p4 z u hu, ← hW.2]
                            exact hfit
                      · refine V_bipush (v := (-16)) hC dX4_times_209 (by decide) ?_
                        exact V_iret hC dX4_times_211 (Nat.le_of_ble_eq_true rfl) (Nat.le_of_ble_eq_true rfl) (by
                              have hno : ¬ zfit (Int.fdiv ((Q 0 (12 * i + k)).toInt * up.toInt) dn.toInt) := fun q => by
                                have e : gIn _ (-2147483648) 2147483647 = true := (wfit hW.1).mpr (by rw [hW.2]; exact q)
                                exact absurd (c206.symm.trans e) (by decide)
                              have e1 := List.getElem?_eq_getElem h4
                              rw [p4 k _ e1] at hno
                              have e2 := times_no hs1 (by omega) c35 e1 hno
                              refine ⟨by rw [e2], I, _, _, _, rfl, ?_⟩
                              rw [e2]
                              exact hr.junk (fun j i hj hi => layP_lt hj hi) (fun j h1 _ => layP_gt h1) (fun z hz => by rw [va_up_self, gCpy_out _ (by omega), layQ_lt hz]) ⟨rfl, rfl⟩ hw)
                    · refine V_lload hC dX4_times_177 rfl ?_
                      refine V_lconst (v := 1) hC dX4_times_179 (by decide) ?_
                      refine V_lsub hC dX4_times_180 ?_
                      refine V_lstore hC dX4_times_181 (Nat.le_of_ble_eq_true rfl) ?_
                      obtain ⟨hq, hr0⟩ := tq_f hD1 hD2 c137
                      have hr1 : 0 ≤ (Q 0 (12 * i + k) - Q 0 (12 * i + k) / D * D + D).toInt := by rw [hr0]; exact Int.emod_nonneg _ (by omega)
                      have hr2 : (Q 0 (12 * i + k) - Q 0 (12 * i + k) / D * D + D).toInt < D.toInt := by rw [hr0]; exact Int.emod_lt_of_pos _ (by omega)
                      have hpt : ((Q 0 (12 * i + k) - Q 0 (12 * i + k) / D * D + D) * N).toInt = (Q 0 (12 * i + k) - Q 0 (12 * i + k) / D * D + D).toInt * N.toInt := by
                        obtain ⟨g1, g2⟩ := z_pd (a := (Q 0 (12 * i + k) - Q 0 (12 * i + k) / D * D + D).toInt) (b := N.toInt) (A := 2147483648) (c := 2147483648) (by omega) (by omega) (by decide) hN1 hN2 (by decide)
                        exact z_mul (by omega) (by omega)
                      have ho := (tq_f hD1 hD2 c174).1
                      have hW := wadT (Q 0 (12 * i + k) / D - 1) (((Q 0 (12 * i + k) - Q 0 (12 * i + k) / D * D + D) * N) / D - 1) N hN1 hN2
                      rw [hq, ho, hpt, hr0, fl_eq hD1, ← hND] at hW
                      refine V_aload_n hC dX4_times_183 rfl ?_
                      refine mc0n hC m_zero rfl mw_zero ⟨⟨(Nat.le_of_ble_eq_true rfl), (Nat.le_of_ble_eq_true rfl)⟩, rfl, rfl⟩ ⟨(Nat.le_of_ble_eq_true rfl), (Nat.le_of_ble_eq_true rfl)⟩ (Nat.le_of_ble_eq_true rfl) dX4_times_184 ?_
                      refine V_aload_n hC dX4_times_187 rfl ?_
                      refine V_lload hC dX4_times_188 rfl ?_
                      refine V_lload hC dX4_times_190 rfl ?_
                      refine mc2n hC m_add rfl mw_add ⟨⟨(Nat.le_of_ble_eq_true rfl), (Nat.le_of_ble_eq_true rfl)⟩, rfl, rfl⟩ ⟨(Nat.le_of_ble_eq_true rfl), (Nat.le_of_ble_eq_true rfl)⟩ (Nat.le_of_ble_eq_true rfl) dX4_times_192 ?_
                      refine V_aload_n hC dX4_times_195 rfl ?_
                      refine V_lload hC dX4_times_196 rfl ?_
                      refine V_lconst (v := 1) hC dX4_times_198 (by decide) ?_
                      refine mc2n hC m_add rfl mw_add ⟨⟨(Nat.le_of_ble_eq_true rfl), (Nat.le_of_ble_eq_true rfl)⟩, rfl, rfl⟩ ⟨(Nat.le_of_ble_eq_true rfl), (Nat.le_of_ble_eq_true rfl)⟩ (Nat.le_of_ble_eq_true rfl) dX4_times_199 ?_
                      refine V_aload_n hC dX4_times_202 rfl ?_
                      refine mc0v hC m_fits rfl mw_fits ⟨⟨(Nat.le_of_ble_eq_true rfl), (Nat.le_of_ble_eq_true rfl)⟩, rfl, rfl⟩ ⟨(Nat.le_of_ble_eq_true rfl), (Nat.le_of_ble_eq_true rfl)⟩ (Nat.le_of_ble_eq_true rfl) dX4_times_203 ?_
                      refine V_ifb_ne (tgt := 212) hC dX4_times_206 (by decide) (fun c206 => ?_) (fun c206 => ?_)
                      · have hfit := (wfit hW.1).mp c206
                        refine V_aload_n hC dX4_times_212 rfl ?_
                        refine mg_levels hC dX4_times_213 ?_
                        refine V_bipush (v := 12) hC dX4_times_216 (by decide) ?_
                        refine V_aload_n hC dX4_times_218 rfl ?_
                        refine mg_scores hC dX4_times_219 ?_
                        rw [hr.1]
                        refine V_imul hC dX4_times_222 ?_
                        refine V_iload hC dX4_times_223 rfl ?_
                        refine V_iadd hC dX4_times_225 ?_
                        refine V_aload_n hC dX4_times_226 rfl ?_
                        refine mc0v hC m_number rfl mw_number ⟨⟨(Nat.le_of_ble_eq_true rfl), (Nat.le_of_ble_eq_true rfl)⟩, rfl, rfl⟩ ⟨(Nat.le_of_ble_eq_true rfl), (Nat.le_of_ble_eq_true rfl)⟩ (Nat.le_of_ble_eq_true rfl) dX4_times_227 ?_
                        refine ms_levels hC (12 * σ.sc.length + k) (g12 _ k) (by omega) dX4_times_230 ?_
                        refine V_iinc (v := nI (k + 1)) hC dX4_times_231 rfl (gI_inc k) (Nat.le_of_ble_eq_true rfl) ?_
                        refine V_goto (tgt := 94) hC dX4_times_234 (by decide) ?_
                        refine V.eqM (mkM_Q ?_) (V.loc [some (.ref a), some (.int (nI i)), some (.int up), some (.int dn), some (.long N), none, some (.long D), none, some (.int (nI (k + 1)))] ⟨rfl, rfl, rfl, rfl, rfl, rfl, rfl, trivial⟩ (ih (k + 1) _ (by omega) (by omega) (fun z u hz9 hu => ?_)))
                        · refine (gUU _ 0 _ _).trans (congrArg (va_up (layQ Q σ.sc.length) 0) ((congrArg (va_up _ (12 * σ.sc.length + k)) ((show _ = Int64.ofInt (Int.fdiv ((Q 0 (12 * i + k)).toInt * up.toInt) dn.toInt) from (wnum hfit).trans (congrArg Int64.ofInt hW.2)).trans (by rw [Nat.zero_add]))).trans (gCpy_s _ _ (fun z => Int64.ofInt (Int.fdiv ((Q 0 (12 * i + z)).toInt * up.toInt) dn.toInt)) 0 k)))
                        · rcases (show z < k ∨ z = k by omega) with q | q
                          · exact h5 z u q hu
                          · subst q
                            rw [← p4 z u hu, ← hW.2]
                            exact hfit
                      · refine V_bipush (v := (-16)) hC dX4_times_209 (by decide) ?_
                        exact V_iret hC dX4_times_211 (Nat.le_of_ble_eq_true rfl) (Nat.le_of_ble_eq_true rfl) (by
                              have hno : ¬ zfit (Int.fdiv ((Q 0 (12 * i + k)).toInt * up.toInt) dn.toInt) := fun q => by
                                have e : gIn _ (-2147483648) 2147483647 = true := (wfit hW.1).mpr (by rw [hW.2]; exact q)
                                exact absurd (c206.symm.trans e) (by decide)
                              have e1 := List.getElem?_eq_getElem h4
                              rw [p4 k _ e1] at hno
                              have e2 := times_no hs1 (by omega) c35 e1 hno
                              refine ⟨by rw [e2], I, _, _, _, rfl, ?_⟩
                              rw [e2]
                              exact hr.junk (fun j i hj hi => layP_lt hj hi) (fun j h1 _ => layP_gt h1) (fun z hz => by rw [va_up_self, gCpy_out _ (by omega), layQ_lt hz]) ⟨rfl, rfl⟩ hw)
            refine V_iconst (v := 0) hC dX4_times_91 (by decide) ?_
            refine V_istore hC dX4_times_92 (Nat.le_of_ble_eq_true rfl) ?_
            refine V.eqM (mkM_Q (show layQ Q σ.sc.length = va_up (layQ Q σ.sc.length) 0 (gCpy (layQ Q σ.sc.length 0) (12 * σ.sc.length) (fun z => Int64.ofInt (Int.fdiv ((Q 0 (12 * i + z)).toInt * up.toInt) dn.toInt)) 0 0) by rw [gCpy_0, gup_self])) (V.loc [some (.ref a), some (.int (nI i)), some (.int up), some (.int dn), some (.long N), none, some (.long D), none, some (.int (nI 0))] ⟨rfl, rfl, rfl, rfl, rfl, rfl, rfl, trivial⟩ (loop (s.2.2.length + 1) 0 J (by omega) (by omega) (fun k u hk _ => absurd hk (Nat.not_lt_zero k))))
          refine V_iload_n hC dX4_times_41 rfl ?_
          refine V_if_ge (tgt := 51) hC dX4_times_42 (by decide) (fun c42 => ?_) (fun c42 => ?_)
          · refine V_iload_n hC dX4_times_51 rfl ?_
            refine V_i2l hC dX4_times_52 ?_
            refine V_lstore hC dX4_times_53 (Nat.le_of_ble_eq_true rfl) ?_
            refine V_iload_n hC dX4_times_55 rfl ?_
            refine V_if_ge (tgt := 65) hC dX4_times_56 (by decide) (fun c56 => ?_) (fun c56 => ?_)
            · refine V_iload_n hC dX4_times_65 rfl ?_
              refine V_i2l hC dX4_times_66 ?_
              refine V_lstore hC dX4_times_67 (Nat.le_of_ble_eq_true rfl) ?_
              have hdn : 0 < dn.toInt := by
                have h := c42
                rw [Int32.le_iff_toInt_le] at h
                have h0 : (0 : Int32).toInt = 0 := by decide
                have h1 : dn.toInt ≠ 0 := fun q => c35 (Int32.toInt_inj.mp (q.trans h0.symm))
                omega
              have u1 := i_rng up
              have d1 := i_rng dn
              exact V.loc [some (.ref a), some (.int (nI i)), some (.int up), some (.int dn), some (.long up.toInt64), none, some (.long dn.toInt64), none] ⟨rfl, rfl, rfl, rfl, rfl, rfl, trivial⟩ (key up.toInt64 dn.toInt64 (by rw [z_i]; omega) (by rw [z_i]; omega) (by rw [z_i]; omega) (by rw [z_i]; omega) (fun z => by rw [z_i, z_i]; exact fd_pos hdn))
            · refine V_iload_n hC dX4_times_59 rfl ?_
              refine V_i2l hC dX4_times_60 ?_
              refine V_lneg hC dX4_times_61 ?_
              refine V_goto (tgt := 67) hC dX4_times_62 (by decide) ?_
              refine V_lstore hC dX4_times_67 (Nat.le_of_ble_eq_true rfl) ?_
              exact absurd c42 c56
          · refine V_iload_n hC dX4_times_45 rfl ?_
            refine V_i2l hC dX4_times_46 ?_
            refine V_lneg hC dX4_times_47 ?_
            refine V_goto (tgt := 53) hC dX4_times_48 (by decide) ?_
            refine V_lstore hC dX4_times_53 (Nat.le_of_ble_eq_true rfl) ?_
            refine V_iload_n hC dX4_times_55 rfl ?_
            refine V_if_ge (tgt := 65) hC dX4_times_56 (by decide) (fun c56 => ?_) (fun c56 => ?_)
            · refine V_iload_n hC dX4_times_65 rfl ?_
              refine V_i2l hC dX4_times_66 ?_
              refine V_lstore hC dX4_times_67 (Nat.le_of_ble_eq_true rfl) ?_
              exact absurd c56 c42
            · refine V_iload_n hC dX4_times_59 rfl ?_
              refine V_i2l hC dX4_times_60 ?_
              refine V_lneg hC dX4_times_61 ?_
              refine V_goto (tgt := 67) hC dX4_times_62 (by decide) ?_
              refine V_lstore hC dX4_times_67 (Nat.le_of_ble_eq_true rfl) ?_
              have hdn : dn.toInt < 0 := by
                have h := c42
                rw [Int32.le_iff_toInt_le] at h
                have h0 : (0 : Int32).toInt = 0 := by decide
                omega
              have u1 := i_rng up
              have d1 := i_rng dn
              exact V.loc [some (.ref a), some (.int (nI i)), some (.int up), some (.int dn), some (.long (-up.toInt64)), none, some (.long (-dn.toInt64)), none] ⟨rfl, rfl, rfl, rfl, rfl, rfl, trivial⟩ (key (-up.toInt64) (-dn.toInt64) (by rw [z_negi]; omega) (by rw [z_negi]; omega) (by rw [z_negi]; omega) (by rw [z_negi]; omega) (fun z => by rw [z_negi, z_negi]; exact fd_neg hdn))
        · refine V_bipush (v := (-15)) hC dX4_times_38 (by decide) ?_
          exact V_iret hC dX4_times_40 (Nat.le_of_ble_eq_true rfl) (Nat.le_of_ble_eq_true rfl) (RMp_i (by unfold o_times; rw [hs1]; simp only; rw [if_neg (by omega), if_pos c35]) hr)
      · refine V_bipush (v := (-11)) hC dX4_times_31 (by decide) ?_
        exact V_iret hC dX4_times_33 (Nat.le_of_ble_eq_true rfl) (Nat.le_of_ble_eq_true rfl) (RMp_i (by unfold o_times; rw [hr.no hw hi c28]; simp only; rw [if_neg (fun q => c17 ((n60 hw).mpr q))]) hr)
    · refine V_bipush (v := (-4)) hC dX4_times_20 (by decide) ?_
      exact V_iret hC dX4_times_22 (Nat.le_of_ble_eq_true rfl) (Nat.le_of_ble_eq_true rfl) (RMp_i (by unfold o_times; rw [ei, List.getElem?_eq_getElem hi]; simp only; rw [if_pos ((n60 hw).mp c17)]) hr)
  · refine V_bipush (v := (-2)) hC dX4_times_8 (by decide) ?_
    exact V_iret hC dX4_times_10 (Nat.le_of_ble_eq_true rfl) (Nat.le_of_ble_eq_true rfl) (RMp_i (by unfold o_times; rw [scAt_no c5]) hr)
