/-! KindNetsModel: fits -/
set_option maxRecDepth 100000
section
variable {l : Launch} {w : KL} {h : Nat} {post : Int → KM → Prop}
theorem m_X4_fits (hh : 4 ≤ h) (hI : kInj w) (i : Int) (M : KM) (hN : kWF (kMnet M)) (hn : 0 ≤ M 30 0 0 ∧ M 30 0 0 ≤ 100) (hi : -2147483648 ≤ i ∧ i < 2147483648) (hp : ∀ (z : Int) M', kMf M M' ∧ kFtA (kMnet M) (M 31 0) (M 30 0 0) i z → post z M') : kMet l w yX4_fits cX4_fits 10 (some .int) 1 h [vR 30 0, vI i] M post := by
  have hwf := kMwf hN
  have hn1 := hwf.1
  refine kMet_of [vR 30 0, vI i, vN, vN, vN, vN, vN, vN, vN, vN] (by decide) hI rfl rfl (Nat.le_of_ble_eq_true rfl) ?_
  intro p e s m args below meth c C hVok
  have IN : (0 ≤ i ∧ i < M 30 0 2) → ∀ M1 : KM, kMf M M1 → ∀ u : Int, kSlA (M 31 0) (M 30 0 0) u → u < 0 → kG p l e h s m args below meth c w 10 1 post 20 [vR 30 0, vI i, vN, vN, vN, vN, vN, vN, vN, vN] [] (M1) := by
    intro hir M1 hF u hu hu0
    obtain ⟨hg, h6⟩ := kSl_gd hn.1 hu hu0
    have ANS : ∀ (r : Int) (M' : KM), kMf M M' → kFst (kErr (kMnet M) (M 31 0) (M 30 0 0).toNat i) r → post r M' := fun r M' a b => hp r M' ⟨a, Or.inr ⟨hir, u, hu, Or.inr ⟨hu0, b⟩⟩⟩
    clear hp
    obtain ⟨T, eT⟩ : ∃ T, T = M 31 0 := ⟨_, rfl⟩
    obtain ⟨n, en⟩ : ∃ n, n = (M 30 0 0).toNat := ⟨_, rfl⟩
    have hn100 : n ≤ 100 := by omega
    have hnn : M 30 0 0 = n := by omega
    rw [← eT, ← en] at hg h6 ANS
    clear hu hu0 hn en
    have hmo : ∀ v, 0 ≤ v → v < vMn (vRun T n) → kMo (kMnet M) (vRun T n) i v = -6 ∨ (0 ≤ kMo (kMnet M) (vRun T n) i v ∧ kMo (kMnet M) (vRun T n) i v < M 30 0 2) := fun v a b => kMo_rng hN kMnet_o hir vUp_lt (v.toNat + 1) v a b (by omega)
    have L : ∀ (g k : Nat) (due : Int) (y4 y5 y6 y7 y8 y9 : KV) (M2 : KM), k ≤ n → n + 1 ≤ k + g → kMf M M2 → kFI (kMnet M) T n i k (M2 47 0) (M2 49 0) (M2 50 0) (M2 30 0 27) → vSt (vRun T k) ≠ 1 → vSt (vRun T k) ≠ 3 → ((vSt (vRun T k) = 0 → due = kNx (kMnet M) (vRun T n) i (vOp (vRun T k)) (vLa (vRun T k) (vOp (vRun T k)))) ∧ (vSt (vRun T k) = 5 → due = kNx (kMnet M) (vRun T n) i (vOp (vRun T k)) 0) ∧ (vSt (vRun T k) ≠ 0 → vSt (vRun T k) ≠ 5 → due = 100000)) → (due = -6 ∨ due = 100000 ∨ (0 ≤ due ∧ due < M 30 0 2)) → kG p l e h s m args below meth c w 10 1 post 29 [vR 30 0, vI i, vI due, vI k, y4, y5, y6, y7, y8, y9] [] (M2) := by
      intro g
      induction g with
      | zero => intro k due y4 y5 y6 y7 y8 y9 M2 k1 k2; omega
      | succ g ih =>
        intro k due y4 y5 y6 y7 y8 y9 M2 k1 k2 hX hFI hs1 hs3 hdue hdr
        obtain ⟨x, ex⟩ : ∃ x, x = T k := ⟨_, rfl⟩
        have e31 : M2 31 0 (k : Int) = x := by rw [hX.1 31 (by decide) (by decide) (by decide) (by decide) (by decide), ex, eT]
        have e0 : M2 30 0 0 = n := by rw [hX.2 0 0 (by decide) (by decide), hnn]
        have eS : M2 32 = M 32 := hX.1 32 (by decide) (by decide) (by decide) (by decide) (by decide)
        have eP : M2 33 = M 33 := hX.1 33 (by decide) (by decide) (by decide) (by decide) (by decide)
        have END : k = n → kFst (kErr (kMnet M) T n i) (-6) := by
          intro e
          rw [e] at hFI
          refine Or.inr ⟨fun z hE => ?_, rfl⟩
          by_cases c : z < (n : Int)
          · exact hFI.2.2 z c hE
          · obtain ⟨v, hv, ⟨e, -⟩ | ⟨-, ⟨f, f1, f2, -⟩, -⟩⟩ := hE
            · have := ((vOk_run (T := T) n).2.2.2.1 v hv.1 hv.2).1.2
              omega
            · omega
        have B88 : k < n → (-2147483648 ≤ x ∧ x < 2147483648) → ∀ s2 a2 : Int, ((due < 0 ∨ due = 100000) ∧ s2 = 46) ∨ ((0 ≤ due ∧ due < M 30 0 2) ∧ s2 = M 32 0 due) → ((s2 = 46 ∧ a2 = 1) ∨ (s2 ≠ 46 ∧ a2 = 0)) → kG p l e h s m args below meth c w 10 1 post 88 [vR 30 0, vI i, vI due, vI k, vI x, vI due, vI s2, vI a2, y8, y9] [] (M2) := by
          intro hkn hxr s2 a2 hs2 ha2
          have hg1 := hg.le (show k + 1 ≤ n by omega)
          have hcs := hg1.cs
          rw [← ex] at hcs
          have ho := vOk_run (T := T) k
          have ho1 := vOk_run (T := T) (k + 1)
          have hpk := hFI.1
          have hop := vPl_op (vPl_all k (hg.le k1))
          rw [← hpk] at hop
          have hmn := ho.2.1
          have AFT : ∀ (k' : Nat) (M3 : KM) (z8 z9 : KV), k < k' → k' ≤ n → kMf M M3 → kFI (kMnet M) T n i k' (M3 47 0) (M3 49 0) (M3 50 0) (M3 30 0 27) → vSt (vRun T k') = vBeh T (vOp (vRun T k')) (vAt (vRun T k')) → kG p l e h s m args below meth c w 10 1 post 486 [vR 30 0, vI i, vI due, vI k', vI x, vI due, vI s2, vI a2, z8, z9] [] (M3) := by
            intro k' M3 z8 z9 q1 q2 hX3 hFI3 hb
            clear hcs hs2 ha2 ho ho1 hop hdue hpk hFI
            have ho := vOk_run (T := T) k'
            have hbk := vBeh_ok T (vOp (vRun T k')) (vAt (vRun T k'))
            rw [← hb] at hbk
            have hop := vPl_op (vPl_all k' (hg.le q2))
            have hns := (vNs_all k' (hg.le q2)).1
            have hpk := hFI3.1
            rw [← hpk] at hop
            have hp100 : M3 30 0 27 ≤ 100 := by
              obtain ⟨A, B, hPl⟩ := vPl_all k' (hg.le q2)
              have := (kPl_p hPl ho.2.2.1).1
              have := ho.2.1
              omega
            have TOP : 0 < M3 30 0 27 → 0 ≤ vOp (vRun T k') ∧ vOp (vRun T k') < vMn (vRun T n) ∧ M3 47 0 (M3 30 0 27 - 1) = T (vAt (vRun T k') (vOp (vRun T k'))) ∧ M3 49 0 (M3 30 0 27 - 1) = kMn (kMnet M) (vRun T n) i (vOp (vRun T k')) := by
              intro h0
              obtain ⟨a1, a2, -⟩ := hFI3.2.1 (M3 30 0 27 - 1) (by omega) (by omega)
              obtain ⟨g1, g2, g3, g4, g5, g6⟩ := kHc_in hg q2 (t := M3 30 0 27 - 1) (by omega) (by omega)
              rw [g6, g4 (by omega)] at a1
              rw [g4 (by omega)] at a2
              have := (vSm_ab hg q2 (Nat.le_refl n)).1
              exact ⟨by omega, by omega, a1, a2⟩
            have FAR : vSt (vRun T k') ≠ 5 → ∀ w4 w5 w6 w7 w8 w9 : KV, kG p l e h s m args below meth c w 10 1 post 29 [vR 30 0, vI i, vI 100000, vI k', w4, w5, w6, w7, w8, w9] [] (M3) := by
              intro h5 w4 w5 w6 w7 w8 w9
              exact ih k' 100000 _ _ _ _ _ _ M3 q2 (by omega) hX3 hFI3 (by omega) (by omega) ⟨fun z => by omega, fun z => absurd z h5, fun _ _ => rfl⟩ (Or.inr (Or.inl rfl))
            have eN := hX3.net
            have NX : 0 < M3 30 0 27 → kInn M3 0 = kNx (kMnet M) (vRun T n) i (vOp (vRun T k')) 0 ∧ M3 49 0 (M3 30 0 27 - 1) < 60 := by
              intro h0
              obtain ⟨t1, t2, t3, t4⟩ := TOP h0
              have hm := hmo _ t1 t2
              have hmm := kMn_rng hm (by omega)
              refine ⟨?_, by rw [t4]; omega⟩
              rw [← eN] at t4 hm ⊢
              rw [← hX3.2 0 2 (by decide) (by decide)] at hm
              exact kInn_nx h0 t4 t1 (by omega) hm
            have NEAR : 0 < M3 30 0 27 → vSt (vRun T k') = 5 → ∀ w4 w5 w6 w7 w8 w9 : KV, kG p l e h s m args below meth c w 10 1 post 29 [vR 30 0, vI i, vI (kInn M3 0), vI k', w4, w5, w6, w7, w8, w9] [] (M3) := by
              intro h0 h5 w4 w5 w6 w7 w8 w9
              obtain ⟨t1, t2, t3, t4⟩ := TOP h0
              have hr := kNx_rng (x := 0) hN kMnet_o hir (fun _ => hmo _ t1 t2)
              rw [(NX h0).1]
              exact ih k' _ _ _ _ _ _ _ M3 q2 (by omega) hX3 hFI3 (by omega) (by omega) ⟨fun z => by omega, fun _ => rfl, fun _ z => absurd h5 z⟩ (by
                rcases hr with r | r
                · exact Or.inl r
                · exact Or.inr (Or.inr r))
            have ST : 0 < M3 30 0 27 → (M3 47 0 (M3 30 0 27 - 1) = 40 ∧ vSt (vRun T k') = 5) ∨ (M3 47 0 (M3 30 0 27 - 1) ≠ 40 ∧ vSt (vRun T k') ≠ 5) := by
              intro h0
              obtain ⟨t1, t2, t3, t4⟩ := TOP h0
              have nst := hns t1
              unfold vNst at nst
              rw [t3]
              clear TOP NX NEAR FAR hdr hFI3 hmo hop hns
              omega
            have S0 : M3 30 0 27 ≤ 0 → vSt (vRun T k') ≠ 5 := by
              intro h0
              have : vOp (vRun T k') < 0 := by omega
              omega
            have NX2 := fun h0 => (NX h0).2
            have hpl0 : 0 ≤ M3 30 0 27 := hop.1
            clear hbk hop hns TOP NX
            refine g_aload_n C dX4_fits_486 rfl ?_
            refine g_getI C 27 dX4_fits_487 f_X4_172 ⟨rfl, rfl⟩ rfl rfl (fun r_487 => ?_)
            refine g_if_le C 517 dX4_fits_490 (by decide) (by omega) (fun c_490 => ?_) (fun c_490 => ?_)
            · refine g_ldc C (100000) q683 dX4_fits_517 (by decide) ?_
              refine g_istn_2 C dX4_fits_519 (by decide) rfl ?_
              refine g_goto C 29 dX4_fits_520 (by decide) ?_
              exact FAR (S0 (by omega)) _ _ _ _ _ _
            · refine g_aload_n C dX4_fits_493 rfl ?_
              refine g_getR C 47 dX4_fits_494 f_X4_59 ⟨rfl, rfl⟩ rfl (by decide) ?_
              refine g_aload_n C dX4_fits_497 rfl ?_
              refine g_getI C 27 dX4_fits_498 f_X4_172 ⟨rfl, rfl⟩ rfl rfl (fun r_498 => ?_)
              refine g_iconst C dX4_fits_501 ?_
              refine g_isub C dX4_fits_502 ?_
              refine g_iald C 101 dX4_fits_503 ⟨rfl, rfl⟩ rfl (by omega) (fun r_503 => ?_)
              refine g_bipush C dX4_fits_504 (by decide) ?_
              refine g_ic_ne C 517 dX4_fits_506 (by decide) (by omega) (fun c_506 => ?_) (fun c_506 => ?_)
              · refine g_ldc C (100000) q683 dX4_fits_517 (by decide) ?_
                refine g_istn_2 C dX4_fits_519 (by decide) rfl ?_
                refine g_goto C 29 dX4_fits_520 (by decide) ?_
                exact FAR ((ST (by omega)).resolve_left (fun z => absurd z.1 (by assumption))).2 _ _ _ _ _ _
              · refine g_aload_n C dX4_fits_509 rfl ?_
                refine g_iconst C dX4_fits_510 ?_
                refine g_callVi C dX4_fits_511 v_X4_178 (m_X4_inner (h := 3) hI 0 M3 (by omega) (by omega) NX2 (fun _ _ q => q)) ⟨rfl, rfl⟩ rfl rfl (Nat.le_of_ble_eq_true rfl) (by omega) ?_
                rintro z M' ⟨rfl, rfl⟩
                refine g_goto C 519 dX4_fits_514 (by decide) ?_
                refine g_istn_2 C dX4_fits_519 (by decide) rfl ?_
                refine g_goto C 29 dX4_fits_520 (by decide) ?_
                exact NEAR (by omega) ((ST (by omega)).resolve_right (fun z => absurd (by assumption) z.1)).2 _ _ _ _ _ _
          have CLO : ((vSt (vRun T k) = 2 ∧ x = 125) ∨ (vSt (vRun T k) = 4 ∧ x = 93) ∨ (vSt (vRun T k) = 5 ∧ x = 41)) → vRun T (k + 1) = vClo T (vRun T k) → kG p l e h s m args below meth c w 10 1 post 88 [vR 30 0, vI i, vI due, vI k, vI x, vI due, vI s2, vI a2, y8, y9] [] (M2) := by
            intro hx he
            clear hcs hdue
            have v0 : 0 ≤ vOp (vRun T k) := by
              rcases hx with z | z | z
              · exact (ho.2.2.2.2.1 z.1).1
              · exact (ho.2.2.2.2.2.2.1 z.1).1
              · exact (ho.2.2.2.2.2.2.2.1 z.1).1
            have hcl : vCl T (vOp (vRun T k)) k := ⟨v0, rfl, by rw [← ex]; omega⟩
            have hfit := kErr_fit hg k1 hFI.2.2 v0 ho.2.2.1.2
            have hec := kErr_cl hg hkn hcl hfit
            have p0 : 0 < M2 30 0 27 := by omega
            obtain ⟨b1, b2, b3⟩ := hFI.2.1 (M2 30 0 27 - 1) (by omega) (by omega)
            obtain ⟨g1, g2, g3, g4, g5, g6⟩ := kHc_in hg k1 (t := M2 30 0 27 - 1) (by omega) (by omega)
            rw [g4 (by omega)] at b2 b3 g6
            obtain ⟨v, ev⟩ : ∃ v, v = vOp (vRun T k) := ⟨_, rfl⟩
            have hvn : v < vMn (vRun T n) := by
              have := (vSm_ab hg k1 (Nat.le_refl n)).1
              have := ho.2.2.1.2
              omega
            rw [← ev] at v0 hcl hfit hec b2 b3 g6
            have hm := hmo v v0 hvn
            have hmm := kMn_rng hm (by omega)
            have hL : x = 125 → kBs (M2 50 0 (M2 30 0 27 - 1)) (fun y => vMem (vRun T n) v y) := by
              intro x1
              have s2' : vSt (vRun T k) = 2 := by omega
              have t1 := (ho.2.2.2.2.1 s2').2
              rw [← ev] at t1
              refine kBs_iff (b3 (by rw [g6]; exact t1)) (fun y y0 y1 => ?_)
              rw [vMem_cl hg hcl hkn]
              exact ⟨fun u => u.elim id (fun u => by have := u.1; omega), Or.inl⟩
            have LACK : ¬ kLac (kMnet M) (vRun T n) i v → ∀ z8 z9 : KV, kG p l e h s m args below meth c w 10 1 post 486 [vR 30 0, vI i, vI due, vI ((k : Int) + 1), vI x, vI due, vI s2, vI a2, z8, z9] [] (kUp M2 30 0 27 (M2 30 0 27 - 1)) := by
              intro hnl z8 z9
              have := AFT (k + 1) (kUp M2 30 0 27 (M2 30 0 27 - 1)) z8 z9 (by omega) (by omega) hX.sl (by
                rw [kUp_eq, kUp_t (t' := 47) (by decide), kUp_t (t' := 49) (by decide), kUp_t (t' := 50) (by decide)]
                exact kFI_clo hg hkn he (by omega) hcl.2.2 hFI (fun z => hnl (hec.1 z))) (by rw [he]; rfl)
              rw [show ((k + 1 : Nat) : Int) = (k : Int) + 1 by omega] at this
              exact this
            have own : kLac (kMnet M) (vRun T n) i v → x = 125 ∧ (0 ≤ kMn (kMnet M) (vRun T n) i v ∧ kMn (kMnet M) (vRun T n) i v < M 30 0 2) ∧ ∃ y, (0 ≤ y ∧ y < 8) ∧ M 33 0 (8 * kMn (kMnet M) (vRun T n) i v + y) ≠ -6 ∧ ¬ vMem (vRun T n) v y := by
              rintro ⟨w1, w2, y, y1, y2, y3⟩
              have na : ¬ (kMo (kMnet M) (vRun T n) i v < 0 ∨ (kMnet M).2.1 (kMo (kMnet M) (vRun T n) i v) = 46) := by omega
              have r : 0 ≤ kMo (kMnet M) (vRun T n) i v ∧ kMo (kMnet M) (vRun T n) i v < M 30 0 2 := by omega
              have en : kMn (kMnet M) (vRun T n) i v = kMo (kMnet M) (vRun T n) i v := if_neg na
              rw [kMnet_p r y1] at y2
              rw [en]
              refine ⟨?_, r, y, y1, y2, y3⟩
              have nst := (vNs_all k (hg.le k1)).1 (by omega)
              have ft := kFit_nest hfit na
              unfold vNst at nst
              rw [← ev, ← g6] at nst
              have t1 : T (vAt (vRun T n) v) = 123 := by
                rcases nst with z | z | z
                · exact z
                · have := ft.2.1 z; omega
                · have := ft.2.2 z; omega
              rw [g6] at t1
              rcases hx with z | z | z
              · exact z.2
              · have := (ho.2.2.2.2.2.2.1 z.1).2
                rw [← ev] at this
                omega
              · have := (ho.2.2.2.2.2.2.2.1 z.1).2.1
                rw [← ev] at this
                exact absurd t1 this
            have BACK : ∀ y : Int, x = 125 → 0 ≤ kMn (kMnet M) (vRun T n) i v → (0 ≤ y ∧ y < 8) → 0 ≤ M 33 0 (8 * kMn (kMnet M) (vRun T n) i v + y) → ¬ vMem (vRun T n) v y → kErr (kMnet M) T n i k := by
              intro y x1 o1 y1 y2 y3
              refine hec.2 ?_
              have na : ¬ (kMo (kMnet M) (vRun T n) i v < 0 ∨ (kMnet M).2.1 (kMo (kMnet M) (vRun T n) i v) = 46) := by
                intro z
                have : kMn (kMnet M) (vRun T n) i v = -6 := if_pos z
                omega
              have en : kMn (kMnet M) (vRun T n) i v = kMo (kMnet M) (vRun T n) i v := if_neg na
              rw [en] at o1 y2
              have r : 0 ≤ kMo (kMnet M) (vRun T n) i v ∧ kMo (kMnet M) (vRun T n) i v < M 30 0 2 := by omega
              have s2' : vSt (vRun T k) = 2 := by omega
              have t1 := (ho.2.2.2.2.1 s2').2
              rw [← ev, ← g6] at t1
              exact ⟨o1, (kFit_nest hfit na).1 t1, y, y1, by rw [kMnet_p r y1]; omega, y3⟩
            have RET : kErr (kMnet M) T n i k → kFst (kErr (kMnet M) T n i) k := fun z => Or.inl ⟨k, z, hFI.2.2, rfl⟩
            obtain ⟨M3, eM3⟩ : ∃ M3 : KM, M3 = kUp M2 30 0 27 (M2 30 0 27 - 1) := ⟨_, rfl⟩
            have f27 : M3 30 0 27 = M2 30 0 27 - 1 := by rw [eM3, kUp_eq]
            have f33 : M3 33 = M 33 := by rw [eM3, kUp_t (by decide), eP]
            have f49 : M3 49 0 (M2 30 0 27 - 1) = kMn (kMnet M) (vRun T n) i v := by rw [eM3, kUp_t (by decide)]; exact b2
            have f50 : M3 50 0 (M2 30 0 27 - 1) = M2 50 0 (M2 30 0 27 - 1) := by rw [eM3, kUp_t (by decide)]
            have hX3 : kMf M M3 := by rw [eM3]; exact hX.sl
            rw [← eM3] at LACK
            obtain ⟨O, eO⟩ : ∃ O, O = kMn (kMnet M) (vRun T n) i v := ⟨_, rfl⟩
            rw [← eO] at f49 own BACK hmm
            have LP : ∀ (gg : Nat) (j : Int), 0 ≤ j → j ≤ 8 → 9 ≤ j + gg → (∀ y, 0 ≤ y → y < j → x = 125 → 0 ≤ O → M 33 0 (8 * O + y) ≠ -6 → vMem (vRun T n) v y) → kG p l e h s m args below meth c w 10 1 post 133 [vR 30 0, vI i, vI due, vI k, vI x, vI due, vI s2, vI a2, vI O, vI j] [] (M3) := by
              intro gg
              induction gg with
              | zero => intro j j0 j1 j2; omega
              | succ gg ihg =>
                intro j j0 j1 j2 hall
                have PP : 0 ≤ O → j < 8 → M 33 0 (8 * O + j) = -6 ∨ 0 ≤ M 33 0 (8 * O + j) := by
                  intro o1 j3
                  have om : O < M 30 0 2 := by
                    have := kMn_rng hm (by omega)
                    rw [← eO] at this
                    omega
                  rcases hwf.2.2.1 O j o1 om j0 j3 with z | z
                  · exact Or.inl z
                  · exact Or.inr z.1
                have BT : x = 125 → j < 8 → kBs (M2 50 0 (M2 30 0 27 - 1)) (fun y => vMem (vRun T n) v y) := fun z _ => hL z
                have EX : (8 ≤ j ∨ x ≠ 125 ∨ O < 0) → ∀ z8 z9 : KV, kG p l e h s m args below meth c w 10 1 post 486 [vR 30 0, vI i, vI due, vI ((k : Int) + 1), vI x, vI due, vI s2, vI a2, z8, z9] [] (M3) := by
                  intro c
                  refine LACK (fun z => ?_)
                  obtain ⟨w1, w2, y, y1, y2, y3⟩ := own z
                  rcases c with c | c | c
                  · exact y3 (hall y y1.1 (by omega) w1 w2.1 y2)
                  · exact c w1
                  · omega
                have hbr : x = 125 → 0 ≤ M2 50 0 (M2 30 0 27 - 1) ∧ M2 50 0 (M2 30 0 27 - 1) < 256 := fun z => (hL z).1
                clear LACK own AFT hec END hdue
                refine g_iload C dX4_fits_133 rfl ?_
                refine g_bipush C dX4_fits_135 (by decide) ?_
                refine g_ic_ge C 193 dX4_fits_137 (by decide) (by omega) (fun c_137 => ?_) (fun c_137 => ?_)
                · refine g_inc_3 C dX4_fits_193 (by decide) rfl ?_
                  refine g_goto C 486 dX4_fits_196 (by decide) ?_
                  exact EX (by omega) _ _
                · refine g_iload C dX4_fits_140 rfl ?_
                  refine g_bipush C dX4_fits_142 (by decide) ?_
                  refine g_ic_ne C 193 dX4_fits_144 (by decide) (by omega) (fun c_144 => ?_) (fun c_144 => ?_)
                  · refine g_inc_3 C dX4_fits_193 (by decide) rfl ?_
                    refine g_goto C 486 dX4_fits_196 (by decide) ?_
                    exact EX (by omega) _ _
                  · refine g_iload C dX4_fits_147 rfl ?_
                    refine g_if_lt C 193 dX4_fits_149 (by decide) (by omega) (fun c_149 => ?_) (fun c_149 => ?_)
                    · refine g_inc_3 C dX4_fits_193 (by decide) rfl ?_
                      refine g_goto C 486 dX4_fits_196 (by decide) ?_
                      exact EX (by omega) _ _
                    · refine g_aload_n C dX4_fits_152 rfl ?_
                      refine g_getR C 33 dX4_fits_153 f_X4_16 ⟨rfl, rfl⟩ rfl (by decide) ?_
                      refine g_bipush C dX4_fits_156 (by decide) ?_
                      refine g_iload C dX4_fits_158 rfl ?_
                      refine g_imul C dX4_fits_160 ?_
                      refine g_iload C dX4_fits_161 rfl ?_
                      refine g_iadd C dX4_fits_163 ?_
                      skip
                      refine g_iald C 480 dX4_fits_164 ⟨rfl, rfl⟩ rfl (by omega) (fun r_164 => ?_)
                      rw [f33] at r_164 ⊢
                      refine g_if_lt C 187 dX4_fits_165 (by decide) (by omega) (fun c_165 => ?_) (fun c_165 => ?_)
                      · refine g_inc_9 C dX4_fits_187 (by decide) rfl ?_
                        refine g_goto C 133 dX4_fits_190 (by decide) ?_
                        exact ihg (j + 1) (by omega) (by omega) (by omega) (fun y y0 y1 y2 y3 y4 => by
                        by_cases z : y = j
                        · rw [z] at y4
                          have := PP y3 (by omega)
                          omega
                        · exact hall y y0 (by omega) y2 y3 y4)
                      · refine g_aload_n C dX4_fits_168 rfl ?_
                        refine g_getR C 50 dX4_fits_169 f_X4_68 ⟨rfl, rfl⟩ rfl (by decide) ?_
                        refine g_aload_n C dX4_fits_172 rfl ?_
                        refine g_getI C 27 dX4_fits_173 f_X4_172 ⟨rfl, rfl⟩ rfl rfl (fun r_173 => ?_)
                        rw [f27] at r_173 ⊢
                        refine g_iald C 101 dX4_fits_176 ⟨rfl, rfl⟩ rfl (by omega) (fun r_176 => ?_)
                        rw [f50] at r_176 ⊢
                        refine g_iload C dX4_fits_177 rfl ?_
                        refine g_ishr C dX4_fits_179 ?_
                        refine g_iconst C dX4_fits_180 ?_
                        refine g_iand C dX4_fits_181 ?_
                        refine g_if_ne C 187 dX4_fits_182 (by decide) (by omega) (fun c_182 => ?_) (fun c_182 => ?_)
                        · refine g_inc_9 C dX4_fits_187 (by decide) rfl ?_
                          refine g_goto C 133 dX4_fits_190 (by decide) ?_
                          exact ihg (j + 1) (by omega) (by omega) (by omega) (fun y y0 y1 y2 y3 y4 => by
                          by_cases z : y = j
                          · rw [z]
                            rcases (hL (by omega)).2 j j0 (by omega) with r | r
                            · exact absurd r.1 (by assumption)
                            · exact r.2
                          · exact hall y y0 (by omega) y2 y3 y4)
                        · refine g_iload_n C dX4_fits_185 rfl ?_
                          exact g_iret C dX4_fits_186 (ANS _ _ hX3 (RET (BACK j (by omega) (by omega) (by omega) (by omega) (fun z => by
                          rcases (hL (by omega)).2 j j0 (by omega) with r | r
                          · exact r.2 z
                          · have := r.1
                            omega))))
            sorry
          sorry
        have J72 : k < n → (-2147483648 ≤ x ∧ x < 2147483648) → ∀ s2 : Int, ((due < 0 ∨ due = 100000) ∧ s2 = 46) ∨ ((0 ≤ due ∧ due < M 30 0 2) ∧ s2 = M 32 0 due) → (-2147483648 ≤ s2 ∧ s2 < 2147483648) → kG p l e h s m args below meth c w 10 1 post 72 [vR 30 0, vI i, vI due, vI k, vI x, vI due, y6, y7, y8, y9] [vI s2] (M2) := by
          intro hkn hxr s2 hs2 hsr
          refine g_ist_6 C dX4_fits_72 (by decide) rfl ?_
          refine g_iload C dX4_fits_74 rfl ?_
          refine g_bipush C dX4_fits_76 (by decide) ?_
          refine g_ic_ne C 85 dX4_fits_78 (by decide) (by omega) (fun c_78 => ?_) (fun c_78 => ?_)
          · refine g_iconst C dX4_fits_85 ?_
            refine g_ist_7 C dX4_fits_86 (by decide) rfl ?_
            exact B88 hkn hxr s2 0 hs2 (by omega)
          · refine g_iconst C dX4_fits_81 ?_
            refine g_goto C 86 dX4_fits_82 (by decide) ?_
            refine g_ist_7 C dX4_fits_86 (by decide) rfl ?_
            exact B88 hkn hxr s2 1 hs2 (by omega)
        refine g_iload_n C dX4_fits_29 rfl ?_
        refine g_aload_n C dX4_fits_30 rfl ?_
        refine g_getI C 0 dX4_fits_31 f_X4_88 ⟨rfl, rfl⟩ rfl rfl (fun r_31 => ?_)
        rw [e0] at r_31 ⊢
        refine g_ic_ge C 523 dX4_fits_34 (by decide) (by omega) (fun c_34 => ?_) (fun c_34 => ?_)
        · refine g_bipush C dX4_fits_523 (by decide) ?_
          exact g_iret C dX4_fits_525 (ANS _ _ hX (END (by omega)))
        · refine g_aload_n C dX4_fits_37 rfl ?_
          refine g_getR C 31 dX4_fits_38 f_X4_7 ⟨rfl, rfl⟩ rfl (by decide) ?_
          refine g_iload_n C dX4_fits_41 rfl ?_
          skip
          refine g_iald C 100 dX4_fits_42 ⟨rfl, rfl⟩ rfl (by omega) (fun r_42 => ?_)
          rw [e31] at r_42 ⊢
          refine g_ist_4 C dX4_fits_43 (by decide) rfl ?_
          refine g_iload_n C dX4_fits_45 rfl ?_
          refine g_ist_5 C dX4_fits_46 (by decide) rfl ?_
          refine g_iload C dX4_fits_48 rfl ?_
          refine g_if_lt C 60 dX4_fits_50 (by decide) (by omega) (fun c_50 => ?_) (fun c_50 => ?_)
          · refine g_bipush C dX4_fits_60 (by decide) ?_
            refine g_goto C 72 dX4_fits_62 (by decide) ?_
            exact J72 (by omega) (by omega) 46 (by omega) (by omega)
          · refine g_iload C dX4_fits_53 rfl ?_
            refine g_ldc C (100000) q683 dX4_fits_55 (by decide) ?_
            refine g_ic_ne C 65 dX4_fits_57 (by decide) (by omega) (fun c_57 => ?_) (fun c_57 => ?_)
            · refine g_aload_n C dX4_fits_65 rfl ?_
              refine g_getR C 32 dX4_fits_66 f_X4_13 ⟨rfl, rfl⟩ rfl (by decide) ?_
              refine g_iload C dX4_fits_69 rfl ?_
              refine g_iald C 60 dX4_fits_71 ⟨rfl, rfl⟩ rfl (by omega) (fun r_71 => ?_)
              rw [eS] at r_71 ⊢
              exact J72 (by omega) (by omega) _ (Or.inr ⟨by omega, rfl⟩) r_71
            · refine g_bipush C dX4_fits_60 (by decide) ?_
              refine g_goto C 72 dX4_fits_62 (by decide) ?_
              exact J72 (by omega) (by omega) 46 (by omega) (by omega)
    refine g_aload_n C dX4_fits_20 rfl ?_
    refine g_iconst C dX4_fits_21 ?_
    refine g_putI C 27 dX4_fits_22 f_X4_172 ⟨rfl, rfl⟩ rfl rfl (by omega) ?_
    refine g_iload_n C dX4_fits_25 rfl ?_
    refine g_istn_2 C dX4_fits_26 (by decide) rfl ?_
    refine g_iconst C dX4_fits_27 ?_
    refine g_istn_3 C dX4_fits_28 (by decide) rfl ?_
    refine L (n + 1) 0 i _ _ _ _ _ _ _ (by omega) (by omega) hF.sl ?_ ?_ ?_ ?_ ?_
    · refine ⟨kUp_eq, fun t t0 t1 => ?_, fun z hz hE => ?_⟩
      · rw [kUp_eq] at t1
        omega
      · obtain ⟨v, hv, ⟨e, -⟩ | ⟨-, ⟨f, f1, f2, -⟩, -⟩⟩ := hE
        · have := ((vOk_run (T := T) n).2.2.2.1 v hv.1 hv.2).1.1
          omega
        · omega
    · show (0 : Int) ≠ 1
      decide
    · show (0 : Int) ≠ 3
      decide
    · refine ⟨fun _ => ?_, fun z => absurd z (by show (0 : Int) ≠ 5; decide), fun z => absurd rfl z⟩
      unfold kNx
      exact (if_pos (by show (-1 : Int) < 0; decide)).symm
    · exact Or.inr (Or.inr hir)
  refine g_aload_n C dX4_fits_0 rfl ?_
  refine g_iload_n C dX4_fits_1 rfl ?_
  refine g_callVi C dX4_fits_2 v_X4_123 (m_X4_isNode (h := 3) (by omega) hI i M hi hn1 (fun _ _ q => q)) ⟨rfl, rfl⟩ rfl rfl (Nat.le_of_ble_eq_true rfl) (by omega) ?_
  rintro z1 M' ⟨⟨hz1, rfl⟩ | ⟨hz1, rfl⟩, rfl⟩
  · refine g_if_ne C 10 dX4_fits_5 (by decide) (by omega) (fun c_5 => ?_) (fun c_5 => ?_)
    · refine g_aload_n C dX4_fits_10 rfl ?_
      refine g_callVi C dX4_fits_11 v_X4_175 (m_X4_slipOf (h := 3) (by omega) hI M hn (fun _ _ q => q)) ⟨rfl, rfl⟩ rfl rfl (Nat.le_of_ble_eq_true rfl) (by omega) ?_
      rintro z M' ⟨hF, hz, hR⟩
      have hzr := kSlA_rng hn.1 hz
      refine g_if_lt C 20 dX4_fits_14 (by decide) (by omega) (fun c_14 => ?_) (fun c_14 => ?_)
      · exact IN hz1 _ (kMf.of hF) z hz (by omega)
      · refine g_bipush C dX4_fits_17 (by decide) ?_
        exact g_iret C dX4_fits_19 (hp _ _ ⟨kMf.of hF, Or.inr ⟨hz1, z, hz, Or.inl ⟨by omega, rfl⟩⟩⟩)
    · omega
  · refine g_if_ne C 10 dX4_fits_5 (by decide) (by omega) (fun c_5 => ?_) (fun c_5 => ?_)
    · omega
    · refine g_iconst C dX4_fits_8 ?_
      exact g_iret C dX4_fits_9 (hp _ _ ⟨kMf.of kSf.rf, Or.inl ⟨hz1, rfl⟩⟩)
end

