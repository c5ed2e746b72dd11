/-! KindNets: fits -/
set_option maxRecDepth 100000
def kXf (M M' : KM) : Prop := ∀ t, (t < 21 ∨ 26 < t) → M' t = M t
theorem kXf.of {M M' : KM} (h : kVf M M') : kXf M M' := fun t ht => h t (by omega)
theorem kXf.up {M M' : KM} {i k z : Int} (h : kXf M M') : kXf M (kUp M' 26 i k z) := fun t ht => by rw [kUp_t (by omega)]; exact h t ht
theorem kVR.up {M : KM} {q : KVS} {i k z : Int} (h : kVR M q) : kVR (kUp M 26 i k z) q := by
  refine ⟨by rw [kUp_t (by decide)]; exact h.1, by rw [kUp_t (by decide)]; exact h.2.1, fun v v0 v1 => ?_⟩
  rw [kUp_t (by decide), kUp_t (by decide), kUp_t (by decide), kUp_t (by decide)]
  exact h.2.2 v v0 v1
section
variable {l : Launch} {w : KL} {h : Nat} {post : Int → KM → Prop}
theorem m_X0_fits (hh : 7 ≤ h) (hI : kInj w) (i : Int) (M : KM) (hN : kWF (kXnet M)) (hn : 0 ≤ M 7 0 4 ∧ M 7 0 4 ≤ 100) (hi : -2147483648 ≤ i ∧ i < 2147483648) (hp : ∀ (z : Int) M', kXf M M' ∧ kFtA (kXnet M) (M 10 0) (M 7 0 4) i z → post z M') : kMet l w yX0_fits cX0_fits 6 (some .int) 1 h [vR 7 0, vI i] M post := by
  have hwf := kXwf hN
  have hn1 := hwf.1
  refine kMet_of [vR 7 0, vI i, vN, vN, vN, vN] (by decide) hI rfl rfl (Nat.le_of_ble_eq_true rfl) ?_
  intro p e s m args below meth c C hVok
  have IN : (0 ≤ i ∧ i < M 7 0 1) → ∀ M1 : KM, kVf M M1 → ∀ u : Int, kSlA (M 10 0) (M 7 0 4) u → u < 0 → kVR M1 (vRun (M 10 0) (M 7 0 4).toNat) → kG p l e h s m args below meth c w 6 1 post 20 [vR 7 0, vI i, vN, vN, vN, vN] [] (M1) := by
    intro hir M1 hF u hu hu0 hR
    obtain ⟨hg, h6⟩ := kSl_gd hn.1 hu hu0
    have ANS : ∀ (r : Int) (M' : KM), kXf M M' → kFst (kErr (kXnet M) (M 10 0) (M 7 0 4).toNat i) r → post r M' := fun r M' a b => hp r M' ⟨a, Or.inr ⟨hir, u, hu, Or.inr ⟨hu0, b⟩⟩⟩
    clear hp
    obtain ⟨T, eT⟩ : ∃ T, T = M 10 0 := ⟨_, rfl⟩
    obtain ⟨n, en⟩ : ∃ n, n = (M 7 0 4).toNat := ⟨_, rfl⟩
    have hn100 : n ≤ 100 := by omega
    rw [← eT, ← en] at hg h6 ANS hR
    clear hu hu0 hn en
    have ho := vOk_run (T := T) n
    have hkn := kD_end hg h6
    have hns := vNs_all n hg
    have hli := (vLi_all n hg).2
    obtain ⟨Q, eQ⟩ : ∃ Q, Q = vRun T n := ⟨_, rfl⟩
    rw [← eQ] at h6 ho hR hns hli
    have hup : ∀ v, 0 ≤ v → v < vMn Q → vUp Q v < v := fun v a b => (ho.2.2.2.1 v a b).2.1.2
    have hmo : ∀ v, 0 ≤ v → v < vMn Q → kMo (kXnet M) Q i v = -6 ∨ (0 ≤ kMo (kXnet M) Q i v ∧ kMo (kXnet M) Q i v < M 7 0 1) := fun v a b => kMo_rng hN kXnet_o hir hup (v.toNat + 1) v a b (by omega)
    have hat : ∀ v, 0 ≤ v → v < vMn Q → 0 ≤ vAt Q v ∧ vAt Q v < 100 := fun v a b => by
      have := (ho.2.2.2.1 v a b).1
      omega
    have hmn : 0 ≤ vMn Q ∧ vMn Q ≤ 100 := by
      have := ho.2.1
      omega
    have hlt : ∀ v, 0 ≤ v → v < vMn Q → 0 ≤ vUp Q v → (T (vAt Q (vUp Q v)) = 123 ∨ T (vAt Q (vUp Q v)) = 91) → 0 ≤ vLt Q v ∧ vLt Q v < 8 := by
      rw [eQ]
      exact fun v a b c d => vLt_in hg a b c d
    have L : ∀ (g : Nat) (v place : Int) (x4 x5 : KV) (M2 : KM), 0 ≤ v → v ≤ vMn Q → vMn Q + 1 ≤ v + g → kXf M M2 → kVR M2 Q → (∀ u, 0 ≤ u → u < v → M2 26 0 u = kMo (kXnet M) Q i u) → kPlc (kXnet M) T n i v place → (0 ≤ place ∧ place ≤ 100) → kG p l e h s m args below meth c w 6 1 post 25 [vR 7 0, vI i, vI place, vI v, x4, x5] [] (M2) := by
      intro g
      induction g with
      | zero => intro v place x4 x5 M2 v0 v1 v2; omega
      | succ g ih =>
        intro v place x4 x5 M2 v0 v1 v2 hX hR2 hmu hpl hpr
        have END : (v = vMn Q ∨ place ≤ vAt Q v) → kFst (kErr (kXnet M) T n i) (if place = 100 then -6 else place) := fun x => kPlc_end hg hn100 hpl (by rw [← eQ]; exact ⟨v0, v1⟩) (by rw [← eQ]; exact x)
        have E158 : (v = vMn Q ∨ place ≤ vAt Q v) → kG p l e h s m args below meth c w 6 1 post 158 [vR 7 0, vI i, vI place, vI v, x4, x5] [] (M2) := by
          intro x
          have x := END x
          refine g_iload_n C dX0_fits_158 rfl ?_
          refine g_bipush C dX0_fits_159 (by decide) ?_
          refine g_ic_ne C 169 dX0_fits_161 (by decide) (by omega) (fun c_161 => ?_) (fun c_161 => ?_)
          · refine g_iload_n C dX0_fits_169 rfl ?_
            exact g_iret C dX0_fits_170 (ANS _ _ hX (by rw [if_neg (by assumption)] at x; exact x))
          · refine g_bipush C dX0_fits_164 (by decide) ?_
            refine g_goto C 170 dX0_fits_166 (by decide) ?_
            exact g_iret C dX0_fits_170 (ANS _ _ hX (by rw [if_pos (by assumption)] at x; exact x))
        clear END
        obtain ⟨r1, r2, r3⟩ := id hR2
        have BODY : v < vMn Q → vAt Q v < place → kG p l e h s m args below meth c w 6 1 post 49 [vR 7 0, vI i, vI place, vI v, x4, x5] [] (M2) := by
          intro hv hlp
          obtain ⟨c1, c2, c3, c4⟩ := r3 v v0 hv
          have hat' := hat v v0 hv
          have NM : ∀ u, 0 ≤ u → u < v → ¬ kMis (kXnet M) T Q i u := by
            intro u u0 u1 hm
            rw [eQ] at hm
            have a := hpl.1 _ ⟨u, ⟨u0, u1⟩, Or.inl ⟨rfl, hm⟩⟩
            have b := vAt_lt hg u0 u1 (by rw [← eQ]; exact hv)
            rw [← eQ] at a b
            omega
          have hm := hmo v v0 hv
          have hmoe := kMo_eq (N := kXnet M) (i := i) hup v0 hv
          obtain ⟨mm, em⟩ : ∃ mm, mm = kMo (kXnet M) Q i v := ⟨_, rfl⟩
          rw [← em] at hm hmoe
          have e1 : M2 1 = M 1 := hX 1 (by omega)
          have e2 : M2 2 = M 2 := hX 2 (by omega)
          have LR : 0 ≤ vUp Q v → kMo (kXnet M) Q i (vUp Q v) ≠ -6 → M 1 (kMo (kXnet M) Q i (vUp Q v)) 0 ≠ 46 → M 1 (kMo (kXnet M) Q i (vUp Q v)) 0 ≠ 42 → 0 ≤ vLt Q v ∧ vLt Q v < 8 := by
            intro u0 d6 s1 s2
            have u1 := hup v v0 hv
            have dr := hmo (vUp Q v) u0 (by omega)
            have nm := NM _ u0 u1
            have hs := kXnet_s (M := M) (i := kMo (kXnet M) Q i (vUp Q v)) (by omega)
            have io : kIsOf (kXnet M) (kMo (kXnet M) Q i (vUp Q v)) (T (vAt Q (vUp Q v))) (T (vAt Q (vUp Q v) + 1) - 97) := Classical.byContradiction fun x => nm ⟨fun a => by
              rcases a with a | a
              · omega
              · rw [hs] at a; exact s1 a, x⟩
            have nst := hns.2.1 v v0 hv u0
            refine hlt v v0 hv u0 ?_
            unfold kIsOf at io
            rw [hs] at io
            unfold vNst at nst
            clear hpl hmu NM hwf hmo hlt hns hli hat ih hm hmoe dr
            rcases io with io | io | io | io | io | io
            · omega
            · omega
            · omega
            · omega
            · omega
            · omega
          have MB : 0 ≤ M2 23 0 v → M2 23 0 v < 100 ∧ (M2 26 0 (M2 23 0 v) ≠ -6 → (0 ≤ M2 26 0 (M2 23 0 v) ∧ M2 26 0 (M2 23 0 v) < 60) ∧ (M2 1 (M2 26 0 (M2 23 0 v)) 0 ≠ 46 → M2 1 (M2 26 0 (M2 23 0 v)) 0 ≠ 42 → 0 ≤ M2 24 0 v ∧ M2 24 0 v < 8)) := by
            rw [c2, c3, e1]
            intro u0
            have u1 := hup v v0 hv
            rw [hmu _ u0 u1]
            have dr := hmo (vUp Q v) u0 (by omega)
            exact ⟨by omega, fun d6 => ⟨by omega, LR u0 d6⟩⟩
          have ZM : ∀ z2 : Int, z2 = (if M2 23 0 v < 0 then i else if M2 26 0 (M2 23 0 v) = -6 ∨ M2 1 (M2 26 0 (M2 23 0 v)) 0 = 46 then -6 else if M2 1 (M2 26 0 (M2 23 0 v)) 0 = 42 then M2 2 (M2 26 0 (M2 23 0 v)) 0 else M2 2 (M2 26 0 (M2 23 0 v)) (M2 24 0 v)) → z2 = mm := by
            intro z2 hz2
            rw [hz2, hmoe, c2, c3, e1, e2]
            by_cases q1 : vUp Q v < 0
            · rw [if_pos q1, if_pos q1]
            · have u1 := hup v v0 hv
              rw [if_neg q1, if_neg q1, hmu _ (by omega) u1]
              have dr := hmo (vUp Q v) (by omega) (by omega)
              have LR := LR (by omega)
              generalize kMo (kXnet M) Q i (vUp Q v) = d at dr LR
              rcases dr with dr | dr
              · rw [if_pos (Or.inl dr), if_pos (Or.inl (by omega))]
              · rw [kXnet_s dr, kXnet_p dr (by omega)]
                by_cases q2 : M 1 d 0 = 46
                · rw [if_pos (Or.inr q2), if_pos (Or.inr q2)]
                · rw [if_neg (show ¬ (d = -6 ∨ M 1 d 0 = 46) by omega), if_neg (show ¬ (d < 0 ∨ M 1 d 0 = 46) by omega)]
                  by_cases q3 : M 1 d 0 = 42
                  · rw [if_pos q3, if_pos q3]
                  · rw [if_neg q3, if_neg q3, kXnet_p dr (LR (by omega) q2 q3)]
          have REST : ∀ M3 : KM, kXf M M3 → kVR M3 Q → (∀ u, 0 ≤ u → u < v + 1 → M3 26 0 u = kMo (kXnet M) Q i u) → kG p l e h s m args below meth c w 6 1 post 61 [vR 7 0, vI i, vI place, vI v, x4, x5] [] (M3) := by
            intro M3 hX3 hR3 hmu3
            clear hmoe ZM MB LR NM
            have f1 : M3 1 = M 1 := hX3 1 (by omega)
            have f2 : M3 2 = M 2 := hX3 2 (by omega)
            have f10 : M3 10 0 = T := by rw [hX3 10 (by omega), eT]
            have f26 : M3 26 0 v = mm := by rw [hmu3 v v0 (by omega), em]
            obtain ⟨d1, d2, d3, d4⟩ := hR3.2.2 v v0 hv
            have d21 := hR3.1
            have LI : T (vAt Q v) = 91 → vLa Q v = T (vAt Q v + 1) - 97 ∧ 0 ≤ vLa Q v ∧ vLa Q v < 8 := by
              intro t
              rcases hli v v0 hv t with r | r
              · omega
              · omega
            have KX : mm ≠ -6 → (kIsX (M3 1 mm 0) (M3 10 0 (M3 22 0 v)) (M3 2 mm (M3 25 0 v) ≠ -6) ↔ ¬ kMis (kXnet M) T Q i v) := by
              intro m6
              have mr : 0 ≤ mm ∧ mm < M 7 0 1 := by omega
              unfold kMis kIsX kAny kIsOf
              rw [← em, f1, f2, f10, d1, d4, kXnet_s mr]
              have P : T (vAt Q v) = 91 → (M 2 mm (vLa Q v) ≠ -6 ↔ (kXnet M).2.2 mm (T (vAt Q v + 1) - 97) ≠ -6) := by
                intro t
                obtain ⟨t1, t2⟩ := LI t
                rw [← t1, kXnet_p mr t2]
              constructor
              · rintro (x | x | x | x | x | x | x) ⟨y1, y2⟩
                · exact y2 (Or.inl x)
                · exact y2 (Or.inr (Or.inl x))
                · exact y2 (Or.inr (Or.inr (Or.inl x)))
                · exact y2 (Or.inr (Or.inr (Or.inr (Or.inl x))))
                · exact y2 (Or.inr (Or.inr (Or.inr (Or.inr (Or.inl ⟨x.1, x.2.1, (P x.2.1).1 x.2.2⟩)))))
                · exact y2 (Or.inr (Or.inr (Or.inr (Or.inr (Or.inr x)))))
                · exact y1 (Or.inr x)
              · intro y
                by_cases q2 : M 1 mm 0 = 46
                · exact Or.inr (Or.inr (Or.inr (Or.inr (Or.inr (Or.inr q2)))))
                · have z := Classical.byContradiction fun x => y ⟨fun a => by omega, x⟩
                  rcases z with x | x | x | x | x | x
                  · exact Or.inl x
                  · exact Or.inr (Or.inl x)
                  · exact Or.inr (Or.inr (Or.inl x))
                  · exact Or.inr (Or.inr (Or.inr (Or.inl x)))
                  · exact Or.inr (Or.inr (Or.inr (Or.inr (Or.inl ⟨x.1, x.2.1, (P x.2.1).2 x.2.2⟩))))
                  · exact Or.inr (Or.inr (Or.inr (Or.inr (Or.inr (Or.inl x)))))
            have N96 : kMis (kXnet M) T Q i v → kG p l e h s m args below meth c w 6 1 post 96 [vR 7 0, vI i, vI place, vI v, x4, x5] [vI 0] (M3) := by
              intro hmis
              rw [eQ] at hmis
              have hk := kPlc_mis hpl hmis v0 (by rw [← eQ]; exact hlp)
              rw [← eQ] at hk
              refine g_ist_4 C dX0_fits_96 (by decide) rfl ?_
              refine g_iload C dX0_fits_98 rfl ?_
              refine g_if_eq C 107 dX0_fits_100 (by decide) (by omega) (fun c_100 => ?_) (fun c_100 => ?_)
              · refine g_aload_n C dX0_fits_107 rfl ?_
                refine g_getR C 21 dX0_fits_108 f_X0_48 ⟨rfl, rfl⟩ rfl (by decide) ?_
                refine g_getR C 22 dX0_fits_111 f_X0_195 ⟨rfl, rfl⟩ rfl (by decide) ?_
                refine g_iload_n C dX0_fits_114 rfl ?_
                refine g_iald C 100 dX0_fits_115 ⟨rfl, rfl⟩ rfl (by omega) (fun r_115 => ?_)
                rw [d1] at r_115 ⊢
                refine g_istn_2 C dX0_fits_116 (by decide) rfl ?_
                refine g_iload C dX0_fits_117 rfl ?_
                refine g_if_eq C 130 dX0_fits_119 (by decide) (by omega) (fun c_119 => ?_) (fun c_119 => ?_)
                · refine g_bipush C dX0_fits_130 (by decide) ?_
                  refine g_ist_5 C dX0_fits_132 (by decide) rfl ?_
                  refine g_iload C dX0_fits_134 rfl ?_
                  refine g_if_lt C 150 dX0_fits_136 (by decide) (by omega) (fun c_136 => ?_) (fun c_136 => ?_)
                  · refine g_iload_n C dX0_fits_150 rfl ?_
                    refine g_istn_2 C dX0_fits_151 (by decide) rfl ?_
                    refine g_inc_3 C dX0_fits_152 (by decide) rfl ?_
                    refine g_goto C 25 dX0_fits_155 (by decide) ?_
                    exact ih (v + 1) _ _ _ M3 (by omega) (by omega) (by omega) hX3 hR3 hmu3 hk (by omega)
                  · exact absurd c_136 (by decide)
                · exact absurd c_119 (by decide)
              · exact absurd c_100 (by decide)
            have Y96 : ¬ kMis (kXnet M) T Q i v → kG p l e h s m args below meth c w 6 1 post 96 [vR 7 0, vI i, vI place, vI v, x4, x5] [vI 1] (M3) := by
              intro hmis
              have T123 : mm ≠ -6 → M 1 mm 0 = 123 → T (vAt Q v) = 123 := by
                intro m6 s1
                have mr : 0 ≤ mm ∧ mm < M 7 0 1 := by omega
                have hs := kXnet_s (M := M) mr
                have io : kIsOf (kXnet M) mm (T (vAt Q v)) (T (vAt Q v + 1) - 97) := Classical.byContradiction fun x => hmis ⟨fun a => by
                  rw [← em] at a
                  rcases a with a | a
                  · omega
                  · rw [hs] at a; omega, by rw [← em]; exact x⟩
                unfold kIsOf at io
                rw [hs] at io
                rcases io with io | io | io | io | io | io
                · exact absurd io.1 (by omega)
                · exact absurd io.1 (by omega)
                · exact absurd io.1 (by omega)
                · exact io.2
                · exact absurd io.1 (by omega)
                · exact absurd io.1 (by omega)
              obtain ⟨a, a1, hbg⟩ := vBg_all n hg v v0 (by rw [← eQ]; exact hv)
              have ea : vAt Q v = a := by rw [eQ]; exact hbg.1
              have LC : (M3 26 0 v ≠ -6 ∧ M3 1 (M3 26 0 v) 0 = 123 ∧ ∃ k, (0 ≤ k ∧ k < 8) ∧ M3 2 (M3 26 0 v) k ≠ -6 ∧ ¬ kLtB M3 v (M3 21 0 4) k) ↔ kLac (kXnet M) (vRun T n) i v := by
                rw [← eQ]
                unfold kLac
                rw [f26, f1, f2, ← em]
                constructor
                · rintro ⟨x1, x2, k, k1, k2, k3⟩
                  have mr : 0 ≤ mm ∧ mm < M 7 0 1 := by omega
                  exact ⟨mr.1, by rw [kXnet_s mr]; exact x2, k, k1, by rw [kXnet_p mr k1]; exact k2, fun z => k3 ((vMem_iff hR3 hup v0 k).2 z)⟩
                · rintro ⟨x1, x2, k, k1, k2, k3⟩
                  have mr : 0 ≤ mm ∧ mm < M 7 0 1 := by omega
                  rw [kXnet_s mr] at x2
                  rw [kXnet_p mr k1] at k2
                  exact ⟨by omega, x2, k, k1, k2, fun z => k3 ((vMem_iff hR3 hup v0 k).1 z)⟩
              have HL : M3 26 0 v ≠ -6 → M3 1 (M3 26 0 v) 0 = 123 → (∀ c, v < c → c < M3 21 0 4 → M3 23 0 c = v → 0 ≤ M3 24 0 c ∧ M3 24 0 c < 8) ∧ ∃ a e0 : Nat, M3 22 0 v = a ∧ a ≤ e0 ∧ e0 < 100 ∧ kD (M3 10 0) (e0 + 1) ≤ kD (M3 10 0) a := by
                rw [f26, f1, f10, d1, d21]
                intro m6 s1
                have t1 := T123 m6 s1
                refine ⟨fun c c0 c1 cu => ?_, a, n - 1, ea, by omega, by omega, ?_⟩
                · obtain ⟨-, g2, g3, -⟩ := hR3.2.2 c (by omega) c1
                  rw [g3]
                  rw [g2] at cu
                  exact hlt c (by omega) c1 (by omega) (by rw [cu]; exact Or.inl t1)
                · rw [show n - 1 + 1 = n by omega, hkn]
                  exact (vPl_op (vPl_all a (hg.le (by omega)))).1
              have CE : ∀ e : Nat, kEn2 (M3 10 0) a e → kLac (kXnet M) (vRun T n) i v → e < n ∧ vCl T v e := by
                intro e he hlac
                rw [f10] at he
                obtain ⟨q1, q2, q3⟩ := he
                have lt : e < n := by
                  by_cases z : e < n
                  · exact z
                  · exfalso
                    have := q3 (n - 1) (by omega) (by omega)
                    rw [show n - 1 + 1 = n by omega, hkn] at this
                    have := (vPl_op (vPl_all a (hg.le (by omega)))).1
                    omega
                have hla := LC.2 hlac
                rw [f26, f1] at hla
                have t1 := T123 hla.1 hla.2.1
                rw [ea] at t1
                exact ⟨lt, vEnd hg v0 hbg a1 (Or.inl t1) q1 lt q2 q3⟩
              rw [eQ] at hmis
              replace LC := fun _ : Unit => LC
              replace HL := fun _ : Unit => HL
              clear T123
              refine g_ist_4 C dX0_fits_96 (by decide) rfl ?_
              refine g_iload C dX0_fits_98 rfl ?_
              refine g_if_eq C 107 dX0_fits_100 (by decide) (by omega) (fun c_100 => ?_) (fun c_100 => ?_)
              · exact absurd c_100 (by decide)
              · refine g_iload_n C dX0_fits_103 rfl ?_
                refine g_goto C 116 dX0_fits_104 (by decide) ?_
                refine g_istn_2 C dX0_fits_116 (by decide) rfl ?_
                refine g_iload C dX0_fits_117 rfl ?_
                refine g_if_eq C 130 dX0_fits_119 (by decide) (by omega) (fun c_119 => ?_) (fun c_119 => ?_)
                · exact absurd c_119 (by decide)
                · refine g_aload_n C dX0_fits_122 rfl ?_
                  refine g_iload_n C dX0_fits_123 rfl ?_
                  refine g_callVi C dX0_fits_124 v_X0_221 (m_X0_lackOf (h := 6) (by omega) hI v M3 (by omega) (by omega) (by rw [f26]; omega) (HL ()) (fun _ _ q => q)) ⟨rfl, rfl⟩ rfl rfl (Nat.le_of_ble_eq_true rfl) (by omega) ?_
                  rintro z M' ⟨⟨hc, rfl⟩ | ⟨hc, b, e', eb, rfl, e3, e4⟩, rfl⟩
                  · replace hc := fun z => hc ((LC ()).2 z)
                    refine g_goto C 132 dX0_fits_127 (by decide) ?_
                    refine g_ist_5 C dX0_fits_132 (by decide) rfl ?_
                    refine g_iload C dX0_fits_134 rfl ?_
                    refine g_if_lt C 150 dX0_fits_136 (by decide) (by omega) (fun c_136 => ?_) (fun c_136 => ?_)
                    · refine g_iload_n C dX0_fits_150 rfl ?_
                      refine g_istn_2 C dX0_fits_151 (by decide) rfl ?_
                      refine g_inc_3 C dX0_fits_152 (by decide) rfl ?_
                      refine g_goto C 25 dX0_fits_155 (by decide) ?_
                      exact ih (v + 1) _ _ _ M3 (by omega) (by omega) (by omega) hX3 hR3 hmu3 (kPlc_no hpl hmis hc) hpr
                    · omega
                  · replace hc := (LC ()).1 hc
                    refine g_goto C 132 dX0_fits_127 (by decide) ?_
                    refine g_ist_5 C dX0_fits_132 (by decide) rfl ?_
                    refine g_iload C dX0_fits_134 rfl ?_
                    refine g_if_lt C 150 dX0_fits_136 (by decide) (by omega) (fun c_136 => ?_) (fun c_136 => ?_)
                    · omega
                    · refine g_iload C dX0_fits_139 rfl ?_
                      refine g_iload_n C dX0_fits_141 rfl ?_
                      refine g_ic_ge C 150 dX0_fits_142 (by decide) (by omega) (fun c_142 => ?_) (fun c_142 => ?_)
                      · refine g_iload_n C dX0_fits_150 rfl ?_
                        refine g_istn_2 C dX0_fits_151 (by decide) rfl ?_
                        refine g_inc_3 C dX0_fits_152 (by decide) rfl ?_
                        refine g_goto C 25 dX0_fits_155 (by decide) ?_
                        exact ih (v + 1) _ _ _ M3 (by omega) (by omega) (by omega) hX3 hR3 hmu3 (by
                        obtain ⟨g1, g2⟩ := CE e' (by rw [show a = b by omega]; exact e4) hc
                        have k := kPlc_lac hg hpl hmis v0 g1 g2 hc
                        rw [if_neg (by omega)] at k
                        exact k) (by omega)
                      · refine g_iload C dX0_fits_145 rfl ?_
                        refine g_goto C 151 dX0_fits_147 (by decide) ?_
                        refine g_istn_2 C dX0_fits_151 (by decide) rfl ?_
                        refine g_inc_3 C dX0_fits_152 (by decide) rfl ?_
                        refine g_goto C 25 dX0_fits_155 (by decide) ?_
                        exact ih (v + 1) _ _ _ M3 (by omega) (by omega) (by omega) hX3 hR3 hmu3 (by
                        obtain ⟨g1, g2⟩ := CE e' (by rw [show a = b by omega]; exact e4) hc
                        have k := kPlc_lac hg hpl hmis v0 g1 g2 hc
                        rw [if_pos (by assumption)] at k
                        exact k) (by omega)
            have hat2 := hat' 
            have LA : M3 10 0 (M3 22 0 v) = 91 → 0 ≤ M3 25 0 v ∧ M3 25 0 v < 8 := by
              rw [f10, d1, d4]
              exact fun t => (LI t).2
            clear LI
            refine g_aload_n C dX0_fits_61 rfl ?_
            refine g_getR C 26 dX0_fits_62 f_X0_52 ⟨rfl, rfl⟩ rfl (by decide) ?_
            refine g_iload_n C dX0_fits_65 rfl ?_
            refine g_iald C 100 dX0_fits_66 ⟨rfl, rfl⟩ rfl (by omega) (fun r_66 => ?_)
            rw [f26] at r_66 ⊢
            refine g_bipush C dX0_fits_67 (by decide) ?_
            refine g_ic_eq C 91 dX0_fits_69 (by decide) (by omega) (fun c_69 => ?_) (fun c_69 => ?_)
            · refine g_iconst C dX0_fits_91 ?_
              refine g_goto C 96 dX0_fits_92 (by decide) ?_
              exact Y96 (fun z => z.1 (Or.inl (by rw [← em]; omega)))
            · refine g_aload_n C dX0_fits_72 rfl ?_
              refine g_aload_n C dX0_fits_73 rfl ?_
              refine g_getR C 8 dX0_fits_74 f_X0_11 ⟨rfl, rfl⟩ rfl (by decide) ?_
              refine g_aload_n C dX0_fits_77 rfl ?_
              refine g_getR C 26 dX0_fits_78 f_X0_52 ⟨rfl, rfl⟩ rfl (by decide) ?_
              refine g_iload_n C dX0_fits_81 rfl ?_
              refine g_iald C 100 dX0_fits_82 ⟨rfl, rfl⟩ rfl (by omega) (fun r_82 => ?_)
              rw [f26] at r_82 ⊢
              refine g_aald C 1 60 dX0_fits_83 ⟨rfl, by decide, by decide⟩ (by decide) rfl (by omega) ?_
              refine g_iload_n C dX0_fits_84 rfl ?_
              refine g_callVi C dX0_fits_85 v_X0_217 (m_X0_isOf (h := 6) (by omega) hI mm v M3 (by omega) (by rw [d1]; omega) LA (fun _ _ q => q)) ⟨rfl, rfl⟩ rfl rfl (Nat.le_of_ble_eq_true rfl) (by omega) ?_
              rintro z M' ⟨⟨hz, rfl⟩ | ⟨hz, rfl⟩, rfl⟩
              · refine g_if_eq C 95 dX0_fits_88 (by decide) (by omega) (fun c_88 => ?_) (fun c_88 => ?_)
                · omega
                · refine g_iconst C dX0_fits_91 ?_
                  refine g_goto C 96 dX0_fits_92 (by decide) ?_
                  exact Y96 ((KX (by assumption)).1 hz)
              · refine g_if_eq C 95 dX0_fits_88 (by decide) (by omega) (fun c_88 => ?_) (fun c_88 => ?_)
                · refine g_iconst C dX0_fits_95 ?_
                  exact N96 (Classical.byContradiction fun x => hz ((KX (by assumption)).2 x))
                · omega
          refine g_aload_n C dX0_fits_49 rfl ?_
          refine g_getR C 26 dX0_fits_50 f_X0_52 ⟨rfl, rfl⟩ rfl (by decide) ?_
          refine g_iload_n C dX0_fits_53 rfl ?_
          refine g_aload_n C dX0_fits_54 rfl ?_
          refine g_iload_n C dX0_fits_55 rfl ?_
          refine g_iload_n C dX0_fits_56 rfl ?_
          refine g_callVi C dX0_fits_57 v_X0_214 (m_X0_mustBe (h := 6) hI v i M2 (by omega) MB (fun _ _ q => q)) ⟨rfl, rfl⟩ rfl rfl (Nat.le_of_ble_eq_true rfl) (by omega) ?_
          rintro z2 M' ⟨hz2, rfl⟩
          have hz2 := ZM z2 hz2
          rw [hz2]
          refine g_iast C 100 dX0_fits_60 ⟨rfl, rfl⟩ rfl (by omega) (by omega) ?_
          exact REST _ hX.up hR2.up (fun u u0 u1 => by
          by_cases q : u = v
          · rw [q, kUp_eq]; exact em
          · rw [kUp_nk q]; exact hmu u u0 (by omega))
        refine g_iload_n C dX0_fits_25 rfl ?_
        refine g_aload_n C dX0_fits_26 rfl ?_
        refine g_getR C 21 dX0_fits_27 f_X0_48 ⟨rfl, rfl⟩ rfl (by decide) ?_
        refine g_getI C 4 dX0_fits_30 f_X0_207 ⟨rfl, rfl⟩ rfl rfl (fun r_30 => ?_)
        rw [r1] at r_30 ⊢
        refine g_ic_ge C 158 dX0_fits_33 (by decide) (by omega) (fun c_33 => ?_) (fun c_33 => ?_)
        · exact E158 (Or.inl (by omega))
        · refine g_iload_n C dX0_fits_36 rfl ?_
          refine g_aload_n C dX0_fits_37 rfl ?_
          refine g_getR C 21 dX0_fits_38 f_X0_48 ⟨rfl, rfl⟩ rfl (by decide) ?_
          refine g_getR C 22 dX0_fits_41 f_X0_195 ⟨rfl, rfl⟩ rfl (by decide) ?_
          refine g_iload_n C dX0_fits_44 rfl ?_
          refine g_iald C 100 dX0_fits_45 ⟨rfl, rfl⟩ rfl (by omega) (fun r_45 => ?_)
          rw [(r3 v v0 (by omega)).1] at r_45 ⊢
          refine g_ic_le C 158 dX0_fits_46 (by decide) (by omega) (fun c_46 => ?_) (fun c_46 => ?_)
          · exact E158 (Or.inr (by omega))
          · exact BODY (by omega) (by omega)
    refine g_bipush C dX0_fits_20 (by decide) ?_
    refine g_istn_2 C dX0_fits_22 (by decide) rfl ?_
    refine g_iconst C dX0_fits_23 ?_
    refine g_istn_3 C dX0_fits_24 (by decide) rfl ?_
    exact L (vMn Q + 1).toNat 0 100 _ _ M1 (by omega) (by omega) (by omega) (kXf.of hF) hR (fun u u0 u1 => by omega) ⟨fun z ⟨u, hu, _⟩ => by omega, Or.inl rfl⟩ (by omega)
  refine g_aload_n C dX0_fits_0 rfl ?_
  refine g_iload_n C dX0_fits_1 rfl ?_
  refine g_callVi C dX0_fits_2 v_X0_132 (m_X0_isNode (h := 6) (by omega) hI i M hi hn1 (fun _ _ q => q)) ⟨rfl, rfl⟩ rfl rfl (Nat.le_of_ble_eq_true rfl) (by omega) ?_
  rintro z1 M' ⟨⟨hz1, rfl⟩ | ⟨hz1, rfl⟩, rfl⟩
  · refine g_if_ne C 10 dX0_fits_5 (by decide) (by omega) (fun c_5 => ?_) (fun c_5 => ?_)
    · refine g_aload_n C dX0_fits_10 rfl ?_
      refine g_callVi C dX0_fits_11 v_X0_211 (m_X0_slip (h := 6) (by omega) hI M hn (fun _ _ q => q)) ⟨rfl, rfl⟩ rfl rfl (Nat.le_of_ble_eq_true rfl) (by omega) ?_
      rintro z M' ⟨hF, hz, hR⟩
      have hzr := kSlA_rng hn.1 hz
      refine g_if_lt C 20 dX0_fits_14 (by decide) (by omega) (fun c_14 => ?_) (fun c_14 => ?_)
      · exact IN hz1 _ hF z hz (by omega) (hR (by omega))
      · refine g_bipush C dX0_fits_17 (by decide) ?_
        exact g_iret C dX0_fits_19 (hp _ _ ⟨kXf.of hF, Or.inr ⟨hz1, z, hz, Or.inl ⟨by omega, rfl⟩⟩⟩)
    · omega
  · refine g_if_ne C 10 dX0_fits_5 (by decide) (by omega) (fun c_5 => ?_) (fun c_5 => ?_)
    · omega
    · refine g_iconst C dX0_fits_8 ?_
      exact g_iret C dX0_fits_9 (hp _ _ ⟨fun _ _ => rfl, Or.inl ⟨hz1, rfl⟩⟩)
end

