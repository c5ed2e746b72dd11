/-! KindNets: stepDown, way, end -/
set_option maxRecDepth 100000
section
variable {l : Launch} {w : KL} {h : Nat} {post : Int → KM → Prop}
theorem m_X0_stepDown (hh : 3 ≤ h) (hI : kInj w) (i k : Int) (M : KM) (hN : kWF (kXnet M)) (hF : ∀ i k, kIn2 (kXnet M) i k → kFN (kXnet M) i k (M 5 i k)) (hi : 0 ≤ i ∧ i < M 7 0 1) (hk : 0 ≤ k ∧ k < M 7 0 1) (hv : 0 < M 5 i k) (hp : ∀ z M', kDn (kXnet M) i k z ∧ M = M' → post z M') : kMet l w yX0_stepDown cX0_stepDown 5 (some .int) 1 h [vR 7 0, vI i, vI k] M post := by
  obtain ⟨hn, -, -, -, -⟩ := kXwf hN
  have hik : kIn2 (kXnet M) i k := ⟨hi, hk⟩
  have hfn := hF i k hik
  obtain ⟨g, hg1, hg2, hg3⟩ := kDn_ex hfn hv
  refine kMet_of [vR 7 0, vI i, vI k, vN, vN] (by decide) hI rfl rfl (Nat.le_of_ble_eq_true rfl) ?_
  intro p e s m args below meth c C hVok
  have L : ∀ (n : Nat) (c0 : Int) (x4 : KV), 0 ≤ c0 → c0 ≤ g → g + 1 ≤ c0 + n → (∀ d, 0 ≤ d → d < c0 → (kStep (kXnet M) i k d).1 ≠ -6 → ¬ kFN (kXnet M) (kStep (kXnet M) i k d).1 (kStep (kXnet M) i k d).2 (M 5 i k - 1)) → kG p l e h s m args below meth c w 5 1 post 2 [vR 7 0, vI i, vI k, vI c0, x4] [] (M) := by
    intro n
    induction n with
    | zero => intro c0 x4 h1 h2 h3; omega
    | succ n ih =>
      intro c0 x4 h1 h2 h3 h4
      have K : (kStep (kXnet M) i k c0).1 ≠ -6 → kFN (kXnet M) (kStep (kXnet M) i k c0).1 (kStep (kXnet M) i k c0).2 (M 5 (kStep (kXnet M) i k c0).1 (kStep (kXnet M) i k c0).2) := by
        intro hne
        rcases kStep_in hN hik (c := c0) (by omega) with q | q
        · rw [q] at hne; exact absurd rfl hne
        · exact hF _ _ q.2
      have next : ((kStep (kXnet M) i k c0).1 ≠ -6 → ¬ kFN (kXnet M) (kStep (kXnet M) i k c0).1 (kStep (kXnet M) i k c0).2 (M 5 i k - 1)) → ∀ x4, kG p l e h s m args below meth c w 5 1 post 2 [vR 7 0, vI i, vI k, vI (c0 + 1), x4] [] (M) := by
        intro hq x4
        have hlt : c0 < g := by
          rcases Int.lt_trichotomy c0 g with q | q | q
          · exact q
          · subst q; exact absurd hg3 (hq hg2)
          · omega
        refine ih (c0 + 1) x4 (by omega) (by omega) (by omega) (fun d hd1 hd2 => ?_)
        by_cases q : d = c0
        · subst q; exact hq
        · exact h4 d hd1 (by omega)
      refine g_aload_n C dX0_stepDown_2 rfl ?_
      refine g_iload_n C dX0_stepDown_3 rfl ?_
      refine g_iload_n C dX0_stepDown_4 rfl ?_
      refine g_iload_n C dX0_stepDown_5 rfl ?_
      refine g_callVi C dX0_stepDown_6 v_X0_151 (m_X0_stepTo (h := 2) (by omega) hI i k c0 M hN hi hk (by omega) (fun _ _ q => q)) ⟨rfl, rfl⟩ rfl rfl (Nat.le_of_ble_eq_true rfl) (by omega) ?_
      rintro z M' ⟨⟨e, rfl⟩ | ⟨x, y, e, hx, hy, rfl⟩, rfl⟩
      · refine g_ist_4 C dX0_stepDown_9 (by decide) rfl ?_
        refine g_iload C dX0_stepDown_11 rfl ?_
        refine g_if_lt C 47 dX0_stepDown_13 (by decide) (by omega) (fun c_13 => ?_) (fun c_13 => ?_)
        · refine g_inc_3 C dX0_stepDown_47 (by decide) rfl ?_
          refine g_goto C 2 dX0_stepDown_50 (by decide) ?_
          refine next (fun hne => ?_) _
          rw [e] at hne
          exact absurd rfl hne
        · omega
      · refine g_ist_4 C dX0_stepDown_9 (by decide) rfl ?_
        refine g_iload C dX0_stepDown_11 rfl ?_
        refine g_if_lt C 47 dX0_stepDown_13 (by decide) (by omega) (fun c_13 => ?_) (fun c_13 => ?_)
        · omega
        · refine g_aload_n C dX0_stepDown_16 rfl ?_
          refine g_getR C 18 dX0_stepDown_17 f_X0_35 ⟨rfl, rfl⟩ rfl (by decide) ?_
          refine g_iload C dX0_stepDown_20 rfl ?_
          refine g_bipush C dX0_stepDown_22 (by decide) ?_
          refine g_idiv C dX0_stepDown_24 (by omega) ?_
          rw [show (100 * x + y) / 100 = x by omega]
          refine g_aald C 5 60 dX0_stepDown_25 ⟨rfl, by decide, by decide⟩ (by decide) rfl (by omega) ?_
          refine g_iload C dX0_stepDown_26 rfl ?_
          refine g_bipush C dX0_stepDown_28 (by decide) ?_
          refine g_irem C dX0_stepDown_30 (by omega) ?_
          rw [show (100 * x + y) % 100 = y by omega]
          refine g_iald C 60 dX0_stepDown_31 ⟨rfl, rfl⟩ rfl (by omega) (fun r_31 => ?_)
          refine g_aload_n C dX0_stepDown_32 rfl ?_
          refine g_getR C 18 dX0_stepDown_33 f_X0_35 ⟨rfl, rfl⟩ rfl (by decide) ?_
          refine g_iload_n C dX0_stepDown_36 rfl ?_
          refine g_aald C 5 60 dX0_stepDown_37 ⟨rfl, by decide, by decide⟩ (by decide) rfl (by omega) ?_
          refine g_iload_n C dX0_stepDown_38 rfl ?_
          refine g_iald C 60 dX0_stepDown_39 ⟨rfl, rfl⟩ rfl (by omega) (fun r_39 => ?_)
          refine g_iconst C dX0_stepDown_40 ?_
          refine g_isub C dX0_stepDown_41 ?_
          refine g_ic_ne C 47 dX0_stepDown_42 (by decide) (by omega) (fun c_42 => ?_) (fun c_42 => ?_)
          · refine g_inc_3 C dX0_stepDown_47 (by decide) rfl ?_
            refine g_goto C 2 dX0_stepDown_50 (by decide) ?_
            refine next (fun hne hq => c_42 ?_) _
            have K := K hne
            rw [e] at K hq
            exact kFN_uniq K hq
          · refine g_iload_n C dX0_stepDown_45 rfl ?_
            exact g_iret C dX0_stepDown_46 (hp _ _ ⟨⟨by omega, M 5 i k, hfn, hv, by rw [e]; dsimp only; omega, by rw [← c_42]; have K := K (by rw [e]; dsimp only; omega); rw [e] at K ⊢; exact K, h4⟩, rfl⟩)
  refine g_iconst C dX0_stepDown_0 ?_
  refine g_istn_3 C dX0_stepDown_1 (by decide) rfl ?_
  exact L (g + 1).toNat 0 _ (by omega) (by omega) (by omega) (fun d h1 h2 => by omega)
theorem m_X0_way (hh : 6 ≤ h) (hI : kInj w) (i k j : Int) (M : KM) (hN : kWF (kXnet M)) (hK : kKn M) (hi : -2147483648 ≤ i ∧ i < 2147483648) (hk : -2147483648 ≤ k ∧ k < 2147483648) (hj : -2147483648 ≤ j ∧ j < 2147483648) (hp : ∀ z M', (¬ kIn2 (kXnet M) i k ∧ z = -1 ∧ M = M') ∨ (kIn2 (kXnet M) i k ∧ kFF M M' ∧ kWay (kXnet M) i k j z) → post z M') : kMet l w yX0_way cX0_way 6 (some .int) 1 h [vR 7 0, vI i, vI k, vI j] M post := by
  obtain ⟨hn, -, -, -, -⟩ := kXwf hN
  have eik : kIn2 (kXnet M) i k ↔ (0 ≤ i ∧ i < M 7 0 1) ∧ 0 ≤ k ∧ k < M 7 0 1 := Iff.rfl
  rw [eik] at hp
  refine kMet_of [vR 7 0, vI i, vI k, vI j, vN, vN] (by decide) hI rfl rfl (Nat.le_of_ble_eq_true rfl) ?_
  intro p e s m args below meth c C hVok
  have B : ∀ M1, kFF M M1 → (0 ≤ i ∧ i < M 7 0 1) → (0 ≤ k ∧ k < M 7 0 1) → (0 ≤ j ∧ j < M1 5 i k) → ∀ (n : Nat) (q a b : Int) (x5 : KV), 0 ≤ q → q ≤ j → j + 1 ≤ q + n → kPath (kXnet M) q.toNat i k a b → kG p l e h s m args below meth c w 6 1 post 77 [vR 7 0, vI i, vI k, vI j, vI (100 * a + b), vI q] [] (M1) := by
    intro M1 hF hi2 hk2 hj2 n
    have hm1 := hF.many
    have hN1 : kWF (kXnet M1) := by rw [hF.net]; exact hN
    have hF1 : ∀ i k, kIn2 (kXnet M1) i k → kFN (kXnet M1) i k (M1 5 i k) := by rw [hF.net]; exact hF.2.2.2
    induction n with
    | zero => intro q a b x5 h1 h2 h3; omega
    | succ n ih =>
      intro q a b x5 hs1 hs2 hs3 hP
      obtain ⟨⟨ha, hb⟩, hv⟩ := kPath_to hN ⟨hi2, hk2⟩ hP (hF.2.2.2 i k ⟨hi2, hk2⟩)
      rw [kXnet_n] at ha hb
      have hpos : 0 < M1 5 a b := by
        have e := kFN_uniq hv (hF.2.2.2 a b ⟨ha, hb⟩)
        omega
      have e1 : (100 * a + b) / 100 = a := by omega
      have e2 : (100 * a + b) % 100 = b := by omega
      refine g_iload C dX0_way_77 rfl ?_
      refine g_iload_n C dX0_way_79 rfl ?_
      refine g_ic_ge C 119 dX0_way_80 (by decide) (by omega) (fun c_80 => ?_) (fun c_80 => ?_)
      · refine g_aload_n C dX0_way_119 rfl ?_
        refine g_iload C dX0_way_120 rfl ?_
        refine g_bipush C dX0_way_122 (by decide) ?_
        refine g_idiv C dX0_way_124 (by omega) ?_
        rw [e1]
        refine g_iload C dX0_way_125 rfl ?_
        refine g_bipush C dX0_way_127 (by decide) ?_
        refine g_irem C dX0_way_129 (by omega) ?_
        rw [e2]
        refine g_callVi C dX0_way_130 v_X0_170 (m_X0_stepDown (h := 3) (by omega) hI a b M1 hN1 hF1 (by omega) (by omega) hpos (fun _ _ q => q)) ⟨rfl, rfl⟩ rfl rfl (Nat.le_of_ble_eq_true rfl) (by omega) ?_
        rintro z M' ⟨hz, rfl⟩
        rw [hF.net] at hz
        exact g_iret C dX0_way_133 (hp _ _ (Or.inr ⟨⟨hi2, hk2⟩, hF, _, hF.2.2.2 i k ⟨hi2, hk2⟩, Or.inr (Or.inr (Or.inl ⟨hj2, a, b, by rw [show j = q by omega]; exact hP, hz⟩))⟩))
      · refine g_aload_n C dX0_way_83 rfl ?_
        refine g_iload C dX0_way_84 rfl ?_
        refine g_bipush C dX0_way_86 (by decide) ?_
        refine g_idiv C dX0_way_88 (by omega) ?_
        rw [e1]
        refine g_iload C dX0_way_89 rfl ?_
        refine g_bipush C dX0_way_91 (by decide) ?_
        refine g_irem C dX0_way_93 (by omega) ?_
        rw [e2]
        refine g_aload_n C dX0_way_94 rfl ?_
        refine g_iload C dX0_way_95 rfl ?_
        refine g_bipush C dX0_way_97 (by decide) ?_
        refine g_idiv C dX0_way_99 (by omega) ?_
        rw [e1]
        refine g_iload C dX0_way_100 rfl ?_
        refine g_bipush C dX0_way_102 (by decide) ?_
        refine g_irem C dX0_way_104 (by omega) ?_
        rw [e2]
        refine g_callVi C dX0_way_105 v_X0_170 (m_X0_stepDown (h := 3) (by omega) hI a b M1 hN1 hF1 (by omega) (by omega) hpos (fun _ _ q => q)) ⟨rfl, rfl⟩ rfl rfl (Nat.le_of_ble_eq_true rfl) (by omega) ?_
        rintro z M' ⟨hz, rfl⟩
        rw [hF.net] at hz
        obtain ⟨-, hst, -⟩ := kDn_to hN ⟨ha, hb⟩ hz hv
        have hc := hz.1
        refine g_callVi C dX0_way_108 v_X0_151 (m_X0_stepTo (h := 3) (by omega) hI a b z M1 hN1 (by omega) (by omega) hc (fun _ _ q => q)) ⟨rfl, rfl⟩ rfl rfl (Nat.le_of_ble_eq_true rfl) (by omega) ?_
        rintro z2 M' ⟨hz2, rfl⟩
        rw [hF.net] at hz2
        obtain ⟨x, y, e, hx, hy, rfl⟩ : ∃ x y, kStep (kXnet M) a b z = (x, y) ∧ (0 ≤ x ∧ x < M1 7 0 1) ∧ (0 ≤ y ∧ y < M1 7 0 1) ∧ z2 = 100 * x + y := by
          rcases hz2 with ⟨e, -⟩ | q
          · rw [e] at hst
            exact absurd hst.1.1 (by decide)
          · exact q
        refine g_ist_4 C dX0_way_111 (by decide) rfl ?_
        refine g_inc_5 C dX0_way_113 (by decide) rfl ?_
        refine g_goto C 77 dX0_way_116 (by decide) ?_
        exact ih (q + 1) x y x5 (by omega) (by omega) (by omega) (by rw [show (q + 1).toNat = q.toNat + 1 by omega]; exact ⟨a, b, z, hP, hz, by rw [e], by rw [e]⟩)
  refine g_aload_n C dX0_way_0 rfl ?_
  refine g_iload_n C dX0_way_1 rfl ?_
  refine g_callVi C dX0_way_2 v_X0_132 (m_X0_isNode (h := 2) (by omega) hI i M (by omega) hn (fun _ _ q => q)) ⟨rfl, rfl⟩ rfl rfl (Nat.le_of_ble_eq_true rfl) (by omega) ?_
  rintro z M' ⟨hz, rfl⟩
  refine g_if_eq C 16 dX0_way_5 (by decide) (by omega) (fun c_5 => ?_) (fun c_5 => ?_)
  · refine g_iconst C dX0_way_16 ?_
    exact g_iret C dX0_way_17 (hp _ _ (Or.inl ⟨by omega, rfl, rfl⟩))
  · refine g_aload_n C dX0_way_8 rfl ?_
    refine g_iload_n C dX0_way_9 rfl ?_
    refine g_callVi C dX0_way_10 v_X0_132 (m_X0_isNode (h := 2) (by omega) hI k M (by omega) hn (fun _ _ q => q)) ⟨rfl, rfl⟩ rfl rfl (Nat.le_of_ble_eq_true rfl) (by omega) ?_
    rintro z2 M' ⟨hz2, rfl⟩
    refine g_if_ne C 18 dX0_way_13 (by decide) (by omega) (fun c_13 => ?_) (fun c_13 => ?_)
    · refine g_aload_n C dX0_way_18 rfl ?_
      refine g_iload_n C dX0_way_19 rfl ?_
      refine g_iload_n C dX0_way_20 rfl ?_
      refine g_callVi C dX0_way_21 v_X0_166 (m_X0_stands (h := 5) (by omega) hI i k M hN hK (by omega) (by omega) (fun _ _ q => q)) ⟨rfl, rfl⟩ rfl rfl (Nat.le_of_ble_eq_true rfl) (by omega) ?_
      rintro z3 M1 ⟨hF, hz3⟩
      have hfn := hF.2.2.2 i k (eik.mpr (by omega))
      have hv6 : M1 5 i k = -6 ∨ 0 ≤ M1 5 i k := by
        rcases hfn with q | q
        · exact Or.inl q.1
        · exact Or.inr q.1
      refine g_if_ne C 49 dX0_way_24 (by decide) (by omega) (fun c_24 => ?_) (fun c_24 => ?_)
      · refine g_bipush C dX0_way_49 (by decide) ?_
        exact g_iret C dX0_way_51 (hp _ _ (Or.inr ⟨by omega, hF, _, hfn, by first | exact Or.inl ⟨by omega, rfl⟩ | exact Or.inr (Or.inr (Or.inr ⟨by omega, by omega, rfl⟩))⟩))
      · refine g_iload_n C dX0_way_27 rfl ?_
        refine g_i2l C dX0_way_28 (by omega) ?_
        refine g_ldc2 C (-1) q314 dX0_way_29 (by decide) ?_
        refine g_aload_n C dX0_way_32 rfl ?_
        refine g_getR C 18 dX0_way_33 f_X0_35 ⟨rfl, rfl⟩ rfl (by decide) ?_
        refine g_iload_n C dX0_way_36 rfl ?_
        refine g_aald C 5 60 dX0_way_37 ⟨rfl, by decide, by decide⟩ (by decide) rfl (by omega) ?_
        refine g_iload_n C dX0_way_38 rfl ?_
        refine g_iald C 60 dX0_way_39 ⟨rfl, rfl⟩ rfl (by omega) (fun r_39 => ?_)
        refine g_i2l C dX0_way_40 (by omega) ?_
        refine g_lconst C (1) dX0_way_41 (by decide) ?_
        refine g_lsub C dX0_way_42 ?_
        refine g_callSi C dX0_way_43 s_X0_72 (m_X0_isIn (h := 1) hI j (-1) (M1 5 i k - 1) M1 (by omega) (fun _ _ q => q)) rfl rfl (Nat.le_of_ble_eq_true rfl) (by omega) ?_
        rintro z4 M' ⟨hz4, rfl⟩
        refine g_if_ne C 52 dX0_way_46 (by decide) (by omega) (fun c_46 => ?_) (fun c_46 => ?_)
        · refine g_iload_n C dX0_way_52 rfl ?_
          refine g_iconst C dX0_way_53 ?_
          refine g_ic_ne C 66 dX0_way_54 (by decide) (by omega) (fun c_54 => ?_) (fun c_54 => ?_)
          · refine g_bipush C dX0_way_66 (by decide) ?_
            refine g_iload_n C dX0_way_68 rfl ?_
            refine g_imul C dX0_way_69 ?_
            refine g_iload_n C dX0_way_70 rfl ?_
            refine g_iadd C dX0_way_71 ?_
            refine g_ist_4 C dX0_way_72 (by decide) rfl ?_
            refine g_iconst C dX0_way_74 ?_
            refine g_ist_5 C dX0_way_75 (by decide) rfl ?_
            exact B M1 hF (by omega) (by omega) (by omega) (j + 1).toNat 0 i k vN (by omega) (by omega) (by omega) ⟨rfl, rfl⟩
          · refine g_aload_n C dX0_way_57 rfl ?_
            refine g_getR C 18 dX0_way_58 f_X0_35 ⟨rfl, rfl⟩ rfl (by decide) ?_
            refine g_iload_n C dX0_way_61 rfl ?_
            refine g_aald C 5 60 dX0_way_62 ⟨rfl, by decide, by decide⟩ (by decide) rfl (by omega) ?_
            refine g_iload_n C dX0_way_63 rfl ?_
            refine g_iald C 60 dX0_way_64 ⟨rfl, rfl⟩ rfl (by omega) (fun r_64 => ?_)
            exact g_iret C dX0_way_65 (hp _ _ (Or.inr ⟨by omega, hF, _, hfn, Or.inr (Or.inl ⟨by omega, by omega, rfl⟩)⟩))
        · refine g_bipush C dX0_way_49 (by decide) ?_
          exact g_iret C dX0_way_51 (hp _ _ (Or.inr ⟨by omega, hF, _, hfn, by first | exact Or.inl ⟨by omega, rfl⟩ | exact Or.inr (Or.inr (Or.inr ⟨by omega, by omega, rfl⟩))⟩))
    · refine g_iconst C dX0_way_16 ?_
      exact g_iret C dX0_way_17 (hp _ _ (Or.inl ⟨by omega, rfl, rfl⟩))
theorem m_X0_end (hh : 6 ≤ h) (hI : kInj w) (i k : Int) (M : KM) (hN : kWF (kXnet M)) (hK : kKn M) (hi : -2147483648 ≤ i ∧ i < 2147483648) (hk : -2147483648 ≤ k ∧ k < 2147483648) (hp : ∀ z M', (¬ kIn2 (kXnet M) i k ∧ z = -1 ∧ M = M') ∨ (kIn2 (kXnet M) i k ∧ kFF M M' ∧ kEndA (kXnet M) i k z) → post z M') : kMet l w yX0_end cX0_end 4 (some .int) 1 h [vR 7 0, vI i, vI k] M post := by
  obtain ⟨hn, -, -, -, -⟩ := kXwf hN
  have eik : kIn2 (kXnet M) i k ↔ (0 ≤ i ∧ i < M 7 0 1) ∧ 0 ≤ k ∧ k < M 7 0 1 := Iff.rfl
  rw [eik] at hp
  refine kMet_of [vR 7 0, vI i, vI k, vN] (by decide) hI rfl rfl (Nat.le_of_ble_eq_true rfl) ?_
  intro p e s m args below meth c C hVok
  have B : ∀ M1, kFF M M1 → (0 ≤ i ∧ i < M 7 0 1) → (0 ≤ k ∧ k < M 7 0 1) → 0 ≤ M1 5 i k → ∀ (n : Nat) (q a b : Int), 0 ≤ q → q ≤ M1 5 i k → M1 5 i k + 1 ≤ q + n → kPath (kXnet M) q.toNat i k a b → kG p l e h s m args below meth c w 4 1 post 37 [vR 7 0, vI i, vI k, vI (100 * a + b)] [] (M1) := by
    intro M1 hF hi2 hk2 hj2 n
    have hm1 := hF.many
    have hN1 : kWF (kXnet M1) := by rw [hF.net]; exact hN
    have hF1 : ∀ i k, kIn2 (kXnet M1) i k → kFN (kXnet M1) i k (M1 5 i k) := by rw [hF.net]; exact hF.2.2.2
    induction n with
    | zero => intro q a b h1 h2 h3; omega
    | succ n ih =>
      intro q a b hs1 hs2 hs3 hP
      obtain ⟨⟨ha, hb⟩, hv⟩ := kPath_to hN ⟨hi2, hk2⟩ hP (hF.2.2.2 i k ⟨hi2, hk2⟩)
      rw [kXnet_n] at ha hb
      have hval : M1 5 a b = M1 5 i k - q := by
        have e := kFN_uniq hv (hF.2.2.2 a b ⟨ha, hb⟩)
        omega
      have e1 : (100 * a + b) / 100 = a := by omega
      have e2 : (100 * a + b) % 100 = b := by omega
      refine g_aload_n C dX0_end_37 rfl ?_
      refine g_getR C 18 dX0_end_38 f_X0_35 ⟨rfl, rfl⟩ rfl (by decide) ?_
      refine g_iload_n C dX0_end_41 rfl ?_
      refine g_bipush C dX0_end_42 (by decide) ?_
      refine g_idiv C dX0_end_44 (by omega) ?_
      rw [e1]
      refine g_aald C 5 60 dX0_end_45 ⟨rfl, by decide, by decide⟩ (by decide) rfl (by omega) ?_
      refine g_iload_n C dX0_end_46 rfl ?_
      refine g_bipush C dX0_end_47 (by decide) ?_
      refine g_irem C dX0_end_49 (by omega) ?_
      rw [e2]
      refine g_iald C 60 dX0_end_50 ⟨rfl, rfl⟩ rfl (by omega) (fun r_50 => ?_)
      refine g_if_le C 82 dX0_end_51 (by decide) (by omega) (fun c_51 => ?_) (fun c_51 => ?_)
      · refine g_iload_n C dX0_end_82 rfl ?_
        exact g_iret C dX0_end_83 (hp _ _ (Or.inr ⟨⟨hi2, hk2⟩, hF, _, hF.2.2.2 i k ⟨hi2, hk2⟩, Or.inr ⟨by omega, a, b, by rw [show M1 5 i k = q by omega]; exact hP, rfl⟩⟩))
      · refine g_aload_n C dX0_end_54 rfl ?_
        refine g_iload_n C dX0_end_55 rfl ?_
        refine g_bipush C dX0_end_56 (by decide) ?_
        refine g_idiv C dX0_end_58 (by omega) ?_
        rw [e1]
        refine g_iload_n C dX0_end_59 rfl ?_
        refine g_bipush C dX0_end_60 (by decide) ?_
        refine g_irem C dX0_end_62 (by omega) ?_
        rw [e2]
        refine g_aload_n C dX0_end_63 rfl ?_
        refine g_iload_n C dX0_end_64 rfl ?_
        refine g_bipush C dX0_end_65 (by decide) ?_
        refine g_idiv C dX0_end_67 (by omega) ?_
        rw [e1]
        refine g_iload_n C dX0_end_68 rfl ?_
        refine g_bipush C dX0_end_69 (by decide) ?_
        refine g_irem C dX0_end_71 (by omega) ?_
        rw [e2]
        refine g_callVi C dX0_end_72 v_X0_170 (m_X0_stepDown (h := 3) (by omega) hI a b M1 hN1 hF1 (by omega) (by omega) (by omega) (fun _ _ q => q)) ⟨rfl, rfl⟩ rfl rfl (Nat.le_of_ble_eq_true rfl) (by omega) ?_
        rintro z M' ⟨hz, rfl⟩
        rw [hF.net] at hz
        obtain ⟨-, hst, -⟩ := kDn_to hN ⟨ha, hb⟩ hz hv
        have hc := hz.1
        refine g_callVi C dX0_end_75 v_X0_151 (m_X0_stepTo (h := 3) (by omega) hI a b z M1 hN1 (by omega) (by omega) hc (fun _ _ q => q)) ⟨rfl, rfl⟩ rfl rfl (Nat.le_of_ble_eq_true rfl) (by omega) ?_
        rintro z2 M' ⟨hz2, rfl⟩
        rw [hF.net] at hz2
        obtain ⟨x, y, e, hx, hy, rfl⟩ : ∃ x y, kStep (kXnet M) a b z = (x, y) ∧ (0 ≤ x ∧ x < M1 7 0 1) ∧ (0 ≤ y ∧ y < M1 7 0 1) ∧ z2 = 100 * x + y := by
          rcases hz2 with ⟨e, -⟩ | q
          · rw [e] at hst
            exact absurd hst.1.1 (by decide)
          · exact q
        refine g_istn_3 C dX0_end_78 (by decide) rfl ?_
        refine g_goto C 37 dX0_end_79 (by decide) ?_
        exact ih (q + 1) x y (by omega) (by omega) (by omega) (by rw [show (q + 1).toNat = q.toNat + 1 by omega]; exact ⟨a, b, z, hP, hz, by rw [e], by rw [e]⟩)
  refine g_aload_n C dX0_end_0 rfl ?_
  refine g_iload_n C dX0_end_1 rfl ?_
  refine g_callVi C dX0_end_2 v_X0_132 (m_X0_isNode (h := 2) (by omega) hI i M (by omega) hn (fun _ _ q => q)) ⟨rfl, rfl⟩ rfl rfl (Nat.le_of_ble_eq_true rfl) (by omega) ?_
  rintro z M' ⟨hz, rfl⟩
  refine g_if_eq C 16 dX0_end_5 (by decide) (by omega) (fun c_5 => ?_) (fun c_5 => ?_)
  · refine g_iconst C dX0_end_16 ?_
    exact g_iret C dX0_end_17 (hp _ _ (Or.inl ⟨by omega, rfl, rfl⟩))
  · refine g_aload_n C dX0_end_8 rfl ?_
    refine g_iload_n C dX0_end_9 rfl ?_
    refine g_callVi C dX0_end_10 v_X0_132 (m_X0_isNode (h := 2) (by omega) hI k M (by omega) hn (fun _ _ q => q)) ⟨rfl, rfl⟩ rfl rfl (Nat.le_of_ble_eq_true rfl) (by omega) ?_
    rintro z2 M' ⟨hz2, rfl⟩
    refine g_if_ne C 18 dX0_end_13 (by decide) (by omega) (fun c_13 => ?_) (fun c_13 => ?_)
    · refine g_aload_n C dX0_end_18 rfl ?_
      refine g_iload_n C dX0_end_19 rfl ?_
      refine g_iload_n C dX0_end_20 rfl ?_
      refine g_callVi C dX0_end_21 v_X0_166 (m_X0_stands (h := 5) (by omega) hI i k M hN hK (by omega) (by omega) (fun _ _ q => q)) ⟨rfl, rfl⟩ rfl rfl (Nat.le_of_ble_eq_true rfl) (by omega) ?_
      rintro z3 M1 ⟨hF, hz3⟩
      have hfn := hF.2.2.2 i k (eik.mpr (by omega))
      have hv6 : M1 5 i k = -6 ∨ 0 ≤ M1 5 i k := by
        rcases hfn with q | q
        · exact Or.inl q.1
        · exact Or.inr q.1
      refine g_if_eq C 30 dX0_end_24 (by decide) (by omega) (fun c_24 => ?_) (fun c_24 => ?_)
      · refine g_bipush C dX0_end_30 (by decide) ?_
        refine g_iload_n C dX0_end_32 rfl ?_
        refine g_imul C dX0_end_33 ?_
        refine g_iload_n C dX0_end_34 rfl ?_
        refine g_iadd C dX0_end_35 ?_
        refine g_istn_3 C dX0_end_36 (by decide) rfl ?_
        exact B M1 hF (by omega) (by omega) (by omega) (M1 5 i k + 1).toNat 0 i k (by omega) (by omega) (by omega) ⟨rfl, rfl⟩
      · refine g_bipush C dX0_end_27 (by decide) ?_
        exact g_iret C dX0_end_29 (hp _ _ (Or.inr ⟨by omega, hF, _, hfn, Or.inl ⟨by omega, rfl⟩⟩))
    · refine g_iconst C dX0_end_16 ?_
      exact g_iret C dX0_end_17 (hp _ _ (Or.inl ⟨by omega, rfl, rfl⟩))
end

