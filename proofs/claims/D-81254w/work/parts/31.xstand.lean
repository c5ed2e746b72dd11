/-! KindNets: isUnlike, stepTo, falls, findFalls, stands, may, areAlike, alike -/
set_option maxRecDepth 100000
theorem kUp_t {M : KM} {t t' : Nat} {i k z : Int} (h : t' ≠ t) : kUp M t i k z t' = M t' := by
  funext i' k'
  exact kUp_ne h
theorem kXnet_eq {M M' : KM} (h1 : M' 1 = M 1) (h2 : M' 2 = M 2) (h7 : M' 7 0 1 = M 7 0 1) : kXnet M' = kXnet M := by
  simp only [kXnet, h1, h2, h7]
theorem kXwf {M : KM} (h : kWF (kXnet M)) : (0 ≤ M 7 0 1 ∧ M 7 0 1 ≤ 60) ∧ (∀ i, 0 ≤ i → i < M 7 0 1 → kSign (M 1 i 0)) ∧ (∀ i l, 0 ≤ i → i < M 7 0 1 → 0 ≤ l → l < 8 → M 2 i l = -6 ∨ (0 ≤ M 2 i l ∧ M 2 i l < M 7 0 1)) ∧
    (∀ i, 0 ≤ i → i < M 7 0 1 → M 1 i 0 = 42 → 0 ≤ M 2 i 0 ∧ ∀ l, 1 ≤ l → l < 8 → M 2 i l = -6) ∧ (∀ i, 0 ≤ i → i < M 7 0 1 → M 1 i 0 = 62 → (0 ≤ M 2 i 0 ∧ 0 ≤ M 2 i 1) ∧ ∀ l, 2 ≤ l → l < 8 → M 2 i l = -6) := by
  obtain ⟨a, b, d, e, f⟩ := h
  refine ⟨a, fun i h1 h2 => ?_, fun i l h1 h2 h3 h4 => ?_, fun i h1 h2 h3 => ?_, fun i h1 h2 h3 => ?_⟩
  · have := b i h1 h2
    rwa [kXnet_s ⟨h1, h2⟩] at this
  · have := d i l h1 h2 h3 h4
    rwa [kXnet_p ⟨h1, h2⟩ ⟨h3, h4⟩] at this
  · have := e i h1 h2 (by rw [kXnet_s ⟨h1, h2⟩]; exact h3)
    rw [kXnet_p ⟨h1, h2⟩ (by omega)] at this
    refine ⟨this.1, fun l h4 h5 => ?_⟩
    have := this.2 l h4 h5
    rwa [kXnet_p ⟨h1, h2⟩ (by omega)] at this
  · have := f i h1 h2 (by rw [kXnet_s ⟨h1, h2⟩]; exact h3)
    rw [kXnet_p ⟨h1, h2⟩ (by omega), kXnet_p ⟨h1, h2⟩ (by omega)] at this
    refine ⟨this.1, fun l h4 h5 => ?_⟩
    have := this.2 l h4 h5
    rwa [kXnet_p ⟨h1, h2⟩ (by omega)] at this
theorem kXunl {M : KM} {i k : Int} (hi : 0 ≤ i ∧ i < M 7 0 1) (hk : 0 ≤ k ∧ k < M 7 0 1) : kUnl (kXnet M) i k ↔ ((M 1 i 0 ≠ 33 ∧ M 1 k 0 ≠ 46) ∧ (M 1 i 0 ≠ M 1 k 0 ∨ (M 1 i 0 = 123 ∧ ∃ l, 0 ≤ l ∧ l < 8 ∧ M 2 i l = -6 ∧ M 2 k l ≠ -6) ∨ (M 1 i 0 = 91 ∧ ∃ l, 0 ≤ l ∧ l < 8 ∧ M 2 k l = -6 ∧ M 2 i l ≠ -6))) := by
  unfold kUnl
  rw [kXnet_s hi, kXnet_s hk]
  have e1 : (∃ l, 0 ≤ l ∧ l < 8 ∧ (kXnet M).2.2 i l = -6 ∧ (kXnet M).2.2 k l ≠ -6) ↔ ∃ l, 0 ≤ l ∧ l < 8 ∧ M 2 i l = -6 ∧ M 2 k l ≠ -6 := by
    constructor
    · rintro ⟨l, h1, h2, h3⟩
      rw [kXnet_p hi ⟨h1, h2⟩, kXnet_p hk ⟨h1, h2⟩] at h3
      exact ⟨l, h1, h2, h3⟩
    · rintro ⟨l, h1, h2, h3⟩
      rw [← kXnet_p hi ⟨h1, h2⟩, ← kXnet_p hk ⟨h1, h2⟩] at h3
      exact ⟨l, h1, h2, h3⟩
  have e2 : (∃ l, 0 ≤ l ∧ l < 8 ∧ (kXnet M).2.2 k l = -6 ∧ (kXnet M).2.2 i l ≠ -6) ↔ ∃ l, 0 ≤ l ∧ l < 8 ∧ M 2 k l = -6 ∧ M 2 i l ≠ -6 := by
    constructor
    · rintro ⟨l, h1, h2, h3⟩
      rw [kXnet_p hi ⟨h1, h2⟩, kXnet_p hk ⟨h1, h2⟩] at h3
      exact ⟨l, h1, h2, h3⟩
    · rintro ⟨l, h1, h2, h3⟩
      rw [← kXnet_p hi ⟨h1, h2⟩, ← kXnet_p hk ⟨h1, h2⟩] at h3
      exact ⟨l, h1, h2, h3⟩
  rw [e1, e2]
theorem kXs_bad {M : KM} {i k c : Int} (hi : 0 ≤ i ∧ i < M 7 0 1) (hk : 0 ≤ k ∧ k < M 7 0 1) (h : M 1 i 0 = 33 ∨ M 1 k 0 = 46 ∨ M 1 i 0 ≠ M 1 k 0) : kStep (kXnet M) i k c = (-6, -6) := by
  unfold kStep
  rw [kXnet_s hi, kXnet_s hk, if_pos h]
theorem kXs_8 {M : KM} {i k : Int} (hi : 0 ≤ i ∧ i < M 7 0 1) (hk : 0 ≤ k ∧ k < M 7 0 1) (h : ¬ (M 1 i 0 = 33 ∨ M 1 k 0 = 46 ∨ M 1 i 0 ≠ M 1 k 0)) : kStep (kXnet M) i k 8 = if M 1 i 0 = 42 then (M 2 i 0, M 2 k 0) else (-6, -6) := by
  unfold kStep
  rw [kXnet_s hi, kXnet_s hk, if_neg h, if_pos rfl, kXnet_p hi (by omega), kXnet_p hk (by omega)]
theorem kXs_9 {M : KM} {i k : Int} (hi : 0 ≤ i ∧ i < M 7 0 1) (hk : 0 ≤ k ∧ k < M 7 0 1) (h : ¬ (M 1 i 0 = 33 ∨ M 1 k 0 = 46 ∨ M 1 i 0 ≠ M 1 k 0)) : kStep (kXnet M) i k 9 = if M 1 i 0 = 62 then (M 2 k 0, M 2 i 0) else (-6, -6) := by
  unfold kStep
  rw [kXnet_s hi, kXnet_s hk, if_neg h, if_neg (by decide), if_pos rfl, kXnet_p hi (by omega), kXnet_p hk (by omega)]
theorem kXs_10 {M : KM} {i k : Int} (hi : 0 ≤ i ∧ i < M 7 0 1) (hk : 0 ≤ k ∧ k < M 7 0 1) (h : ¬ (M 1 i 0 = 33 ∨ M 1 k 0 = 46 ∨ M 1 i 0 ≠ M 1 k 0)) : kStep (kXnet M) i k 10 = if M 1 i 0 = 62 then (M 2 i 1, M 2 k 1) else (-6, -6) := by
  unfold kStep
  rw [kXnet_s hi, kXnet_s hk, if_neg h, if_neg (by decide), if_neg (by decide), if_pos rfl, kXnet_p hi (by omega), kXnet_p hk (by omega)]
theorem kXs_lt {M : KM} {i k c : Int} (hi : 0 ≤ i ∧ i < M 7 0 1) (hk : 0 ≤ k ∧ k < M 7 0 1) (h : ¬ (M 1 i 0 = 33 ∨ M 1 k 0 = 46 ∨ M 1 i 0 ≠ M 1 k 0)) (hc : 0 ≤ c ∧ c < 8) : kStep (kXnet M) i k c = if (M 1 i 0 = 123 ∨ M 1 i 0 = 91) ∧ M 2 i c ≠ -6 ∧ M 2 k c ≠ -6 then (M 2 i c, M 2 k c) else (-6, -6) := by
  unfold kStep
  rw [kXnet_s hi, kXnet_s hk, if_neg h, if_neg (by omega), if_neg (by omega), if_neg (by omega), kXnet_p hi hc, kXnet_p hk hc]
/-- an answer of stepTo: 100 times the first and the second of q; -6 for none -/
def kSR (n b : Int) (q : Int × Int) (z : Int) : Prop := (q = (-6, -6) ∧ z = -6) ∨ (∃ x y, q = (x, y) ∧ (0 ≤ x ∧ x < n) ∧ (0 ≤ y ∧ y < n) ∧ z = b * x + y)
section
variable {l : Launch} {w : KL} {h : Nat} {post : Int → KM → Prop}
theorem m_X0_isUnlike (hh : 3 ≤ h) (hI : kInj w) (i k : Int) (M : KM) (hi : 0 ≤ i ∧ i < M 7 0 1) (hk : 0 ≤ k ∧ k < M 7 0 1) (hp : ∀ z M', ((kUnl (kXnet M) i k ∧ z = 1) ∨ (¬ kUnl (kXnet M) i k ∧ z = 0)) ∧ M = M' → post z M') : kMet l w yX0_isUnlike cX0_isUnlike 3 (some .boolean) 1 h [vR 7 0, vR 1 i, vR 1 k] M post := by
  rw [kXunl hi hk] at hp
  obtain ⟨P1, eP1⟩ : ∃ P : Prop, P = (∃ x, 0 ≤ x ∧ x < 8 ∧ M 2 i x = -6 ∧ M 2 k x ≠ -6) := ⟨_, rfl⟩
  obtain ⟨P2, eP2⟩ : ∃ P : Prop, P = (∃ x, 0 ≤ x ∧ x < 8 ∧ M 2 k x = -6 ∧ M 2 i x ≠ -6) := ⟨_, rfl⟩
  rw [← eP1, ← eP2] at hp
  refine kMet_of [vR 7 0, vR 1 i, vR 1 k] (by decide) hI rfl rfl (Nat.le_of_ble_eq_true rfl) ?_
  intro p e s m args below meth c C hVok
  have K1 : ∀ z : Int, (((∀ x, 0 ≤ x → x < 8 → M 2 i x ≠ -6 ∨ M 2 k x = -6) ∧ z = 1) ∨ ((∃ x, 0 ≤ x ∧ x < 8 ∧ M 2 i x = -6 ∧ M 2 k x ≠ -6) ∧ z = 0)) → (z = 0 ∨ z = 1) ∧ (P1 ↔ z = 0) := by
    rw [eP1]
    rintro z (⟨a, b⟩ | ⟨a, b⟩)
    · refine ⟨Or.inr b, fun ⟨x, x1, x2, x3, x4⟩ => ?_, fun q => by omega⟩
      have := a x x1 x2
      omega
    · exact ⟨Or.inl b, fun _ => b, fun _ => a⟩
  have K2 : ∀ z : Int, (((∀ x, 0 ≤ x → x < 8 → M 2 k x ≠ -6 ∨ M 2 i x = -6) ∧ z = 1) ∨ ((∃ x, 0 ≤ x ∧ x < 8 ∧ M 2 k x = -6 ∧ M 2 i x ≠ -6) ∧ z = 0)) → (z = 0 ∨ z = 1) ∧ (P2 ↔ z = 0) := by
    rw [eP2]
    rintro z (⟨a, b⟩ | ⟨a, b⟩)
    · refine ⟨Or.inr b, fun ⟨x, x1, x2, x3, x4⟩ => ?_, fun q => by omega⟩
      have := a x x1 x2
      omega
    · exact ⟨Or.inl b, fun _ => b, fun _ => a⟩
  refine g_aload_n C dX0_isUnlike_0 rfl ?_
  refine g_getI C 0 dX0_isUnlike_1 f_X0_101 ⟨rfl, rfl⟩ rfl rfl (fun r_1 => ?_)
  refine g_bipush C dX0_isUnlike_4 (by decide) ?_
  refine g_ic_eq C 18 dX0_isUnlike_6 (by decide) (by omega) (fun c_6 => ?_) (fun c_6 => ?_)
  · refine g_iconst C dX0_isUnlike_18 ?_
    exact g_zret C dX0_isUnlike_19 (by omega) (hp _ _ ⟨by grind, rfl⟩)
  · refine g_aload_n C dX0_isUnlike_9 rfl ?_
    refine g_getI C 0 dX0_isUnlike_10 f_X0_101 ⟨rfl, rfl⟩ rfl rfl (fun r_10 => ?_)
    refine g_bipush C dX0_isUnlike_13 (by decide) ?_
    refine g_ic_ne C 20 dX0_isUnlike_15 (by decide) (by omega) (fun c_15 => ?_) (fun c_15 => ?_)
    · refine g_aload_n C dX0_isUnlike_20 rfl ?_
      refine g_getI C 0 dX0_isUnlike_21 f_X0_101 ⟨rfl, rfl⟩ rfl rfl (fun r_21 => ?_)
      refine g_aload_n C dX0_isUnlike_24 rfl ?_
      refine g_getI C 0 dX0_isUnlike_25 f_X0_101 ⟨rfl, rfl⟩ rfl rfl (fun r_25 => ?_)
      refine g_ic_eq C 33 dX0_isUnlike_28 (by decide) (by omega) (fun c_28 => ?_) (fun c_28 => ?_)
      · refine g_aload_n C dX0_isUnlike_33 rfl ?_
        refine g_getI C 0 dX0_isUnlike_34 f_X0_101 ⟨rfl, rfl⟩ rfl rfl (fun r_34 => ?_)
        refine g_bipush C dX0_isUnlike_37 (by decide) ?_
        refine g_ic_ne C 50 dX0_isUnlike_39 (by decide) (by omega) (fun c_39 => ?_) (fun c_39 => ?_)
        · refine g_aload_n C dX0_isUnlike_50 rfl ?_
          refine g_getI C 0 dX0_isUnlike_51 f_X0_101 ⟨rfl, rfl⟩ rfl rfl (fun r_51 => ?_)
          refine g_bipush C dX0_isUnlike_54 (by decide) ?_
          refine g_ic_ne C 71 dX0_isUnlike_56 (by decide) (by omega) (fun c_56 => ?_) (fun c_56 => ?_)
          · refine g_iconst C dX0_isUnlike_71 ?_
            exact g_zret C dX0_isUnlike_72 (by omega) (hp _ _ ⟨by grind, rfl⟩)
          · refine g_aload_n C dX0_isUnlike_59 rfl ?_
            refine g_aload_n C dX0_isUnlike_60 rfl ?_
            refine g_callVi C dX0_isUnlike_61 v_X0_141 (m_X2_covers (h := 2) (by omega) hI k i M (fun _ _ q => q)) ⟨rfl, rfl⟩ rfl rfl (Nat.le_of_ble_eq_true rfl) (by omega) ?_
            rintro u M' ⟨hu, rfl⟩
            obtain ⟨u1, u2⟩ := K2 u hu
            clear hu
            refine g_if_ne C 71 dX0_isUnlike_64 (by decide) (by omega) (fun c_64 => ?_) (fun c_64 => ?_)
            · refine g_iconst C dX0_isUnlike_71 ?_
              exact g_zret C dX0_isUnlike_72 (by omega) (hp _ _ ⟨by grind, rfl⟩)
            · refine g_iconst C dX0_isUnlike_67 ?_
              refine g_goto C 72 dX0_isUnlike_68 (by decide) ?_
              exact g_zret C dX0_isUnlike_72 (by omega) (hp _ _ ⟨by grind, rfl⟩)
        · refine g_aload_n C dX0_isUnlike_42 rfl ?_
          refine g_aload_n C dX0_isUnlike_43 rfl ?_
          refine g_callVi C dX0_isUnlike_44 v_X0_141 (m_X2_covers (h := 2) (by omega) hI i k M (fun _ _ q => q)) ⟨rfl, rfl⟩ rfl rfl (Nat.le_of_ble_eq_true rfl) (by omega) ?_
          rintro z M' ⟨hz, rfl⟩
          obtain ⟨z1, z2⟩ := K1 z hz
          clear hz
          refine g_if_eq C 67 dX0_isUnlike_47 (by decide) (by omega) (fun c_47 => ?_) (fun c_47 => ?_)
          · refine g_iconst C dX0_isUnlike_67 ?_
            refine g_goto C 72 dX0_isUnlike_68 (by decide) ?_
            exact g_zret C dX0_isUnlike_72 (by omega) (hp _ _ ⟨by grind, rfl⟩)
          · refine g_aload_n C dX0_isUnlike_50 rfl ?_
            refine g_getI C 0 dX0_isUnlike_51 f_X0_101 ⟨rfl, rfl⟩ rfl rfl (fun r_51 => ?_)
            refine g_bipush C dX0_isUnlike_54 (by decide) ?_
            refine g_ic_ne C 71 dX0_isUnlike_56 (by decide) (by omega) (fun c_56 => ?_) (fun c_56 => ?_)
            · refine g_iconst C dX0_isUnlike_71 ?_
              exact g_zret C dX0_isUnlike_72 (by omega) (hp _ _ ⟨by grind, rfl⟩)
            · refine g_aload_n C dX0_isUnlike_59 rfl ?_
              refine g_aload_n C dX0_isUnlike_60 rfl ?_
              refine g_callVi C dX0_isUnlike_61 v_X0_141 (m_X2_covers (h := 2) (by omega) hI k i M (fun _ _ q => q)) ⟨rfl, rfl⟩ rfl rfl (Nat.le_of_ble_eq_true rfl) (by omega) ?_
              rintro u M' ⟨hu, rfl⟩
              obtain ⟨u1, u2⟩ := K2 u hu
              clear hu
              refine g_if_ne C 71 dX0_isUnlike_64 (by decide) (by omega) (fun c_64 => ?_) (fun c_64 => ?_)
              · refine g_iconst C dX0_isUnlike_71 ?_
                exact g_zret C dX0_isUnlike_72 (by omega) (hp _ _ ⟨by grind, rfl⟩)
              · refine g_iconst C dX0_isUnlike_67 ?_
                refine g_goto C 72 dX0_isUnlike_68 (by decide) ?_
                exact g_zret C dX0_isUnlike_72 (by omega) (hp _ _ ⟨by grind, rfl⟩)
      · refine g_iconst C dX0_isUnlike_31 ?_
        exact g_zret C dX0_isUnlike_32 (by omega) (hp _ _ ⟨by grind, rfl⟩)
    · refine g_iconst C dX0_isUnlike_18 ?_
      exact g_zret C dX0_isUnlike_19 (by omega) (hp _ _ ⟨by grind, rfl⟩)
theorem m_X0_stepTo (hh : 2 ≤ h) (hI : kInj w) (i k c0 : Int) (M : KM) (hN : kWF (kXnet M)) (hi : 0 ≤ i ∧ i < M 7 0 1) (hk : 0 ≤ k ∧ k < M 7 0 1) (hc : 0 ≤ c0 ∧ c0 < 11) (hp : ∀ z M', kSR (M 7 0 1) 100 (kStep (kXnet M) i k c0) z ∧ M = M' → post z M') : kMet l w yX0_stepTo cX0_stepTo 6 (some .int) 1 h [vR 7 0, vI i, vI k, vI c0] M post := by
  obtain ⟨hn, hs, hpt, hl, hf⟩ := kXwf hN
  refine kMet_of [vR 7 0, vI i, vI k, vI c0, vN, vN] (by decide) hI rfl rfl (Nat.le_of_ble_eq_true rfl) ?_
  intro p e s m args below meth c C hVok
  refine g_aload_n C dX0_stepTo_0 rfl ?_
  refine g_getR C 8 dX0_stepTo_1 f_X0_11 ⟨rfl, rfl⟩ rfl (by decide) ?_
  refine g_iload_n C dX0_stepTo_4 rfl ?_
  refine g_aald C 1 60 dX0_stepTo_5 ⟨rfl, by decide, by decide⟩ (by decide) rfl (by omega) ?_
  refine g_ast_4 C dX0_stepTo_6 (by decide) rfl ?_
  refine g_aload_n C dX0_stepTo_8 rfl ?_
  refine g_getR C 8 dX0_stepTo_9 f_X0_11 ⟨rfl, rfl⟩ rfl (by decide) ?_
  refine g_iload_n C dX0_stepTo_12 rfl ?_
  refine g_aald C 1 60 dX0_stepTo_13 ⟨rfl, by decide, by decide⟩ (by decide) rfl (by omega) ?_
  refine g_ast_5 C dX0_stepTo_14 (by decide) rfl ?_
  refine g_aload C dX0_stepTo_16 rfl ?_
  refine g_getI C 0 dX0_stepTo_18 f_X0_101 ⟨rfl, rfl⟩ rfl rfl (fun r_18 => ?_)
  refine g_bipush C dX0_stepTo_21 (by decide) ?_
  refine g_ic_eq C 49 dX0_stepTo_23 (by decide) (by omega) (fun c_23 => ?_) (fun c_23 => ?_)
  · refine g_bipush C dX0_stepTo_49 (by decide) ?_
    exact g_iret C dX0_stepTo_51 (hp _ _ ⟨Or.inl ⟨kXs_bad hi hk (by omega), rfl⟩, rfl⟩)
  · refine g_aload C dX0_stepTo_26 rfl ?_
    refine g_getI C 0 dX0_stepTo_28 f_X0_101 ⟨rfl, rfl⟩ rfl rfl (fun r_28 => ?_)
    refine g_bipush C dX0_stepTo_31 (by decide) ?_
    refine g_ic_eq C 49 dX0_stepTo_33 (by decide) (by omega) (fun c_33 => ?_) (fun c_33 => ?_)
    · refine g_bipush C dX0_stepTo_49 (by decide) ?_
      exact g_iret C dX0_stepTo_51 (hp _ _ ⟨Or.inl ⟨kXs_bad hi hk (by omega), rfl⟩, rfl⟩)
    · refine g_aload C dX0_stepTo_36 rfl ?_
      refine g_getI C 0 dX0_stepTo_38 f_X0_101 ⟨rfl, rfl⟩ rfl rfl (fun r_38 => ?_)
      refine g_aload C dX0_stepTo_41 rfl ?_
      refine g_getI C 0 dX0_stepTo_43 f_X0_101 ⟨rfl, rfl⟩ rfl rfl (fun r_43 => ?_)
      refine g_ic_eq C 52 dX0_stepTo_46 (by decide) (by omega) (fun c_46 => ?_) (fun c_46 => ?_)
      · refine g_iload_n C dX0_stepTo_52 rfl ?_
        have sw_53 : (c0 < 8 ∨ 10 < c0) ∨ (c0 = 8) ∨ (c0 = 9) ∨ (c0 = 10) := by omega
        rcases sw_53 with c_53 | c_53 | c_53 | c_53
        · refine g_tblOut C 182 dX0_stepTo_53 (by omega) c_53 (by decide) ?_
          have e := kXs_lt hi hk (by omega) (show 0 ≤ c0 ∧ c0 < 8 by omega)
          have p1 := hpt i c0 hi.1 hi.2 (by omega) (by omega)
          have p2 := hpt k c0 hk.1 hk.2 (by omega) (by omega)
          refine g_aload C dX0_stepTo_182 rfl ?_
          refine g_callVi C dX0_stepTo_184 v_X0_145 (m_X2_isNamed_1 (h := 1) hI i M (fun _ _ q => q)) ⟨rfl, rfl⟩ rfl rfl (Nat.le_of_ble_eq_true rfl) (by omega) ?_
          rintro z1 M' ⟨hz1, rfl⟩
          refine g_if_eq C 229 dX0_stepTo_187 (by decide) (by omega) (fun c_187 => ?_) (fun c_187 => ?_)
          · refine g_bipush C dX0_stepTo_229 (by decide) ?_
            exact g_iret C dX0_stepTo_231 (hp _ _ ⟨by first | (rw [if_neg (by omega)] at e; exact Or.inl ⟨e, rfl⟩) | (rw [if_pos (by omega)] at e; exact Or.inr ⟨_, _, e, by omega, by omega, by omega⟩), rfl⟩)
          · refine g_aload C dX0_stepTo_190 rfl ?_
            refine g_iload_n C dX0_stepTo_192 rfl ?_
            refine g_callVi C dX0_stepTo_193 v_X0_148 (m_X2_has (h := 1) hI i c0 M (by omega) (fun _ _ q => q)) ⟨rfl, rfl⟩ rfl rfl (Nat.le_of_ble_eq_true rfl) (by omega) ?_
            rintro z2 M' ⟨hz2, rfl⟩
            refine g_if_eq C 229 dX0_stepTo_196 (by decide) (by omega) (fun c_196 => ?_) (fun c_196 => ?_)
            · refine g_bipush C dX0_stepTo_229 (by decide) ?_
              exact g_iret C dX0_stepTo_231 (hp _ _ ⟨by first | (rw [if_neg (by omega)] at e; exact Or.inl ⟨e, rfl⟩) | (rw [if_pos (by omega)] at e; exact Or.inr ⟨_, _, e, by omega, by omega, by omega⟩), rfl⟩)
            · refine g_aload C dX0_stepTo_199 rfl ?_
              refine g_iload_n C dX0_stepTo_201 rfl ?_
              refine g_callVi C dX0_stepTo_202 v_X0_148 (m_X2_has (h := 1) hI k c0 M (by omega) (fun _ _ q => q)) ⟨rfl, rfl⟩ rfl rfl (Nat.le_of_ble_eq_true rfl) (by omega) ?_
              rintro z3 M' ⟨hz3, rfl⟩
              refine g_if_eq C 229 dX0_stepTo_205 (by decide) (by omega) (fun c_205 => ?_) (fun c_205 => ?_)
              · refine g_bipush C dX0_stepTo_229 (by decide) ?_
                exact g_iret C dX0_stepTo_231 (hp _ _ ⟨by first | (rw [if_neg (by omega)] at e; exact Or.inl ⟨e, rfl⟩) | (rw [if_pos (by omega)] at e; exact Or.inr ⟨_, _, e, by omega, by omega, by omega⟩), rfl⟩)
              · refine g_bipush C dX0_stepTo_208 (by decide) ?_
                refine g_aload C dX0_stepTo_210 rfl ?_
                refine g_getR C 2 dX0_stepTo_212 f_X0_113 ⟨rfl, rfl⟩ rfl (by decide) ?_
                refine g_iload_n C dX0_stepTo_215 rfl ?_
                refine g_iald C 8 dX0_stepTo_216 ⟨rfl, rfl⟩ rfl (by omega) (fun r_216 => ?_)
                refine g_imul C dX0_stepTo_217 ?_
                refine g_aload C dX0_stepTo_218 rfl ?_
                refine g_getR C 2 dX0_stepTo_220 f_X0_113 ⟨rfl, rfl⟩ rfl (by decide) ?_
                refine g_iload_n C dX0_stepTo_223 rfl ?_
                refine g_iald C 8 dX0_stepTo_224 ⟨rfl, rfl⟩ rfl (by omega) (fun r_224 => ?_)
                refine g_iadd C dX0_stepTo_225 ?_
                refine g_goto C 231 dX0_stepTo_226 (by decide) ?_
                exact g_iret C dX0_stepTo_231 (hp _ _ ⟨by first | (rw [if_neg (by omega)] at e; exact Or.inl ⟨e, rfl⟩) | (rw [if_pos (by omega)] at e; exact Or.inr ⟨_, _, e, by omega, by omega, by omega⟩), rfl⟩)
        · refine g_tblIn C (off := 27) 80 dX0_stepTo_53 (by omega) (by omega) (by rw [c_53]; rfl) (by decide) ?_
          subst c_53
          refine g_aload C dX0_stepTo_80 rfl ?_
          refine g_getI C 0 dX0_stepTo_82 f_X0_101 ⟨rfl, rfl⟩ rfl rfl (fun r_82 => ?_)
          refine g_bipush C dX0_stepTo_85 (by decide) ?_
          refine g_ic_ne C 111 dX0_stepTo_87 (by decide) (by omega) (fun c_87 => ?_) (fun c_87 => ?_)
          · refine g_bipush C dX0_stepTo_111 (by decide) ?_
            have e := kXs_8 hi hk (by omega)
            have a := hl i hi.1 hi.2
            have b := hl k hk.1 hk.2
            have p1 := hpt i 0 hi.1 hi.2 (by omega) (by omega)
            have p2 := hpt k 0 hk.1 hk.2 (by omega) (by omega)
            exact g_iret C dX0_stepTo_113 (hp _ _ ⟨by first | (rw [if_neg (by omega)] at e; exact Or.inl ⟨e, rfl⟩) | (rw [if_pos (by omega)] at e; have a := a (by omega); have b := b (by omega); exact Or.inr ⟨_, _, e, by omega, by omega, by omega⟩), rfl⟩)
          · refine g_bipush C dX0_stepTo_90 (by decide) ?_
            refine g_aload C dX0_stepTo_92 rfl ?_
            refine g_getR C 2 dX0_stepTo_94 f_X0_113 ⟨rfl, rfl⟩ rfl (by decide) ?_
            refine g_iconst C dX0_stepTo_97 ?_
            refine g_iald C 8 dX0_stepTo_98 ⟨rfl, rfl⟩ rfl (by omega) (fun r_98 => ?_)
            refine g_imul C dX0_stepTo_99 ?_
            refine g_aload C dX0_stepTo_100 rfl ?_
            refine g_getR C 2 dX0_stepTo_102 f_X0_113 ⟨rfl, rfl⟩ rfl (by decide) ?_
            refine g_iconst C dX0_stepTo_105 ?_
            refine g_iald C 8 dX0_stepTo_106 ⟨rfl, rfl⟩ rfl (by omega) (fun r_106 => ?_)
            refine g_iadd C dX0_stepTo_107 ?_
            refine g_goto C 113 dX0_stepTo_108 (by decide) ?_
            have e := kXs_8 hi hk (by omega)
            have a := hl i hi.1 hi.2
            have b := hl k hk.1 hk.2
            have p1 := hpt i 0 hi.1 hi.2 (by omega) (by omega)
            have p2 := hpt k 0 hk.1 hk.2 (by omega) (by omega)
            exact g_iret C dX0_stepTo_113 (hp _ _ ⟨by first | (rw [if_neg (by omega)] at e; exact Or.inl ⟨e, rfl⟩) | (rw [if_pos (by omega)] at e; have a := a (by omega); have b := b (by omega); exact Or.inr ⟨_, _, e, by omega, by omega, by omega⟩), rfl⟩)
        · refine g_tblIn C (off := 61) 114 dX0_stepTo_53 (by omega) (by omega) (by rw [c_53]; rfl) (by decide) ?_
          subst c_53
          refine g_aload C dX0_stepTo_114 rfl ?_
          refine g_getI C 0 dX0_stepTo_116 f_X0_101 ⟨rfl, rfl⟩ rfl rfl (fun r_116 => ?_)
          refine g_bipush C dX0_stepTo_119 (by decide) ?_
          refine g_ic_ne C 145 dX0_stepTo_121 (by decide) (by omega) (fun c_121 => ?_) (fun c_121 => ?_)
          · refine g_bipush C dX0_stepTo_145 (by decide) ?_
            have e := kXs_9 hi hk (by omega)
            have a := hf i hi.1 hi.2
            have b := hf k hk.1 hk.2
            have p1 := hpt i 0 hi.1 hi.2 (by omega) (by omega)
            have p2 := hpt k 0 hk.1 hk.2 (by omega) (by omega)
            exact g_iret C dX0_stepTo_147 (hp _ _ ⟨by first | (rw [if_neg (by omega)] at e; exact Or.inl ⟨e, rfl⟩) | (rw [if_pos (by omega)] at e; have a := a (by omega); have b := b (by omega); exact Or.inr ⟨_, _, e, by omega, by omega, by omega⟩), rfl⟩)
          · refine g_bipush C dX0_stepTo_124 (by decide) ?_
            refine g_aload C dX0_stepTo_126 rfl ?_
            refine g_getR C 2 dX0_stepTo_128 f_X0_113 ⟨rfl, rfl⟩ rfl (by decide) ?_
            refine g_iconst C dX0_stepTo_131 ?_
            refine g_iald C 8 dX0_stepTo_132 ⟨rfl, rfl⟩ rfl (by omega) (fun r_132 => ?_)
            refine g_imul C dX0_stepTo_133 ?_
            refine g_aload C dX0_stepTo_134 rfl ?_
            refine g_getR C 2 dX0_stepTo_136 f_X0_113 ⟨rfl, rfl⟩ rfl (by decide) ?_
            refine g_iconst C dX0_stepTo_139 ?_
            refine g_iald C 8 dX0_stepTo_140 ⟨rfl, rfl⟩ rfl (by omega) (fun r_140 => ?_)
            refine g_iadd C dX0_stepTo_141 ?_
            refine g_goto C 147 dX0_stepTo_142 (by decide) ?_
            have e := kXs_9 hi hk (by omega)
            have a := hf i hi.1 hi.2
            have b := hf k hk.1 hk.2
            have p1 := hpt i 0 hi.1 hi.2 (by omega) (by omega)
            have p2 := hpt k 0 hk.1 hk.2 (by omega) (by omega)
            exact g_iret C dX0_stepTo_147 (hp _ _ ⟨by first | (rw [if_neg (by omega)] at e; exact Or.inl ⟨e, rfl⟩) | (rw [if_pos (by omega)] at e; have a := a (by omega); have b := b (by omega); exact Or.inr ⟨_, _, e, by omega, by omega, by omega⟩), rfl⟩)
        · refine g_tblIn C (off := 95) 148 dX0_stepTo_53 (by omega) (by omega) (by rw [c_53]; rfl) (by decide) ?_
          subst c_53
          refine g_aload C dX0_stepTo_148 rfl ?_
          refine g_getI C 0 dX0_stepTo_150 f_X0_101 ⟨rfl, rfl⟩ rfl rfl (fun r_150 => ?_)
          refine g_bipush C dX0_stepTo_153 (by decide) ?_
          refine g_ic_ne C 179 dX0_stepTo_155 (by decide) (by omega) (fun c_155 => ?_) (fun c_155 => ?_)
          · refine g_bipush C dX0_stepTo_179 (by decide) ?_
            have e := kXs_10 hi hk (by omega)
            have a := hf i hi.1 hi.2
            have b := hf k hk.1 hk.2
            have p1 := hpt i 1 hi.1 hi.2 (by omega) (by omega)
            have p2 := hpt k 1 hk.1 hk.2 (by omega) (by omega)
            exact g_iret C dX0_stepTo_181 (hp _ _ ⟨by first | (rw [if_neg (by omega)] at e; exact Or.inl ⟨e, rfl⟩) | (rw [if_pos (by omega)] at e; have a := a (by omega); have b := b (by omega); exact Or.inr ⟨_, _, e, by omega, by omega, by omega⟩), rfl⟩)
          · refine g_bipush C dX0_stepTo_158 (by decide) ?_
            refine g_aload C dX0_stepTo_160 rfl ?_
            refine g_getR C 2 dX0_stepTo_162 f_X0_113 ⟨rfl, rfl⟩ rfl (by decide) ?_
            refine g_iconst C dX0_stepTo_165 ?_
            refine g_iald C 8 dX0_stepTo_166 ⟨rfl, rfl⟩ rfl (by omega) (fun r_166 => ?_)
            refine g_imul C dX0_stepTo_167 ?_
            refine g_aload C dX0_stepTo_168 rfl ?_
            refine g_getR C 2 dX0_stepTo_170 f_X0_113 ⟨rfl, rfl⟩ rfl (by decide) ?_
            refine g_iconst C dX0_stepTo_173 ?_
            refine g_iald C 8 dX0_stepTo_174 ⟨rfl, rfl⟩ rfl (by omega) (fun r_174 => ?_)
            refine g_iadd C dX0_stepTo_175 ?_
            refine g_goto C 181 dX0_stepTo_176 (by decide) ?_
            have e := kXs_10 hi hk (by omega)
            have a := hf i hi.1 hi.2
            have b := hf k hk.1 hk.2
            have p1 := hpt i 1 hi.1 hi.2 (by omega) (by omega)
            have p2 := hpt k 1 hk.1 hk.2 (by omega) (by omega)
            exact g_iret C dX0_stepTo_181 (hp _ _ ⟨by first | (rw [if_neg (by omega)] at e; exact Or.inl ⟨e, rfl⟩) | (rw [if_pos (by omega)] at e; have a := a (by omega); have b := b (by omega); exact Or.inr ⟨_, _, e, by omega, by omega, by omega⟩), rfl⟩)
      · refine g_bipush C dX0_stepTo_49 (by decide) ?_
        exact g_iret C dX0_stepTo_51 (hp _ _ ⟨Or.inl ⟨kXs_bad hi hk (by omega), rfl⟩, rfl⟩)
end

