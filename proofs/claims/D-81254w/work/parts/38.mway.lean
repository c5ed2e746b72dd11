/-! KindNetsModel: may, areAlike, alike, follow, way, end -/
set_option maxRecDepth 100000
theorem kSR_uniq {n b : Int} {q : Int × Int} {z u : Int} (h1 : kSR n b q z) (h2 : kSR n b q u) : z = u := by
  rcases h1 with ⟨e1, a1⟩ | ⟨x, y, e1, x1, y1, a1⟩ <;> rcases h2 with ⟨e2, a2⟩ | ⟨x', y', e2, x2, y2, a2⟩
  · omega
  · rw [e1] at e2
    have := (Prod.mk.inj e2).1
    omega
  · rw [e1] at e2
    have := (Prod.mk.inj e2).1
    omega
  · rw [e1] at e2
    obtain ⟨rfl, rfl⟩ := Prod.mk.inj e2
    omega
theorem kM_ok {M : KM} {i k : Int} (hi : 0 ≤ i ∧ i < M 30 0 2) (hk : 0 ≤ k ∧ k < M 30 0 2) (hu : ¬ kUnl (kMnet M) i k) : M 32 0 i = 33 ∨ M 32 0 k = 46 ∨ M 32 0 i = M 32 0 k := by
  rw [kMunl hi hk] at hu
  by_cases q1 : M 32 0 i = 33
  · exact Or.inl q1
  · by_cases q2 : M 32 0 k = 46
    · exact Or.inr (Or.inl q2)
    · by_cases q3 : M 32 0 i = M 32 0 k
      · exact Or.inr (Or.inr q3)
      · exact absurd ⟨⟨q1, q2⟩, Or.inl q3⟩ hu
theorem kFN_nunl {N : KN} {i k v : Int} (h : kFN N i k v) (hv : v ≠ 0) : ¬ kUnl N i k := by
  rcases h with ⟨-, a⟩ | ⟨p, a, b⟩
  · exact a 0
  · exact b 0 (by omega)
/-- may's two answers out of the table -/
theorem kLL.may {M M' : KM} (h : kLL M M') {i k : Int} (hik : kIn2 (kMnet M) i k) : (M' 41 0 (60 * i + k) = 1 ∧ kFN (kMnet M) i k (-6)) ∨ (M' 41 0 (60 * i + k) = 0 ∧ kFN (kMnet M) i k (M' 42 0 (60 * i + k)) ∧ (0 ≤ M' 42 0 (60 * i + k) ∧ M' 42 0 (60 * i + k) ≤ 3601) ∧ M' 42 0 (60 * i + k) ≠ 100000) := by
  obtain ⟨a, b, d⟩ := h.2.2.2 i k hik
  simp only [kDF] at a
  by_cases q : M' 42 0 (60 * i + k) = 100000
  · rw [if_pos q] at d
    rw [q, kNr_far] at a
    exact Or.inl ⟨d, a⟩
  · rw [if_neg q] at d
    rw [kNr_ne q] at a
    exact Or.inr ⟨d, a, by omega, q⟩
section
variable {l : Launch} {w : KL} {h : Nat} {post : Int → KM → Prop}
theorem m_X4_may (hh : 4 ≤ h) (hI : kInj w) (i k : Int) (M : KM) (hN : kWF (kMnet M)) (hK : kLd2 M) (hi : -2147483648 ≤ i ∧ i < 2147483648) (hk : -2147483648 ≤ k ∧ k < 2147483648) (hp : ∀ z M', (¬ kIn2 (kMnet M) i k ∧ z = -1 ∧ M = M') ∨ (kIn2 (kMnet M) i k ∧ kLL M M' ∧ ((kFN (kMnet M) i k (-6) ∧ z = 1) ∨ ((∃ v, 0 ≤ v ∧ kFN (kMnet M) i k v) ∧ z = 0))) → post z M') : kMet l w yX4_may cX4_may 3 (some .int) 1 h [vR 30 0, vI i, vI k] M post := by
  obtain ⟨hn, -, -, -, -⟩ := kMwf hN
  have eik : kIn2 (kMnet M) i k ↔ (0 ≤ i ∧ i < M 30 0 2) ∧ 0 ≤ k ∧ k < M 30 0 2 := Iff.rfl
  refine kMet_of [vR 30 0, vI i, vI k] (by decide) hI rfl rfl (Nat.le_of_ble_eq_true rfl) ?_
  intro p e s m args below meth c C hVok
  refine g_aload_n C dX4_may_0 rfl ?_
  refine g_iload_n C dX4_may_1 rfl ?_
  refine g_iload_n C dX4_may_2 rfl ?_
  refine g_callVi C dX4_may_3 v_X4_142 (m_X4_areNodes (h := 3) (by omega) hI i k M (by omega) (by omega) hn (fun _ _ q => q)) ⟨rfl, rfl⟩ rfl rfl (Nat.le_of_ble_eq_true rfl) (by omega) ?_
  rintro z M' ⟨⟨hz, rfl⟩ | ⟨hz, rfl⟩, rfl⟩
  · refine g_if_ne C 11 dX4_may_6 (by decide) (by omega) (fun c_6 => ?_) (fun c_6 => ?_)
    · refine g_aload_n C dX4_may_11 rfl ?_
      refine g_callVv C dX4_may_12 v_X4_145 (m_X4_lay (h := 3) (by omega) hI M hN hK (fun _ _ q => q)) ⟨rfl, rfl⟩ rfl rfl (Nat.le_of_ble_eq_true rfl) (by omega) ?_
      rintro z2 M1 hL
      have hmay := hL.may (eik.mpr hz)
      refine g_aload_n C dX4_may_15 rfl ?_
      refine g_getR C 41 dX4_may_16 f_X4_40 ⟨rfl, rfl⟩ rfl (by decide) ?_
      refine g_bipush C dX4_may_19 (by decide) ?_
      refine g_iload_n C dX4_may_21 rfl ?_
      refine g_imul C dX4_may_22 ?_
      refine g_iload_n C dX4_may_23 rfl ?_
      refine g_iadd C dX4_may_24 ?_
      refine g_zald C 3600 dX4_may_25 ⟨rfl, rfl⟩ rfl (by omega) (fun r_25 => ?_)
      refine g_if_eq C 33 dX4_may_26 (by decide) (by omega) (fun c_26 => ?_) (fun c_26 => ?_)
      · refine g_iconst C dX4_may_33 ?_
        exact g_iret C dX4_may_34 (hp _ _ (Or.inr ⟨eik.mpr hz, hL, by rcases hmay with ⟨m1, m2⟩ | ⟨m1, m2, m3, m4⟩ <;> first | exact Or.inl ⟨m2, rfl⟩ | exact Or.inr ⟨⟨_, m3.1, m2⟩, rfl⟩ | (exfalso; omega)⟩))
      · refine g_iconst C dX4_may_29 ?_
        refine g_goto C 34 dX4_may_30 (by decide) ?_
        exact g_iret C dX4_may_34 (hp _ _ (Or.inr ⟨eik.mpr hz, hL, by rcases hmay with ⟨m1, m2⟩ | ⟨m1, m2, m3, m4⟩ <;> first | exact Or.inl ⟨m2, rfl⟩ | exact Or.inr ⟨⟨_, m3.1, m2⟩, rfl⟩ | (exfalso; omega)⟩))
    · omega
  · refine g_if_ne C 11 dX4_may_6 (by decide) (by omega) (fun c_6 => ?_) (fun c_6 => ?_)
    · omega
    · refine g_iconst C dX4_may_9 ?_
      exact g_iret C dX4_may_10 (hp _ _ (Or.inl ⟨by rw [eik]; exact hz, rfl, rfl⟩))
theorem m_X4_areAlike (hI : kInj w) (i k : Int) (M : KM) (hn : M 30 0 2 ≤ 60) (hi : 0 ≤ i ∧ i < M 30 0 2) (hk : 0 ≤ k ∧ k < M 30 0 2) (hp : ∀ z M', (((M 41 0 (60 * i + k) ≠ 0 ∧ M 41 0 (60 * k + i) ≠ 0) ∧ z = 1) ∨ ((M 41 0 (60 * i + k) = 0 ∨ M 41 0 (60 * k + i) = 0) ∧ z = 0)) ∧ M = M' → post z M') : kMet l w yX4_areAlike cX4_areAlike 3 (some .boolean) 1 h [vR 30 0, vI i, vI k] M post := by
  refine kMet_of [vR 30 0, vI i, vI k] (by decide) hI rfl rfl (Nat.le_of_ble_eq_true rfl) ?_
  intro p e s m args below meth c C hVok
  refine g_aload_n C dX4_areAlike_0 rfl ?_
  refine g_getR C 41 dX4_areAlike_1 f_X4_40 ⟨rfl, rfl⟩ rfl (by decide) ?_
  refine g_bipush C dX4_areAlike_4 (by decide) ?_
  refine g_iload_n C dX4_areAlike_6 rfl ?_
  refine g_imul C dX4_areAlike_7 ?_
  refine g_iload_n C dX4_areAlike_8 rfl ?_
  refine g_iadd C dX4_areAlike_9 ?_
  refine g_zald C 3600 dX4_areAlike_10 ⟨rfl, rfl⟩ rfl (by omega) (fun r_10 => ?_)
  refine g_if_eq C 32 dX4_areAlike_11 (by decide) (by omega) (fun c_11 => ?_) (fun c_11 => ?_)
  · refine g_iconst C dX4_areAlike_32 ?_
    exact g_zret C dX4_areAlike_33 (by omega) (hp _ _ ⟨by omega, rfl⟩)
  · refine g_aload_n C dX4_areAlike_14 rfl ?_
    refine g_getR C 41 dX4_areAlike_15 f_X4_40 ⟨rfl, rfl⟩ rfl (by decide) ?_
    refine g_bipush C dX4_areAlike_18 (by decide) ?_
    refine g_iload_n C dX4_areAlike_20 rfl ?_
    refine g_imul C dX4_areAlike_21 ?_
    refine g_iload_n C dX4_areAlike_22 rfl ?_
    refine g_iadd C dX4_areAlike_23 ?_
    refine g_zald C 3600 dX4_areAlike_24 ⟨rfl, rfl⟩ rfl (by omega) (fun r_24 => ?_)
    refine g_if_eq C 32 dX4_areAlike_25 (by decide) (by omega) (fun c_25 => ?_) (fun c_25 => ?_)
    · refine g_iconst C dX4_areAlike_32 ?_
      exact g_zret C dX4_areAlike_33 (by omega) (hp _ _ ⟨by omega, rfl⟩)
    · refine g_iconst C dX4_areAlike_28 ?_
      refine g_goto C 33 dX4_areAlike_29 (by decide) ?_
      exact g_zret C dX4_areAlike_33 (by omega) (hp _ _ ⟨by omega, rfl⟩)
theorem m_X4_alike (hh : 4 ≤ h) (hI : kInj w) (i k : Int) (M : KM) (hN : kWF (kMnet M)) (hK : kLd2 M) (hi : -2147483648 ≤ i ∧ i < 2147483648) (hk : -2147483648 ≤ k ∧ k < 2147483648) (hp : ∀ z M', (¬ kIn2 (kMnet M) i k ∧ z = -1 ∧ M = M') ∨ (kIn2 (kMnet M) i k ∧ kLL M M' ∧ (((kFN (kMnet M) i k (-6) ∧ kFN (kMnet M) k i (-6)) ∧ z = 1) ∨ ((∃ v, 0 ≤ v ∧ (kFN (kMnet M) i k v ∨ kFN (kMnet M) k i v)) ∧ z = 0))) → post z M') : kMet l w yX4_alike cX4_alike 3 (some .int) 1 h [vR 30 0, vI i, vI k] M post := by
  obtain ⟨hn, -, -, -, -⟩ := kMwf hN
  have eik : kIn2 (kMnet M) i k ↔ (0 ≤ i ∧ i < M 30 0 2) ∧ 0 ≤ k ∧ k < M 30 0 2 := Iff.rfl
  refine kMet_of [vR 30 0, vI i, vI k] (by decide) hI rfl rfl (Nat.le_of_ble_eq_true rfl) ?_
  intro p e s m args below meth c C hVok
  refine g_aload_n C dX4_alike_0 rfl ?_
  refine g_iload_n C dX4_alike_1 rfl ?_
  refine g_iload_n C dX4_alike_2 rfl ?_
  refine g_callVi C dX4_alike_3 v_X4_142 (m_X4_areNodes (h := 3) (by omega) hI i k M (by omega) (by omega) hn (fun _ _ q => q)) ⟨rfl, rfl⟩ rfl rfl (Nat.le_of_ble_eq_true rfl) (by omega) ?_
  rintro z M' ⟨⟨hz, rfl⟩ | ⟨hz, rfl⟩, rfl⟩
  · refine g_if_ne C 11 dX4_alike_6 (by decide) (by omega) (fun c_6 => ?_) (fun c_6 => ?_)
    · refine g_aload_n C dX4_alike_11 rfl ?_
      refine g_callVv C dX4_alike_12 v_X4_145 (m_X4_lay (h := 3) (by omega) hI M hN hK (fun _ _ q => q)) ⟨rfl, rfl⟩ rfl rfl (Nat.le_of_ble_eq_true rfl) (by omega) ?_
      rintro z2 M1 hL
      have hmay := hL.may (eik.mpr hz)
      have hmay2 := hL.may (i := k) (k := i) ⟨hz.2, hz.1⟩
      have hm := hL.many
      have key : (M1 41 0 (60 * i + k) ≠ 0 ∧ M1 41 0 (60 * k + i) ≠ 0 → kFN (kMnet M) i k (-6) ∧ kFN (kMnet M) k i (-6)) ∧ (M1 41 0 (60 * i + k) = 0 ∨ M1 41 0 (60 * k + i) = 0 → ∃ v, 0 ≤ v ∧ (kFN (kMnet M) i k v ∨ kFN (kMnet M) k i v)) := by
        rcases hmay with ⟨m1, m2⟩ | ⟨m1, m2, m3, m4⟩ <;> rcases hmay2 with ⟨n1, n2⟩ | ⟨n1, n2, n3, n4⟩
        · exact ⟨fun _ => ⟨m2, n2⟩, fun z => by omega⟩
        · exact ⟨fun z => absurd n1 z.2, fun _ => ⟨_, n3.1, Or.inr n2⟩⟩
        · exact ⟨fun z => absurd m1 z.1, fun _ => ⟨_, m3.1, Or.inl m2⟩⟩
        · exact ⟨fun z => absurd m1 z.1, fun _ => ⟨_, m3.1, Or.inl m2⟩⟩
      clear hmay hmay2
      refine g_aload_n C dX4_alike_15 rfl ?_
      refine g_iload_n C dX4_alike_16 rfl ?_
      refine g_iload_n C dX4_alike_17 rfl ?_
      refine g_callVi C dX4_alike_18 v_X4_154 (m_X4_areAlike (h := 1) hI i k M1 (by omega) (by omega) (by omega) (fun _ _ q => q)) ⟨rfl, rfl⟩ rfl rfl (Nat.le_of_ble_eq_true rfl) (by omega) ?_
      rintro z3 M' ⟨⟨hz3, rfl⟩ | ⟨hz3, rfl⟩, rfl⟩
      · refine g_if_eq C 28 dX4_alike_21 (by decide) (by omega) (fun c_21 => ?_) (fun c_21 => ?_)
        · omega
        · refine g_iconst C dX4_alike_24 ?_
          refine g_goto C 29 dX4_alike_25 (by decide) ?_
          exact g_iret C dX4_alike_29 (hp _ _ (Or.inr ⟨eik.mpr hz, hL, Or.inl ⟨key.1 hz3, rfl⟩⟩))
      · refine g_if_eq C 28 dX4_alike_21 (by decide) (by omega) (fun c_21 => ?_) (fun c_21 => ?_)
        · refine g_iconst C dX4_alike_28 ?_
          exact g_iret C dX4_alike_29 (hp _ _ (Or.inr ⟨eik.mpr hz, hL, Or.inr ⟨key.2 hz3, rfl⟩⟩))
        · omega
    · omega
  · refine g_if_ne C 11 dX4_alike_6 (by decide) (by omega) (fun c_6 => ?_) (fun c_6 => ?_)
    · omega
    · refine g_iconst C dX4_alike_9 ?_
      exact g_iret C dX4_alike_10 (hp _ _ (Or.inl ⟨by rw [eik]; exact hz, rfl, rfl⟩))
theorem m_X4_follow (hh : 3 ≤ h) (hI : kInj w) (i k j v : Int) (M : KM) (hN : kWF (kMnet M)) (hi : 0 ≤ i ∧ i < M 30 0 2) (hk : 0 ≤ k ∧ k < M 30 0 2) (hF : ∀ i k, kIn2 (kMnet M) i k → kFN (kMnet M) i k (kDF M i k)) (hv : M 42 0 (60 * i + k) = v) (hv2 : 0 ≤ v ∧ v ≤ 3601) (hj : -2147483648 ≤ j ∧ j < 2147483648)
    (hp : ∀ z M', ((∀ t, t ≠ 30 → M' t = M t) ∧ (∀ i k, k ≠ 18 → M' 30 i k = M 30 i k) ∧ (∃ a b, kIn2 (kMnet M) a b ∧ kPath (kMnet M) v.toNat i k a b ∧ M' 30 0 18 = 60 * a + b) ∧ (((0 ≤ j ∧ j < v) ∧ ∃ a b, kPath (kMnet M) j.toNat i k a b ∧ kDn (kMnet M) a b z) ∨ (¬ (0 ≤ j ∧ j < v) ∧ z = -6))) → post z M') : kMet l w yX4_follow cX4_follow 9 (some .int) 1 h [vR 30 0, vI i, vI k, vI j] M post := by
  obtain ⟨hn, -, -, -, -⟩ := kMwf hN
  have hvv : kFN (kMnet M) i k v := by
    have := hF i k ⟨hi, hk⟩
    simp only [kDF] at this
    rwa [hv, kNr_ne (by omega)] at this
  refine kMet_of [vR 30 0, vI i, vI k, vI j, vN, vN, vN, vN, vN] (by decide) hI rfl rfl (Nat.le_of_ble_eq_true rfl) ?_
  intro p e s m args below meth c C hVok
  have L : ∀ (n : Nat) (q a b z : Int) (x6 x7 x8 : KV) (M1 : KM), 0 ≤ q → q ≤ v → v + 1 ≤ q + n → kPath (kMnet M) q.toNat i k a b → (∀ t, t ≠ 30 → M1 t = M t) → (∀ i k, k ≠ 18 → M1 30 i k = M 30 i k) → M1 30 0 18 = 60 * a + b → (((0 ≤ j ∧ j < q) ∧ ∃ a b, kPath (kMnet M) j.toNat i k a b ∧ kDn (kMnet M) a b z) ∨ (¬ (0 ≤ j ∧ j < q) ∧ z = -6)) → kG p l e h s m args below meth c w 9 1 post 17 [vR 30 0, vI i, vI k, vI j, vI z, vI q, x6, x7, x8] [] (M1) := by
    intro n
    induction n with
    | zero => intro q a b z x6 x7 x8 M1 h1 h2 h3; omega
    | succ n ih =>
      intro q a b z x6 x7 x8 M1 hq1 hq2 hq3 hP hs hk30 h18 hz
      obtain ⟨hab, hab2⟩ := kPath_to hN ⟨hi, hk⟩ hP hvv
      have ha := hab.1
      have hb := hab.2
      rw [kMnet_n] at ha hb
      have hm : M1 30 0 2 = M 30 0 2 := hk30 0 2 (by decide)
      have eN : kMnet M1 = kMnet M := kMnet_eq (hs 32 (by decide)) (hs 33 (by decide)) hm
      have hN1 : kWF (kMnet M1) := by rw [eN]; exact hN
      have e42 : M1 42 = M 42 := hs 42 (by decide)
      have e32 : M1 32 = M 32 := hs 32 (by decide)
      have hval : M 42 0 (60 * a + b) = v - q := by
        have e1 := kFN_uniq (hF a b hab) (show kFN (kMnet M) a b (v - q) by rw [show v - q = v - (q.toNat : Int) by omega]; exact hab2)
        simp only [kDF] at e1
        by_cases q9 : M 42 0 (60 * a + b) = 100000
        · rw [q9, kNr_far] at e1; omega
        · rw [kNr_ne q9] at e1; exact e1
      have hval1 : M1 42 0 (60 * a + b) = v - q := by rw [e42]; exact hval
      have h60 : 0 ≤ 60 * a + b ∧ 60 * a + b < 3600 := by omega
      have INNER : 0 < v - q → ∀ x7' : KV, kG p l e h s m args below meth c w 9 1 post 50 [vR 30 0, vI i, vI k, vI j, vI z, vI q, vI a, vI b, vI 0] [] (M1) := by
        intro hpos _
        obtain ⟨g, hg1, hg2, hg3⟩ := kDn_ex (show kFN (kMnet M) a b (v - q) by rw [show v - q = v - (q.toNat : Int) by omega]; exact hab2) hpos
        have hok := kM_ok (M := M) ha hb (kFN_nunl (hF a b hab) (by simp only [kDF]; rw [hval, kNr_ne (by omega)]; omega))
        have hokf : ∀ u : Unit, M1 32 0 a = 33 ∨ M1 32 0 b = 46 ∨ M1 32 0 a = M1 32 0 b := fun _ => by rw [e32]; exact hok
        clear hok
        have L3 : ∀ (n3 : Nat) (c0 : Int), 0 ≤ c0 → c0 ≤ g → g + 1 ≤ c0 + n3 → (∀ d, 0 ≤ d → d < c0 → (kStep (kMnet M) a b d).1 ≠ -6 → ¬ kFN (kMnet M) (kStep (kMnet M) a b d).1 (kStep (kMnet M) a b d).2 (v - q - 1)) → kG p l e h s m args below meth c w 9 1 post 50 [vR 30 0, vI i, vI k, vI j, vI z, vI q, vI a, vI b, vI c0] [] (M1) := by
          intro n3
          induction n3 with
          | zero => intro c0 h1 h2 h3; omega
          | succ n3 ih3 =>
            intro c0 h1 h2 h3 h4
            have next : ((kStep (kMnet M) a b c0).1 ≠ -6 → ¬ kFN (kMnet M) (kStep (kMnet M) a b c0).1 (kStep (kMnet M) a b c0).2 (v - q - 1)) → kG p l e h s m args below meth c w 9 1 post 50 [vR 30 0, vI i, vI k, vI j, vI z, vI q, vI a, vI b, vI (c0 + 1)] [] (M1) := by
              intro hq
              have hlt : c0 < g := by
                rcases Int.lt_trichotomy c0 g with r | r | r
                · exact r
                · subst r; exact absurd hg3 (hq hg2)
                · omega
              refine ih3 (c0 + 1) (by omega) (by omega) (by omega) (fun d hd1 hd2 => ?_)
              by_cases r : d = c0
              · subst r; exact hq
              · exact h4 d hd1 (by omega)
            have VAL : ∀ x y, kStep (kMnet M) a b c0 = (x, y) → (0 ≤ x ∧ x < M 30 0 2) → (0 ≤ y ∧ y < M 30 0 2) → kFN (kMnet M) x y (kNr (M 42 0 (60 * x + y))) := by
              intro x y e hx hy
              exact hF x y ⟨hx, hy⟩
            -- the step is found
            have FOUND : ∀ x y, kStep (kMnet M) a b c0 = (x, y) → (0 ≤ x ∧ x < M 30 0 2) → (0 ≤ y ∧ y < M 30 0 2) → M1 42 0 (60 * x + y) = v - q - 1 → kG p l e h s m args below meth c w 9 1 post 98 [vR 30 0, vI i, vI k, vI j, vI z, vI q, vI a, vI b, vI c0] [] (M1) := by
              intro x y e7 hx hy hxy
              have hdn : kDn (kMnet M) a b c0 := by
                refine ⟨by omega, v - q, by rw [show v - q = v - (q.toNat : Int) by omega]; exact hab2, hpos, by rw [e7]; dsimp only; omega, ?_, h4⟩
                have := VAL x y e7 hx hy
                rw [e42] at hxy
                rw [e7]
                rw [hxy, kNr_ne (by omega)] at this
                exact this
              have J : ∀ z2, (((0 ≤ j ∧ j < q + 1) ∧ ∃ a b, kPath (kMnet M) j.toNat i k a b ∧ kDn (kMnet M) a b z2) ∨ (¬ (0 ≤ j ∧ j < q + 1) ∧ z2 = -6)) → kG p l e h s m args below meth c w 9 1 post 111 [vR 30 0, vI i, vI k, vI j, vI z, vI q, vI a, vI b, vI c0] [vI z2] (M1) := by
                intro z2 hz2
                refine g_ist_4 C dX4_follow_111 (by decide) rfl ?_
                refine g_inc_5 C dX4_follow_113 (by decide) rfl ?_
                refine g_aload_n C dX4_follow_116 rfl ?_
                refine g_aload_n C dX4_follow_117 rfl ?_
                refine g_iload C dX4_follow_118 rfl ?_
                refine g_iload C dX4_follow_120 rfl ?_
                refine g_iload C dX4_follow_122 rfl ?_
                refine g_callVi C dX4_follow_124 v_X4_138 (m_X4_stepTo (h := 2) (by omega) hI a b c0 M1 hN1 (by omega) (by omega) (by omega) (hokf ()) (fun _ _ q => q)) ⟨rfl, rfl⟩ rfl rfl (Nat.le_of_ble_eq_true rfl) (by omega) ?_
                rintro u M' ⟨hu, rfl⟩
                rw [eN] at hu
                have eu := kSR_uniq hu (Or.inr ⟨x, y, e7, by omega, by omega, rfl⟩)
                subst eu
                refine g_putI C 18 dX4_follow_127 f_X4_148 ⟨rfl, rfl⟩ rfl rfl (by omega) ?_
                refine g_goto C 17 dX4_follow_130 (by decide) ?_
                exact ih (q + 1) x y z2 _ _ _ _ (by omega) (by omega) (by omega) (by rw [show (q + 1).toNat = q.toNat + 1 by omega]; exact ⟨a, b, c0, hP, hdn, by rw [e7], by rw [e7]⟩) (fun t ht => by rw [kUp_t ht]; exact hs t ht) (fun i k hk => by rw [kUp_nk hk]; exact hk30 i k hk) kUp_eq hz2
              refine g_iload C dX4_follow_98 rfl ?_
              refine g_iload_n C dX4_follow_100 rfl ?_
              refine g_ic_ne C 109 dX4_follow_101 (by decide) (by omega) (fun c_101 => ?_) (fun c_101 => ?_)
              · refine g_iload C dX4_follow_109 rfl ?_
                first
                | exact J _ (Or.inl ⟨by omega, a, b, by rw [show j = q by omega]; exact hP, hdn⟩)
                | (refine J _ ?_
                   rcases hz with ⟨r, z1⟩ | ⟨r, z1⟩
                   · exact Or.inl ⟨by omega, z1⟩
                   · exact Or.inr ⟨by omega, z1⟩)
              · refine g_iload C dX4_follow_104 rfl ?_
                refine g_goto C 111 dX4_follow_106 (by decide) ?_
                first
                | exact J _ (Or.inl ⟨by omega, a, b, by rw [show j = q by omega]; exact hP, hdn⟩)
                | (refine J _ ?_
                   rcases hz with ⟨r, z1⟩ | ⟨r, z1⟩
                   · exact Or.inl ⟨by omega, z1⟩
                   · exact Or.inr ⟨by omega, z1⟩)
            refine g_aload_n C dX4_follow_50 rfl ?_
            refine g_iload C dX4_follow_51 rfl ?_
            refine g_iload C dX4_follow_53 rfl ?_
            refine g_iload C dX4_follow_55 rfl ?_
            refine g_callVi C dX4_follow_57 v_X4_138 (m_X4_stepTo (h := 2) (by omega) hI a b c0 M1 hN1 (by omega) (by omega) (by omega) (hokf ()) (fun _ _ q => q)) ⟨rfl, rfl⟩ rfl rfl (Nat.le_of_ble_eq_true rfl) (by omega) ?_
            rintro z9 M' ⟨⟨e, rfl⟩ | ⟨x, y, e, hx, hy, rfl⟩, rfl⟩
            · refine g_if_lt C 92 dX4_follow_60 (by decide) (by omega) (fun c_60 => ?_) (fun c_60 => ?_)
              · refine g_inc_8 C dX4_follow_92 (by decide) rfl ?_
                refine g_goto C 50 dX4_follow_95 (by decide) ?_
                rw [eN] at e
                exact next (fun r => by rw [e] at r; exact absurd rfl r)
              · omega
            · refine g_if_lt C 92 dX4_follow_60 (by decide) (by omega) (fun c_60 => ?_) (fun c_60 => ?_)
              · omega
              · rw [eN] at e
                refine g_aload_n C dX4_follow_63 rfl ?_
                refine g_getR C 42 dX4_follow_64 f_X4_44 ⟨rfl, rfl⟩ rfl (by decide) ?_
                refine g_aload_n C dX4_follow_67 rfl ?_
                refine g_iload C dX4_follow_68 rfl ?_
                refine g_iload C dX4_follow_70 rfl ?_
                refine g_iload C dX4_follow_72 rfl ?_
                refine g_callVi C dX4_follow_74 v_X4_138 (m_X4_stepTo (h := 2) (by omega) hI a b c0 M1 hN1 (by omega) (by omega) (by omega) (hokf ()) (fun _ _ q => q)) ⟨rfl, rfl⟩ rfl rfl (Nat.le_of_ble_eq_true rfl) (by omega) ?_
                rintro u M' ⟨hu, rfl⟩
                rw [eN] at hu
                have eu := kSR_uniq hu (Or.inr ⟨x, y, e, by omega, by omega, rfl⟩)
                subst eu
                refine g_iald C 3600 dX4_follow_77 ⟨rfl, rfl⟩ rfl (by omega) (fun r_77 => ?_)
                refine g_aload_n C dX4_follow_78 rfl ?_
                refine g_getR C 42 dX4_follow_79 f_X4_44 ⟨rfl, rfl⟩ rfl (by decide) ?_
                refine g_aload_n C dX4_follow_82 rfl ?_
                refine g_getI C 18 dX4_follow_83 f_X4_148 ⟨rfl, rfl⟩ rfl rfl (fun r_83 => ?_)
                rw [h18] at r_83 ⊢
                refine g_iald C 3600 dX4_follow_86 ⟨rfl, rfl⟩ rfl (by omega) (fun r_86 => ?_)
                refine g_iconst C dX4_follow_87 ?_
                refine g_isub C dX4_follow_88 ?_
                refine g_ic_eq C 98 dX4_follow_89 (by decide) (by omega) (fun c_89 => ?_) (fun c_89 => ?_)
                · exact FOUND x y e (by omega) (by omega) (by omega)
                · refine g_inc_8 C dX4_follow_92 (by decide) rfl ?_
                  refine g_goto C 50 dX4_follow_95 (by decide) ?_
                  refine next (fun _ r => c_89 ?_)
                  have e5 := kFN_uniq (VAL x y e (by omega) (by omega)) (by rw [e] at r; exact r)
                  rw [e42, hval]
                  by_cases r9 : M 42 0 (60 * x + y) = 100000
                  · rw [r9, kNr_far] at e5; omega
                  · rw [kNr_ne r9] at e5; exact e5
        exact L3 (g + 1).toNat 0 (by omega) (by omega) (by omega) (fun d h1 h2 => by omega)
      refine g_aload_n C dX4_follow_17 rfl ?_
      refine g_getR C 42 dX4_follow_18 f_X4_44 ⟨rfl, rfl⟩ rfl (by decide) ?_
      refine g_aload_n C dX4_follow_21 rfl ?_
      refine g_getI C 18 dX4_follow_22 f_X4_148 ⟨rfl, rfl⟩ rfl rfl (fun r_22 => ?_)
      rw [h18]
      refine g_iald C 3600 dX4_follow_25 ⟨rfl, rfl⟩ rfl (by omega) (fun r_25 => ?_)
      refine g_if_le C 133 dX4_follow_26 (by decide) (by omega) (fun c_26 => ?_) (fun c_26 => ?_)
      · refine g_iload C dX4_follow_133 rfl ?_
        exact g_iret C dX4_follow_135 (hp _ _ ⟨hs, hk30, ⟨a, b, hab, by rw [show v = q by omega]; exact hP, h18⟩, by rw [show v = q by omega]; exact hz⟩)
      · refine g_aload_n C dX4_follow_29 rfl ?_
        refine g_getI C 18 dX4_follow_30 f_X4_148 ⟨rfl, rfl⟩ rfl rfl (fun r_30 => ?_)
        rw [h18]
        refine g_bipush C dX4_follow_33 (by decide) ?_
        refine g_idiv C dX4_follow_35 (by omega) ?_
        rw [show (60 * a + b) / 60 = a by omega]
        refine g_ist_6 C dX4_follow_36 (by decide) rfl ?_
        refine g_aload_n C dX4_follow_38 rfl ?_
        refine g_getI C 18 dX4_follow_39 f_X4_148 ⟨rfl, rfl⟩ rfl rfl (fun r_39 => ?_)
        rw [h18]
        refine g_bipush C dX4_follow_42 (by decide) ?_
        refine g_irem C dX4_follow_44 (by omega) ?_
        rw [show (60 * a + b) % 60 = b by omega]
        refine g_ist_7 C dX4_follow_45 (by decide) rfl ?_
        refine g_iconst C dX4_follow_47 ?_
        refine g_ist_8 C dX4_follow_48 (by decide) rfl ?_
        exact INNER (by omega) vN
  refine g_aload_n C dX4_follow_0 rfl ?_
  refine g_bipush C dX4_follow_1 (by decide) ?_
  refine g_iload_n C dX4_follow_3 rfl ?_
  refine g_imul C dX4_follow_4 ?_
  refine g_iload_n C dX4_follow_5 rfl ?_
  refine g_iadd C dX4_follow_6 ?_
  refine g_putI C 18 dX4_follow_7 f_X4_148 ⟨rfl, rfl⟩ rfl rfl (by omega) ?_
  refine g_bipush C dX4_follow_10 (by decide) ?_
  refine g_ist_4 C dX4_follow_12 (by decide) rfl ?_
  refine g_iconst C dX4_follow_14 ?_
  refine g_ist_5 C dX4_follow_15 (by decide) rfl ?_
  exact L (v + 1).toNat 0 i k (-6) _ _ _ _ (by omega) (by omega) (by omega) ⟨rfl, rfl⟩ (fun t ht => kUp_t ht) (fun i k hk => kUp_nk hk) kUp_eq (Or.inr ⟨by omega, rfl⟩)
theorem m_X4_way (hh : 4 ≤ h) (hI : kInj w) (i k j : Int) (M : KM) (hN : kWF (kMnet M)) (hK : kLd2 M) (hi : -2147483648 ≤ i ∧ i < 2147483648) (hk : -2147483648 ≤ k ∧ k < 2147483648) (hj : -2147483648 ≤ j ∧ j < 2147483648) (hp : ∀ z M', (¬ kIn2 (kMnet M) i k ∧ z = -1 ∧ M = M') ∨ (kIn2 (kMnet M) i k ∧ (∃ M1, kLL M M1 ∧ (∀ t, t ≠ 30 → M' t = M1 t) ∧ (∀ i k, k ≠ 18 → M' 30 i k = M1 30 i k)) ∧ kWay (kMnet M) i k j z) → post z M') : kMet l w yX4_way cX4_way 4 (some .int) 1 h [vR 30 0, vI i, vI k, vI j] M post := by
  obtain ⟨hn, -, -, -, -⟩ := kMwf hN
  have eik : kIn2 (kMnet M) i k ↔ (0 ≤ i ∧ i < M 30 0 2) ∧ 0 ≤ k ∧ k < M 30 0 2 := Iff.rfl
  refine kMet_of [vR 30 0, vI i, vI k, vI j] (by decide) hI rfl rfl (Nat.le_of_ble_eq_true rfl) ?_
  intro p e s m args below meth c C hVok
  refine g_aload_n C dX4_way_0 rfl ?_
  refine g_iload_n C dX4_way_1 rfl ?_
  refine g_iload_n C dX4_way_2 rfl ?_
  refine g_callVi C dX4_way_3 v_X4_142 (m_X4_areNodes (h := 3) (by omega) hI i k M (by omega) (by omega) hn (fun _ _ q => q)) ⟨rfl, rfl⟩ rfl rfl (Nat.le_of_ble_eq_true rfl) (by omega) ?_
  rintro z M' ⟨⟨hz, rfl⟩ | ⟨hz, rfl⟩, rfl⟩
  · refine g_if_ne C 11 dX4_way_6 (by decide) (by omega) (fun c_6 => ?_) (fun c_6 => ?_)
    · refine g_aload_n C dX4_way_11 rfl ?_
      refine g_callVv C dX4_way_12 v_X4_145 (m_X4_lay (h := 3) (by omega) hI M hN hK (fun _ _ q => q)) ⟨rfl, rfl⟩ rfl rfl (Nat.le_of_ble_eq_true rfl) (by omega) ?_
      rintro z2 M1 hL
      have hmay := hL.may (eik.mpr hz)
      have hm := hL.many
      refine g_aload_n C dX4_way_15 rfl ?_
      refine g_getR C 41 dX4_way_16 f_X4_40 ⟨rfl, rfl⟩ rfl (by decide) ?_
      refine g_bipush C dX4_way_19 (by decide) ?_
      refine g_iload_n C dX4_way_21 rfl ?_
      refine g_imul C dX4_way_22 ?_
      refine g_iload_n C dX4_way_23 rfl ?_
      refine g_iadd C dX4_way_24 ?_
      refine g_zald C 3600 dX4_way_25 ⟨rfl, rfl⟩ rfl (by omega) (fun r_25 => ?_)
      refine g_if_eq C 32 dX4_way_26 (by decide) (by omega) (fun c_26 => ?_) (fun c_26 => ?_)
      · have hmay : kFN (kMnet M) i k (M1 42 0 (60 * i + k)) ∧ (0 ≤ M1 42 0 (60 * i + k) ∧ M1 42 0 (60 * i + k) ≤ 3601) := by
          rcases hmay with q | q
          · exact absurd c_26 (by omega)
          · exact ⟨q.2.1, q.2.2.1⟩
        refine g_iload_n C dX4_way_32 rfl ?_
        refine g_iconst C dX4_way_33 ?_
        refine g_ic_ne C 51 dX4_way_34 (by decide) (by omega) (fun c_34 => ?_) (fun c_34 => ?_)
        · refine g_aload_n C dX4_way_51 rfl ?_
          refine g_iload_n C dX4_way_52 rfl ?_
          refine g_iload_n C dX4_way_53 rfl ?_
          refine g_iload_n C dX4_way_54 rfl ?_
          refine g_callVi C dX4_way_55 v_X4_151 (m_X4_follow (h := 3) (by omega) hI i k j (M1 42 0 (60 * i + k)) M1 (by rw [hL.net]; exact hN) (by omega) (by omega) (by rw [hL.net]; exact fun a b hab => (hL.2.2.2 a b hab).1) rfl hmay.2 hj (fun _ _ q => q)) ⟨rfl, rfl⟩ rfl rfl (Nat.le_of_ble_eq_true rfl) (by omega) ?_
          rintro z3 M2 ⟨h1, h2, -, h3⟩
          rw [hL.net] at h3
          exact g_iret C dX4_way_58 (hp _ _ (Or.inr ⟨eik.mpr hz, ⟨M1, hL, by first | exact h1 | exact fun _ _ => rfl, by first | exact h2 | exact fun _ _ _ => rfl⟩, _, hmay.1, by
          first
            | exact Or.inr (Or.inl ⟨hmay.2.1, by omega, rfl⟩)
            | (rcases h3 with ⟨r, q⟩ | ⟨r, q⟩
               · exact Or.inr (Or.inr (Or.inl ⟨r, q⟩))
               · exact Or.inr (Or.inr (Or.inr ⟨hmay.2.1, by omega, q⟩)))⟩))
        · refine g_aload_n C dX4_way_37 rfl ?_
          refine g_getR C 42 dX4_way_38 f_X4_44 ⟨rfl, rfl⟩ rfl (by decide) ?_
          refine g_bipush C dX4_way_41 (by decide) ?_
          refine g_iload_n C dX4_way_43 rfl ?_
          refine g_imul C dX4_way_44 ?_
          refine g_iload_n C dX4_way_45 rfl ?_
          refine g_iadd C dX4_way_46 ?_
          refine g_iald C 3600 dX4_way_47 ⟨rfl, rfl⟩ rfl (by omega) (fun r_47 => ?_)
          refine g_goto C 58 dX4_way_48 (by decide) ?_
          exact g_iret C dX4_way_58 (hp _ _ (Or.inr ⟨eik.mpr hz, ⟨M1, hL, by first | exact h1 | exact fun _ _ => rfl, by first | exact h2 | exact fun _ _ _ => rfl⟩, _, hmay.1, by
          first
            | exact Or.inr (Or.inl ⟨hmay.2.1, by omega, rfl⟩)
            | (rcases h3 with ⟨r, q⟩ | ⟨r, q⟩
               · exact Or.inr (Or.inr (Or.inl ⟨r, q⟩))
               · exact Or.inr (Or.inr (Or.inr ⟨hmay.2.1, by omega, q⟩)))⟩))
      · refine g_bipush C dX4_way_29 (by decide) ?_
        exact g_iret C dX4_way_31 (hp _ _ (Or.inr ⟨eik.mpr hz, ⟨M1, hL, fun _ _ => rfl, fun _ _ _ => rfl⟩, _, (by rcases hmay with q | q; exact q.2; exact absurd q.1 c_26), Or.inl ⟨rfl, rfl⟩⟩))
    · omega
  · refine g_if_ne C 11 dX4_way_6 (by decide) (by omega) (fun c_6 => ?_) (fun c_6 => ?_)
    · omega
    · refine g_iconst C dX4_way_9 ?_
      exact g_iret C dX4_way_10 (hp _ _ (Or.inl ⟨by rw [eik]; exact hz, rfl, rfl⟩))
theorem m_X4_end (hh : 4 ≤ h) (hI : kInj w) (i k : Int) (M : KM) (hN : kWF (kMnet M)) (hK : kLd2 M) (hi : -2147483648 ≤ i ∧ i < 2147483648) (hk : -2147483648 ≤ k ∧ k < 2147483648) (hp : ∀ z M', (¬ kIn2 (kMnet M) i k ∧ z = -1 ∧ M = M') ∨ (kIn2 (kMnet M) i k ∧ (∃ M1, kLL M M1 ∧ (∀ t, t ≠ 30 → M' t = M1 t) ∧ (∀ i k, k ≠ 18 → M' 30 i k = M1 30 i k)) ∧ kEndA (kMnet M) i k z) → post z M') : kMet l w yX4_end cX4_end 3 (some .int) 1 h [vR 30 0, vI i, vI k] M post := by
  obtain ⟨hn, -, -, -, -⟩ := kMwf hN
  have eik : kIn2 (kMnet M) i k ↔ (0 ≤ i ∧ i < M 30 0 2) ∧ 0 ≤ k ∧ k < M 30 0 2 := Iff.rfl
  refine kMet_of [vR 30 0, vI i, vI k] (by decide) hI rfl rfl (Nat.le_of_ble_eq_true rfl) ?_
  intro p e s m args below meth c C hVok
  refine g_aload_n C dX4_end_0 rfl ?_
  refine g_iload_n C dX4_end_1 rfl ?_
  refine g_iload_n C dX4_end_2 rfl ?_
  refine g_callVi C dX4_end_3 v_X4_142 (m_X4_areNodes (h := 3) (by omega) hI i k M (by omega) (by omega) hn (fun _ _ q => q)) ⟨rfl, rfl⟩ rfl rfl (Nat.le_of_ble_eq_true rfl) (by omega) ?_
  rintro z M' ⟨⟨hz, rfl⟩ | ⟨hz, rfl⟩, rfl⟩
  · refine g_if_ne C 11 dX4_end_6 (by decide) (by omega) (fun c_6 => ?_) (fun c_6 => ?_)
    · refine g_aload_n C dX4_end_11 rfl ?_
      refine g_callVv C dX4_end_12 v_X4_145 (m_X4_lay (h := 3) (by omega) hI M hN hK (fun _ _ q => q)) ⟨rfl, rfl⟩ rfl rfl (Nat.le_of_ble_eq_true rfl) (by omega) ?_
      rintro z2 M1 hL
      have hmay := hL.may (eik.mpr hz)
      have hm := hL.many
      refine g_aload_n C dX4_end_15 rfl ?_
      refine g_getR C 41 dX4_end_16 f_X4_40 ⟨rfl, rfl⟩ rfl (by decide) ?_
      refine g_bipush C dX4_end_19 (by decide) ?_
      refine g_iload_n C dX4_end_21 rfl ?_
      refine g_imul C dX4_end_22 ?_
      refine g_iload_n C dX4_end_23 rfl ?_
      refine g_iadd C dX4_end_24 ?_
      refine g_zald C 3600 dX4_end_25 ⟨rfl, rfl⟩ rfl (by omega) (fun r_25 => ?_)
      refine g_if_eq C 32 dX4_end_26 (by decide) (by omega) (fun c_26 => ?_) (fun c_26 => ?_)
      · have hmay : kFN (kMnet M) i k (M1 42 0 (60 * i + k)) ∧ (0 ≤ M1 42 0 (60 * i + k) ∧ M1 42 0 (60 * i + k) ≤ 3601) := by
          rcases hmay with q | q
          · exact absurd c_26 (by omega)
          · exact ⟨q.2.1, q.2.2.1⟩
        refine g_aload_n C dX4_end_32 rfl ?_
        refine g_iload_n C dX4_end_33 rfl ?_
        refine g_iload_n C dX4_end_34 rfl ?_
        refine g_bipush C dX4_end_35 (by decide) ?_
        refine g_callVi C dX4_end_37 v_X4_151 (m_X4_follow (h := 3) (by omega) hI i k (-6) (M1 42 0 (60 * i + k)) M1 (by rw [hL.net]; exact hN) (by omega) (by omega) (by rw [hL.net]; exact fun a b hab => (hL.2.2.2 a b hab).1) rfl hmay.2 (by omega) (fun _ _ q => q)) ⟨rfl, rfl⟩ rfl rfl (Nat.le_of_ble_eq_true rfl) (by omega) ?_
        rintro z3 M2 ⟨h1, h2, ⟨a, b, hab, hP, h18⟩, -⟩
        rw [hL.net] at hP hab
        obtain ⟨ha, hb⟩ := hab
        rw [kMnet_n] at ha hb
        refine g_pop C dX4_end_40 ?_
        refine g_bipush C dX4_end_41 (by decide) ?_
        refine g_aload_n C dX4_end_43 rfl ?_
        refine g_getI C 18 dX4_end_44 f_X4_148 ⟨rfl, rfl⟩ rfl rfl (fun r_44 => ?_)
        rw [h18]
        refine g_bipush C dX4_end_47 (by decide) ?_
        refine g_idiv C dX4_end_49 (by omega) ?_
        rw [show (60 * a + b) / 60 = a by omega]
        refine g_imul C dX4_end_50 ?_
        refine g_aload_n C dX4_end_51 rfl ?_
        refine g_getI C 18 dX4_end_52 f_X4_148 ⟨rfl, rfl⟩ rfl rfl (fun r_52 => ?_)
        rw [h18]
        refine g_bipush C dX4_end_55 (by decide) ?_
        refine g_irem C dX4_end_57 (by omega) ?_
        refine g_iadd C dX4_end_58 ?_
        rw [show (60 * a + b) % 60 = b by omega]
        exact g_iret C dX4_end_59 (hp _ _ (Or.inr ⟨eik.mpr hz, ⟨M1, hL, h1, h2⟩, _, hmay.1, Or.inr ⟨hmay.2.1, a, b, hP, rfl⟩⟩))
      · refine g_bipush C dX4_end_29 (by decide) ?_
        exact g_iret C dX4_end_31 (hp _ _ (Or.inr ⟨eik.mpr hz, ⟨M1, hL, fun _ _ => rfl, fun _ _ _ => rfl⟩, _, (by rcases hmay with q | q; exact q.2; exact absurd q.1 c_26), Or.inl ⟨rfl, rfl⟩⟩))
    · omega
  · refine g_if_ne C 11 dX4_end_6 (by decide) (by omega) (fun c_6 => ?_) (fun c_6 => ?_)
    · omega
    · refine g_iconst C dX4_end_9 ?_
      exact g_iret C dX4_end_10 (hp _ _ (Or.inl ⟨by rw [eik]; exact hz, rfl, rfl⟩))
end

