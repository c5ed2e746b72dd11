/-! KindNetsModel: isBoth, fitsAlone, stepTo -/
set_option maxRecDepth 100000
theorem kMnet_eq {M M' : KM} (h1 : M' 32 = M 32) (h2 : M' 33 = M 33) (h7 : M' 30 0 2 = M 30 0 2) : kMnet M' = kMnet M := by
  simp only [kMnet, h1, h2, h7]
theorem kMwf {M : KM} (h : kWF (kMnet M)) : (0 ≤ M 30 0 2 ∧ M 30 0 2 ≤ 60) ∧ (∀ i, 0 ≤ i → i < M 30 0 2 → kSign (M 32 0 i)) ∧ (∀ i l, 0 ≤ i → i < M 30 0 2 → 0 ≤ l → l < 8 → M 33 0 (8 * i + l) = -6 ∨ (0 ≤ M 33 0 (8 * i + l) ∧ M 33 0 (8 * i + l) < M 30 0 2)) ∧
    (∀ i, 0 ≤ i → i < M 30 0 2 → M 32 0 i = 42 → 0 ≤ M 33 0 (8 * i) ∧ ∀ l, 1 ≤ l → l < 8 → M 33 0 (8 * i + l) = -6) ∧ (∀ i, 0 ≤ i → i < M 30 0 2 → M 32 0 i = 62 → (0 ≤ M 33 0 (8 * i) ∧ 0 ≤ M 33 0 (8 * i + 1)) ∧ ∀ l, 2 ≤ l → l < 8 → M 33 0 (8 * i + l) = -6) := by
  obtain ⟨a, b, d, e, f⟩ := h
  refine ⟨a, fun i h1 h2 => ?_, fun i l h1 h2 h3 h4 => ?_, fun i h1 h2 h3 => ?_, fun i h1 h2 h3 => ?_⟩
  · have := b i h1 h2
    rwa [kMnet_s ⟨h1, h2⟩] at this
  · have := d i l h1 h2 h3 h4
    rwa [kMnet_p ⟨h1, h2⟩ ⟨h3, h4⟩] at this
  · have := e i h1 h2 (by rw [kMnet_s ⟨h1, h2⟩]; exact h3)
    rw [kMnet_p ⟨h1, h2⟩ (by omega), Int.add_zero] at this
    refine ⟨this.1, fun l h4 h5 => ?_⟩
    have := this.2 l h4 h5
    rwa [kMnet_p ⟨h1, h2⟩ (by omega)] at this
  · have := f i h1 h2 (by rw [kMnet_s ⟨h1, h2⟩]; exact h3)
    rw [kMnet_p ⟨h1, h2⟩ (by omega), kMnet_p ⟨h1, h2⟩ (by omega), Int.add_zero] at this
    refine ⟨this.1, fun l h4 h5 => ?_⟩
    have := this.2 l h4 h5
    rwa [kMnet_p ⟨h1, h2⟩ (by omega)] at this
theorem kMunl {M : KM} {i k : Int} (hi : 0 ≤ i ∧ i < M 30 0 2) (hk : 0 ≤ k ∧ k < M 30 0 2) : kUnl (kMnet M) i k ↔ ((M 32 0 i ≠ 33 ∧ M 32 0 k ≠ 46) ∧ (M 32 0 i ≠ M 32 0 k ∨ (M 32 0 i = 123 ∧ ∃ l, 0 ≤ l ∧ l < 8 ∧ M 33 0 (8 * i + l) = -6 ∧ M 33 0 (8 * k + l) ≠ -6) ∨ (M 32 0 i = 91 ∧ ∃ l, 0 ≤ l ∧ l < 8 ∧ M 33 0 (8 * k + l) = -6 ∧ M 33 0 (8 * i + l) ≠ -6))) := by
  unfold kUnl
  rw [kMnet_s hi, kMnet_s hk]
  have e1 : (∃ l, 0 ≤ l ∧ l < 8 ∧ (kMnet M).2.2 i l = -6 ∧ (kMnet M).2.2 k l ≠ -6) ↔ ∃ l, 0 ≤ l ∧ l < 8 ∧ M 33 0 (8 * i + l) = -6 ∧ M 33 0 (8 * k + l) ≠ -6 := by
    constructor
    · rintro ⟨l, h1, h2, h3⟩
      rw [kMnet_p hi ⟨h1, h2⟩, kMnet_p hk ⟨h1, h2⟩] at h3
      exact ⟨l, h1, h2, h3⟩
    · rintro ⟨l, h1, h2, h3⟩
      rw [← kMnet_p hi ⟨h1, h2⟩, ← kMnet_p hk ⟨h1, h2⟩] at h3
      exact ⟨l, h1, h2, h3⟩
  have e2 : (∃ l, 0 ≤ l ∧ l < 8 ∧ (kMnet M).2.2 k l = -6 ∧ (kMnet M).2.2 i l ≠ -6) ↔ ∃ l, 0 ≤ l ∧ l < 8 ∧ M 33 0 (8 * k + l) = -6 ∧ M 33 0 (8 * i + l) ≠ -6 := by
    constructor
    · rintro ⟨l, h1, h2, h3⟩
      rw [kMnet_p hi ⟨h1, h2⟩, kMnet_p hk ⟨h1, h2⟩] at h3
      exact ⟨l, h1, h2, h3⟩
    · rintro ⟨l, h1, h2, h3⟩
      rw [← kMnet_p hi ⟨h1, h2⟩, ← kMnet_p hk ⟨h1, h2⟩] at h3
      exact ⟨l, h1, h2, h3⟩
  rw [e1, e2]
theorem kMs_bad {M : KM} {i k c : Int} (hi : 0 ≤ i ∧ i < M 30 0 2) (hk : 0 ≤ k ∧ k < M 30 0 2) (h : M 32 0 i = 33 ∨ M 32 0 k = 46 ∨ M 32 0 i ≠ M 32 0 k) : kStep (kMnet M) i k c = (-6, -6) := by
  unfold kStep
  rw [kMnet_s hi, kMnet_s hk, if_pos h]
theorem kMs_8 {M : KM} {i k : Int} (hi : 0 ≤ i ∧ i < M 30 0 2) (hk : 0 ≤ k ∧ k < M 30 0 2) (h : ¬ (M 32 0 i = 33 ∨ M 32 0 k = 46 ∨ M 32 0 i ≠ M 32 0 k)) : kStep (kMnet M) i k 8 = if M 32 0 i = 42 then (M 33 0 (8 * i), M 33 0 (8 * k)) else (-6, -6) := by
  unfold kStep
  rw [kMnet_s hi, kMnet_s hk, if_neg h, if_pos rfl, kMnet_p hi (by omega), kMnet_p hk (by omega), Int.add_zero, Int.add_zero]
theorem kMs_9 {M : KM} {i k : Int} (hi : 0 ≤ i ∧ i < M 30 0 2) (hk : 0 ≤ k ∧ k < M 30 0 2) (h : ¬ (M 32 0 i = 33 ∨ M 32 0 k = 46 ∨ M 32 0 i ≠ M 32 0 k)) : kStep (kMnet M) i k 9 = if M 32 0 i = 62 then (M 33 0 (8 * k), M 33 0 (8 * i)) else (-6, -6) := by
  unfold kStep
  rw [kMnet_s hi, kMnet_s hk, if_neg h, if_neg (by decide), if_pos rfl, kMnet_p hi (by omega), kMnet_p hk (by omega), Int.add_zero, Int.add_zero]
theorem kMs_10 {M : KM} {i k : Int} (hi : 0 ≤ i ∧ i < M 30 0 2) (hk : 0 ≤ k ∧ k < M 30 0 2) (h : ¬ (M 32 0 i = 33 ∨ M 32 0 k = 46 ∨ M 32 0 i ≠ M 32 0 k)) : kStep (kMnet M) i k 10 = if M 32 0 i = 62 then (M 33 0 (8 * i + 1), M 33 0 (8 * k + 1)) else (-6, -6) := by
  unfold kStep
  rw [kMnet_s hi, kMnet_s hk, if_neg h, if_neg (by decide), if_neg (by decide), if_pos rfl, kMnet_p hi (by omega), kMnet_p hk (by omega)]
theorem kMs_lt {M : KM} {i k c : Int} (hi : 0 ≤ i ∧ i < M 30 0 2) (hk : 0 ≤ k ∧ k < M 30 0 2) (h : ¬ (M 32 0 i = 33 ∨ M 32 0 k = 46 ∨ M 32 0 i ≠ M 32 0 k)) (hc : 0 ≤ c ∧ c < 8) : kStep (kMnet M) i k c = if (M 32 0 i = 123 ∨ M 32 0 i = 91) ∧ M 33 0 (8 * i + c) ≠ -6 ∧ M 33 0 (8 * k + c) ≠ -6 then (M 33 0 (8 * i + c), M 33 0 (8 * k + c)) else (-6, -6) := by
  unfold kStep
  rw [kMnet_s hi, kMnet_s hk, if_neg h, if_neg (by omega), if_neg (by omega), if_neg (by omega), kMnet_p hi hc, kMnet_p hk hc]
section
variable {l : Launch} {w : KL} {h : Nat} {post : Int → KM → Prop}
theorem m_X4_isBoth (hI : kInj w) (x : Int) (M : KM) (hx : -2147483648 ≤ x ∧ x < 2147483648) (hp : ∀ z M', (((x = 123 ∨ x = 91) ∧ z = 1) ∨ ((x ≠ 123 ∧ x ≠ 91) ∧ z = 0)) ∧ M = M' → post z M') : kMet l w yX4_isBoth cX4_isBoth 1 (some .boolean) 1 h [vI x] M post := by
  refine kMet_of [vI x] (by decide) hI rfl rfl (Nat.le_of_ble_eq_true rfl) ?_
  intro p e s m args below meth c C hVok
  refine g_iload_n C dX4_isBoth_0 rfl ?_
  refine g_bipush C dX4_isBoth_1 (by decide) ?_
  refine g_ic_eq C 12 dX4_isBoth_3 (by decide) (by omega) (fun c_3 => ?_) (fun c_3 => ?_)
  · refine g_iconst C dX4_isBoth_12 ?_
    refine g_goto C 17 dX4_isBoth_13 (by decide) ?_
    exact g_zret C dX4_isBoth_17 (by omega) (hp _ _ ⟨by omega, rfl⟩)
  · refine g_iload_n C dX4_isBoth_6 rfl ?_
    refine g_bipush C dX4_isBoth_7 (by decide) ?_
    refine g_ic_ne C 16 dX4_isBoth_9 (by decide) (by omega) (fun c_9 => ?_) (fun c_9 => ?_)
    · refine g_iconst C dX4_isBoth_16 ?_
      exact g_zret C dX4_isBoth_17 (by omega) (hp _ _ ⟨by omega, rfl⟩)
    · refine g_iconst C dX4_isBoth_12 ?_
      refine g_goto C 17 dX4_isBoth_13 (by decide) ?_
      exact g_zret C dX4_isBoth_17 (by omega) (hp _ _ ⟨by omega, rfl⟩)
theorem m_X4_fitsAlone (hh : 2 ≤ h) (hI : kInj w) (i k : Int) (M : KM) (hN : kWF (kMnet M)) (hi : 0 ≤ i ∧ i < M 30 0 2) (hk : 0 ≤ k ∧ k < M 30 0 2) (hp : ∀ z M', ((kUnl (kMnet M) i k ∧ z = 0) ∨ (¬ kUnl (kMnet M) i k ∧ z = 1)) ∧ M = M' → post z M') : kMet l w yX4_fitsAlone cX4_fitsAlone 7 (some .boolean) 1 h [vR 30 0, vI i, vI k] M post := by
  rw [kMunl hi hk] at hp
  obtain ⟨hn, hs, hpt, -, -⟩ := kMwf hN
  have P : ∀ x, 0 ≤ x → x < 8 → (M 33 0 (8 * i + x) = -6 ∨ 0 ≤ M 33 0 (8 * i + x)) ∧ (M 33 0 (8 * k + x) = -6 ∨ 0 ≤ M 33 0 (8 * k + x)) := by
    intro x h1 h2
    have a := hpt i x hi.1 hi.2 h1 h2
    have b := hpt k x hk.1 hk.2 h1 h2
    omega
  clear hpt hs
  obtain ⟨P1, eP1⟩ : ∃ P : Prop, P = (∃ x, 0 ≤ x ∧ x < 8 ∧ M 33 0 (8 * i + x) = -6 ∧ M 33 0 (8 * k + x) ≠ -6) := ⟨_, rfl⟩
  obtain ⟨P2, eP2⟩ : ∃ P : Prop, P = (∃ x, 0 ≤ x ∧ x < 8 ∧ M 33 0 (8 * k + x) = -6 ∧ M 33 0 (8 * i + x) ≠ -6) := ⟨_, rfl⟩
  rw [← eP1, ← eP2] at hp
  refine kMet_of [vR 30 0, vI i, vI k, vN, vN, vN, vN] (by decide) hI rfl rfl (Nat.le_of_ble_eq_true rfl) ?_
  intro p e s m args below meth c C hVok
  have L : ∀ (n : Nat) (f x : Int) (x5 x6 : KV), (M 32 0 i ≠ 33 ∧ M 32 0 k ≠ 46 ∧ M 32 0 i = M 32 0 k) → 0 ≤ x → x ≤ 8 → 9 ≤ x + n → (f = 0 ∨ f = 1) → (M 32 0 i = 123 → f = 1 → ∀ y, 0 ≤ y → y < x → ¬ (M 33 0 (8 * i + y) = -6 ∧ M 33 0 (8 * k + y) ≠ -6)) → (M 32 0 i = 123 → f = 0 → P1) → (M 32 0 i = 91 → f = 1 → ∀ y, 0 ≤ y → y < x → ¬ (M 33 0 (8 * k + y) = -6 ∧ M 33 0 (8 * i + y) ≠ -6)) → (M 32 0 i = 91 → f = 0 → P2) → (f = 0 → M 32 0 i = 123 ∨ M 32 0 i = 91) → kG p l e h s m args below meth c w 7 1 post 57 [vR 30 0, vI i, vI k, vI f, vI x, x5, x6] [] (M) := by
    intro n
    induction n with
    | zero => intro f x x5 x6 h0 h1 h2 h3; omega
    | succ n ih =>
      intro f x x5 x6 h0 h1 h2 h3 hf ha1 ha2 hb1 hb2 hf0
      have J : x < 8 → (M 32 0 i = 123 ∨ M 32 0 i = 91) → ∀ (v : Int) (x5 x6 : KV), ((v = 1 ∧ f = 1 ∧ ((M 32 0 i = 123 ∧ (0 ≤ M 33 0 (8 * i + x) ∨ M 33 0 (8 * k + x) < 0)) ∨ (M 32 0 i ≠ 123 ∧ (0 ≤ M 33 0 (8 * k + x) ∨ M 33 0 (8 * i + x) < 0)))) ∨ (v = 0 ∧ (f = 0 ∨ (M 32 0 i = 123 ∧ M 33 0 (8 * i + x) < 0 ∧ 0 ≤ M 33 0 (8 * k + x)) ∨ (M 32 0 i ≠ 123 ∧ M 33 0 (8 * k + x) < 0 ∧ 0 ≤ M 33 0 (8 * i + x))))) → kIsL x5 = false → kIsL x6 = false → kG p l e h s m args below meth c w 7 1 post 163 [vR 30 0, vI i, vI k, vI f, vI x, x5, x6] [vI v] (M) := by
        intro hx8 h9 v x5 x6 hv hl5 hl6
        have Px := P x h1 hx8
        refine g_istn_3 C dX4_fitsAlone_163 (by decide) rfl ?_
        refine g_inc_4 C dX4_fitsAlone_164 (by decide) rfl ?_
        refine g_goto C 57 dX4_fitsAlone_167 (by decide) ?_
        refine ih v (x + 1) _ _ h0 (by omega) (by omega) (by omega) (by omega) (fun q1 q2 y hy1 hy2 => ?_) (fun q1 q2 => ?_) (fun q1 q2 y hy1 hy2 => ?_) (fun q1 q2 => ?_) (fun _ => h9)
        · by_cases q : y = x
          · subst q; omega
          · exact ha1 q1 (by omega) y hy1 (by omega)
        · by_cases q : f = 0
          · exact ha2 q1 q
          · rw [eP1]; exact ⟨x, h1, hx8, by omega, by omega⟩
        · by_cases q : y = x
          · subst q; omega
          · exact hb1 q1 (by omega) y hy1 (by omega)
        · by_cases q : f = 0
          · exact hb2 q1 q
          · rw [eP2]; exact ⟨x, h1, hx8, by omega, by omega⟩
      have fin : (8 ≤ x ∨ (M 32 0 i ≠ 123 ∧ M 32 0 i ≠ 91)) → (((M 32 0 i ≠ 33 ∧ M 32 0 k ≠ 46) ∧ (M 32 0 i ≠ M 32 0 k ∨ (M 32 0 i = 123 ∧ P1) ∨ (M 32 0 i = 91 ∧ P2))) ∧ f = 0) ∨ (¬ ((M 32 0 i ≠ 33 ∧ M 32 0 k ≠ 46) ∧ (M 32 0 i ≠ M 32 0 k ∨ (M 32 0 i = 123 ∧ P1) ∨ (M 32 0 i = 91 ∧ P2))) ∧ f = 1) := by
        intro hx
        have n1 : M 32 0 i = 123 → f = 1 → ¬ P1 := by
          intro q1 q2
          rw [eP1]
          rintro ⟨y, y1, y2, y3⟩
          exact ha1 q1 q2 y y1 (by omega) y3
        have n2 : M 32 0 i = 91 → f = 1 → ¬ P2 := by
          intro q1 q2
          rw [eP2]
          rintro ⟨y, y1, y2, y3⟩
          exact hb1 q1 q2 y y1 (by omega) y3
        clear ha1 hb1 ih J P eP1 eP2
        grind
      refine g_iload C dX4_fitsAlone_57 rfl ?_
      refine g_bipush C dX4_fitsAlone_59 (by decide) ?_
      refine g_ic_ge C 170 dX4_fitsAlone_61 (by decide) (by omega) (fun c_61 => ?_) (fun c_61 => ?_)
      · refine g_iload_n C dX4_fitsAlone_170 rfl ?_
        exact g_zret C dX4_fitsAlone_171 (by omega) (hp _ _ ⟨fin (by omega), rfl⟩)
      · refine g_aload_n C dX4_fitsAlone_64 rfl ?_
        refine g_getR C 32 dX4_fitsAlone_65 f_X4_13 ⟨rfl, rfl⟩ rfl (by decide) ?_
        refine g_iload_n C dX4_fitsAlone_68 rfl ?_
        refine g_iald C 60 dX4_fitsAlone_69 ⟨rfl, rfl⟩ rfl (by omega) (fun r_69 => ?_)
        refine g_callSi C dX4_fitsAlone_70 s_X4_130 (m_X4_isBoth (h := 1) hI (M 32 0 i) M (by omega) (fun _ _ q => q)) rfl rfl (Nat.le_of_ble_eq_true rfl) (by omega) ?_
        rintro z M' ⟨hz, rfl⟩
        refine g_if_eq C 170 dX4_fitsAlone_73 (by decide) (by omega) (fun c_73 => ?_) (fun c_73 => ?_)
        · refine g_iload_n C dX4_fitsAlone_170 rfl ?_
          exact g_zret C dX4_fitsAlone_171 (by omega) (hp _ _ ⟨fin (by omega), rfl⟩)
        · refine g_aload_n C dX4_fitsAlone_76 rfl ?_
          refine g_getR C 33 dX4_fitsAlone_77 f_X4_16 ⟨rfl, rfl⟩ rfl (by decide) ?_
          refine g_bipush C dX4_fitsAlone_80 (by decide) ?_
          refine g_iload_n C dX4_fitsAlone_82 rfl ?_
          refine g_imul C dX4_fitsAlone_83 ?_
          refine g_iload C dX4_fitsAlone_84 rfl ?_
          refine g_iadd C dX4_fitsAlone_86 ?_
          refine g_iald C 480 dX4_fitsAlone_87 ⟨rfl, rfl⟩ rfl (by omega) (fun r_87 => ?_)
          refine g_if_lt C 95 dX4_fitsAlone_88 (by decide) (by omega) (fun c_88 => ?_) (fun c_88 => ?_)
          · refine g_iconst C dX4_fitsAlone_95 ?_
            refine g_ist_5 C dX4_fitsAlone_96 (by decide) rfl ?_
            refine g_aload_n C dX4_fitsAlone_98 rfl ?_
            refine g_getR C 33 dX4_fitsAlone_99 f_X4_16 ⟨rfl, rfl⟩ rfl (by decide) ?_
            refine g_bipush C dX4_fitsAlone_102 (by decide) ?_
            refine g_iload_n C dX4_fitsAlone_104 rfl ?_
            refine g_imul C dX4_fitsAlone_105 ?_
            refine g_iload C dX4_fitsAlone_106 rfl ?_
            refine g_iadd C dX4_fitsAlone_108 ?_
            refine g_iald C 480 dX4_fitsAlone_109 ⟨rfl, rfl⟩ rfl (by omega) (fun r_109 => ?_)
            refine g_if_lt C 117 dX4_fitsAlone_110 (by decide) (by omega) (fun c_110 => ?_) (fun c_110 => ?_)
            · refine g_iconst C dX4_fitsAlone_117 ?_
              refine g_ist_6 C dX4_fitsAlone_118 (by decide) rfl ?_
              refine g_iload_n C dX4_fitsAlone_120 rfl ?_
              refine g_if_eq C 162 dX4_fitsAlone_121 (by decide) (by omega) (fun c_121 => ?_) (fun c_121 => ?_)
              · have hv : f = 0 ∨ (M 32 0 i = 123 ∧ M 33 0 (8 * i + x) < 0 ∧ 0 ≤ M 33 0 (8 * k + x)) ∨ (M 32 0 i ≠ 123 ∧ M 33 0 (8 * k + x) < 0 ∧ 0 ≤ M 33 0 (8 * i + x)) := by first | exact Or.inl (by assumption) | exact Or.inr (Or.inl ⟨by assumption, by assumption, by assumption⟩) | exact Or.inr (Or.inr ⟨by assumption, by assumption, by assumption⟩)
                refine g_iconst C dX4_fitsAlone_162 ?_
                first
                | exact J (by assumption) (by omega) _ _ _ (Or.inl ⟨rfl, hf1, hv⟩) rfl rfl
                | exact J (by assumption) (by omega) _ _ _ (Or.inr ⟨rfl, hv⟩) rfl rfl
              · refine g_aload_n C dX4_fitsAlone_124 rfl ?_
                refine g_getR C 32 dX4_fitsAlone_125 f_X4_13 ⟨rfl, rfl⟩ rfl (by decide) ?_
                refine g_iload_n C dX4_fitsAlone_128 rfl ?_
                refine g_iald C 60 dX4_fitsAlone_129 ⟨rfl, rfl⟩ rfl (by omega) (fun r_129 => ?_)
                refine g_bipush C dX4_fitsAlone_130 (by decide) ?_
                refine g_ic_ne C 148 dX4_fitsAlone_132 (by decide) (by omega) (fun c_132 => ?_) (fun c_132 => ?_)
                · refine g_iload C dX4_fitsAlone_148 rfl ?_
                  refine g_if_ne C 158 dX4_fitsAlone_150 (by decide) (by omega) (fun c_150 => ?_) (fun c_150 => ?_)
                  · exact absurd c_150 (by decide)
                  · refine g_iload C dX4_fitsAlone_153 rfl ?_
                    refine g_if_ne C 162 dX4_fitsAlone_155 (by decide) (by omega) (fun c_155 => ?_) (fun c_155 => ?_)
                    · exact absurd c_155 (by decide)
                    · have hv : (M 32 0 i = 123 ∧ (0 ≤ M 33 0 (8 * i + x) ∨ M 33 0 (8 * k + x) < 0)) ∨ (M 32 0 i ≠ 123 ∧ (0 ≤ M 33 0 (8 * k + x) ∨ M 33 0 (8 * i + x) < 0)) := by first | exact Or.inl ⟨by assumption, by omega⟩ | exact Or.inr ⟨by assumption, by omega⟩
                      have hf1 : f = 1 := by omega
                      refine g_iconst C dX4_fitsAlone_158 ?_
                      refine g_goto C 163 dX4_fitsAlone_159 (by decide) ?_
                      first
                      | exact J (by assumption) (by omega) _ _ _ (Or.inl ⟨rfl, hf1, hv⟩) rfl rfl
                      | exact J (by assumption) (by omega) _ _ _ (Or.inr ⟨rfl, hv⟩) rfl rfl
                · refine g_iload C dX4_fitsAlone_135 rfl ?_
                  refine g_if_ne C 158 dX4_fitsAlone_137 (by decide) (by omega) (fun c_137 => ?_) (fun c_137 => ?_)
                  · exact absurd c_137 (by decide)
                  · refine g_iload C dX4_fitsAlone_140 rfl ?_
                    refine g_if_ne C 162 dX4_fitsAlone_142 (by decide) (by omega) (fun c_142 => ?_) (fun c_142 => ?_)
                    · exact absurd c_142 (by decide)
                    · refine g_goto C 158 dX4_fitsAlone_145 (by decide) ?_
                      have hv : (M 32 0 i = 123 ∧ (0 ≤ M 33 0 (8 * i + x) ∨ M 33 0 (8 * k + x) < 0)) ∨ (M 32 0 i ≠ 123 ∧ (0 ≤ M 33 0 (8 * k + x) ∨ M 33 0 (8 * i + x) < 0)) := by first | exact Or.inl ⟨by assumption, by omega⟩ | exact Or.inr ⟨by assumption, by omega⟩
                      have hf1 : f = 1 := by omega
                      refine g_iconst C dX4_fitsAlone_158 ?_
                      refine g_goto C 163 dX4_fitsAlone_159 (by decide) ?_
                      first
                      | exact J (by assumption) (by omega) _ _ _ (Or.inl ⟨rfl, hf1, hv⟩) rfl rfl
                      | exact J (by assumption) (by omega) _ _ _ (Or.inr ⟨rfl, hv⟩) rfl rfl
            · refine g_iconst C dX4_fitsAlone_113 ?_
              refine g_goto C 118 dX4_fitsAlone_114 (by decide) ?_
              refine g_ist_6 C dX4_fitsAlone_118 (by decide) rfl ?_
              refine g_iload_n C dX4_fitsAlone_120 rfl ?_
              refine g_if_eq C 162 dX4_fitsAlone_121 (by decide) (by omega) (fun c_121 => ?_) (fun c_121 => ?_)
              · have hv : f = 0 ∨ (M 32 0 i = 123 ∧ M 33 0 (8 * i + x) < 0 ∧ 0 ≤ M 33 0 (8 * k + x)) ∨ (M 32 0 i ≠ 123 ∧ M 33 0 (8 * k + x) < 0 ∧ 0 ≤ M 33 0 (8 * i + x)) := by first | exact Or.inl (by assumption) | exact Or.inr (Or.inl ⟨by assumption, by assumption, by assumption⟩) | exact Or.inr (Or.inr ⟨by assumption, by assumption, by assumption⟩)
                refine g_iconst C dX4_fitsAlone_162 ?_
                first
                | exact J (by assumption) (by omega) _ _ _ (Or.inl ⟨rfl, hf1, hv⟩) rfl rfl
                | exact J (by assumption) (by omega) _ _ _ (Or.inr ⟨rfl, hv⟩) rfl rfl
              · refine g_aload_n C dX4_fitsAlone_124 rfl ?_
                refine g_getR C 32 dX4_fitsAlone_125 f_X4_13 ⟨rfl, rfl⟩ rfl (by decide) ?_
                refine g_iload_n C dX4_fitsAlone_128 rfl ?_
                refine g_iald C 60 dX4_fitsAlone_129 ⟨rfl, rfl⟩ rfl (by omega) (fun r_129 => ?_)
                refine g_bipush C dX4_fitsAlone_130 (by decide) ?_
                refine g_ic_ne C 148 dX4_fitsAlone_132 (by decide) (by omega) (fun c_132 => ?_) (fun c_132 => ?_)
                · refine g_iload C dX4_fitsAlone_148 rfl ?_
                  refine g_if_ne C 158 dX4_fitsAlone_150 (by decide) (by omega) (fun c_150 => ?_) (fun c_150 => ?_)
                  · have hv : (M 32 0 i = 123 ∧ (0 ≤ M 33 0 (8 * i + x) ∨ M 33 0 (8 * k + x) < 0)) ∨ (M 32 0 i ≠ 123 ∧ (0 ≤ M 33 0 (8 * k + x) ∨ M 33 0 (8 * i + x) < 0)) := by first | exact Or.inl ⟨by assumption, by omega⟩ | exact Or.inr ⟨by assumption, by omega⟩
                    have hf1 : f = 1 := by omega
                    refine g_iconst C dX4_fitsAlone_158 ?_
                    refine g_goto C 163 dX4_fitsAlone_159 (by decide) ?_
                    first
                    | exact J (by assumption) (by omega) _ _ _ (Or.inl ⟨rfl, hf1, hv⟩) rfl rfl
                    | exact J (by assumption) (by omega) _ _ _ (Or.inr ⟨rfl, hv⟩) rfl rfl
                  · exact absurd c_150 (by decide)
                · refine g_iload C dX4_fitsAlone_135 rfl ?_
                  refine g_if_ne C 158 dX4_fitsAlone_137 (by decide) (by omega) (fun c_137 => ?_) (fun c_137 => ?_)
                  · exact absurd c_137 (by decide)
                  · refine g_iload C dX4_fitsAlone_140 rfl ?_
                    refine g_if_ne C 162 dX4_fitsAlone_142 (by decide) (by omega) (fun c_142 => ?_) (fun c_142 => ?_)
                    · have hv : f = 0 ∨ (M 32 0 i = 123 ∧ M 33 0 (8 * i + x) < 0 ∧ 0 ≤ M 33 0 (8 * k + x)) ∨ (M 32 0 i ≠ 123 ∧ M 33 0 (8 * k + x) < 0 ∧ 0 ≤ M 33 0 (8 * i + x)) := by first | exact Or.inl (by assumption) | exact Or.inr (Or.inl ⟨by assumption, by assumption, by assumption⟩) | exact Or.inr (Or.inr ⟨by assumption, by assumption, by assumption⟩)
                      refine g_iconst C dX4_fitsAlone_162 ?_
                      first
                      | exact J (by assumption) (by omega) _ _ _ (Or.inl ⟨rfl, hf1, hv⟩) rfl rfl
                      | exact J (by assumption) (by omega) _ _ _ (Or.inr ⟨rfl, hv⟩) rfl rfl
                    · exact absurd c_142 (by decide)
          · refine g_iconst C dX4_fitsAlone_91 ?_
            refine g_goto C 96 dX4_fitsAlone_92 (by decide) ?_
            refine g_ist_5 C dX4_fitsAlone_96 (by decide) rfl ?_
            refine g_aload_n C dX4_fitsAlone_98 rfl ?_
            refine g_getR C 33 dX4_fitsAlone_99 f_X4_16 ⟨rfl, rfl⟩ rfl (by decide) ?_
            refine g_bipush C dX4_fitsAlone_102 (by decide) ?_
            refine g_iload_n C dX4_fitsAlone_104 rfl ?_
            refine g_imul C dX4_fitsAlone_105 ?_
            refine g_iload C dX4_fitsAlone_106 rfl ?_
            refine g_iadd C dX4_fitsAlone_108 ?_
            refine g_iald C 480 dX4_fitsAlone_109 ⟨rfl, rfl⟩ rfl (by omega) (fun r_109 => ?_)
            refine g_if_lt C 117 dX4_fitsAlone_110 (by decide) (by omega) (fun c_110 => ?_) (fun c_110 => ?_)
            · refine g_iconst C dX4_fitsAlone_117 ?_
              refine g_ist_6 C dX4_fitsAlone_118 (by decide) rfl ?_
              refine g_iload_n C dX4_fitsAlone_120 rfl ?_
              refine g_if_eq C 162 dX4_fitsAlone_121 (by decide) (by omega) (fun c_121 => ?_) (fun c_121 => ?_)
              · have hv : f = 0 ∨ (M 32 0 i = 123 ∧ M 33 0 (8 * i + x) < 0 ∧ 0 ≤ M 33 0 (8 * k + x)) ∨ (M 32 0 i ≠ 123 ∧ M 33 0 (8 * k + x) < 0 ∧ 0 ≤ M 33 0 (8 * i + x)) := by first | exact Or.inl (by assumption) | exact Or.inr (Or.inl ⟨by assumption, by assumption, by assumption⟩) | exact Or.inr (Or.inr ⟨by assumption, by assumption, by assumption⟩)
                refine g_iconst C dX4_fitsAlone_162 ?_
                first
                | exact J (by assumption) (by omega) _ _ _ (Or.inl ⟨rfl, hf1, hv⟩) rfl rfl
                | exact J (by assumption) (by omega) _ _ _ (Or.inr ⟨rfl, hv⟩) rfl rfl
              · refine g_aload_n C dX4_fitsAlone_124 rfl ?_
                refine g_getR C 32 dX4_fitsAlone_125 f_X4_13 ⟨rfl, rfl⟩ rfl (by decide) ?_
                refine g_iload_n C dX4_fitsAlone_128 rfl ?_
                refine g_iald C 60 dX4_fitsAlone_129 ⟨rfl, rfl⟩ rfl (by omega) (fun r_129 => ?_)
                refine g_bipush C dX4_fitsAlone_130 (by decide) ?_
                refine g_ic_ne C 148 dX4_fitsAlone_132 (by decide) (by omega) (fun c_132 => ?_) (fun c_132 => ?_)
                · refine g_iload C dX4_fitsAlone_148 rfl ?_
                  refine g_if_ne C 158 dX4_fitsAlone_150 (by decide) (by omega) (fun c_150 => ?_) (fun c_150 => ?_)
                  · exact absurd c_150 (by decide)
                  · refine g_iload C dX4_fitsAlone_153 rfl ?_
                    refine g_if_ne C 162 dX4_fitsAlone_155 (by decide) (by omega) (fun c_155 => ?_) (fun c_155 => ?_)
                    · have hv : f = 0 ∨ (M 32 0 i = 123 ∧ M 33 0 (8 * i + x) < 0 ∧ 0 ≤ M 33 0 (8 * k + x)) ∨ (M 32 0 i ≠ 123 ∧ M 33 0 (8 * k + x) < 0 ∧ 0 ≤ M 33 0 (8 * i + x)) := by first | exact Or.inl (by assumption) | exact Or.inr (Or.inl ⟨by assumption, by assumption, by assumption⟩) | exact Or.inr (Or.inr ⟨by assumption, by assumption, by assumption⟩)
                      refine g_iconst C dX4_fitsAlone_162 ?_
                      first
                      | exact J (by assumption) (by omega) _ _ _ (Or.inl ⟨rfl, hf1, hv⟩) rfl rfl
                      | exact J (by assumption) (by omega) _ _ _ (Or.inr ⟨rfl, hv⟩) rfl rfl
                    · exact absurd c_155 (by decide)
                · refine g_iload C dX4_fitsAlone_135 rfl ?_
                  refine g_if_ne C 158 dX4_fitsAlone_137 (by decide) (by omega) (fun c_137 => ?_) (fun c_137 => ?_)
                  · have hv : (M 32 0 i = 123 ∧ (0 ≤ M 33 0 (8 * i + x) ∨ M 33 0 (8 * k + x) < 0)) ∨ (M 32 0 i ≠ 123 ∧ (0 ≤ M 33 0 (8 * k + x) ∨ M 33 0 (8 * i + x) < 0)) := by first | exact Or.inl ⟨by assumption, by omega⟩ | exact Or.inr ⟨by assumption, by omega⟩
                    have hf1 : f = 1 := by omega
                    refine g_iconst C dX4_fitsAlone_158 ?_
                    refine g_goto C 163 dX4_fitsAlone_159 (by decide) ?_
                    first
                    | exact J (by assumption) (by omega) _ _ _ (Or.inl ⟨rfl, hf1, hv⟩) rfl rfl
                    | exact J (by assumption) (by omega) _ _ _ (Or.inr ⟨rfl, hv⟩) rfl rfl
                  · exact absurd c_137 (by decide)
            · refine g_iconst C dX4_fitsAlone_113 ?_
              refine g_goto C 118 dX4_fitsAlone_114 (by decide) ?_
              refine g_ist_6 C dX4_fitsAlone_118 (by decide) rfl ?_
              refine g_iload_n C dX4_fitsAlone_120 rfl ?_
              refine g_if_eq C 162 dX4_fitsAlone_121 (by decide) (by omega) (fun c_121 => ?_) (fun c_121 => ?_)
              · have hv : f = 0 ∨ (M 32 0 i = 123 ∧ M 33 0 (8 * i + x) < 0 ∧ 0 ≤ M 33 0 (8 * k + x)) ∨ (M 32 0 i ≠ 123 ∧ M 33 0 (8 * k + x) < 0 ∧ 0 ≤ M 33 0 (8 * i + x)) := by first | exact Or.inl (by assumption) | exact Or.inr (Or.inl ⟨by assumption, by assumption, by assumption⟩) | exact Or.inr (Or.inr ⟨by assumption, by assumption, by assumption⟩)
                refine g_iconst C dX4_fitsAlone_162 ?_
                first
                | exact J (by assumption) (by omega) _ _ _ (Or.inl ⟨rfl, hf1, hv⟩) rfl rfl
                | exact J (by assumption) (by omega) _ _ _ (Or.inr ⟨rfl, hv⟩) rfl rfl
              · refine g_aload_n C dX4_fitsAlone_124 rfl ?_
                refine g_getR C 32 dX4_fitsAlone_125 f_X4_13 ⟨rfl, rfl⟩ rfl (by decide) ?_
                refine g_iload_n C dX4_fitsAlone_128 rfl ?_
                refine g_iald C 60 dX4_fitsAlone_129 ⟨rfl, rfl⟩ rfl (by omega) (fun r_129 => ?_)
                refine g_bipush C dX4_fitsAlone_130 (by decide) ?_
                refine g_ic_ne C 148 dX4_fitsAlone_132 (by decide) (by omega) (fun c_132 => ?_) (fun c_132 => ?_)
                · refine g_iload C dX4_fitsAlone_148 rfl ?_
                  refine g_if_ne C 158 dX4_fitsAlone_150 (by decide) (by omega) (fun c_150 => ?_) (fun c_150 => ?_)
                  · have hv : (M 32 0 i = 123 ∧ (0 ≤ M 33 0 (8 * i + x) ∨ M 33 0 (8 * k + x) < 0)) ∨ (M 32 0 i ≠ 123 ∧ (0 ≤ M 33 0 (8 * k + x) ∨ M 33 0 (8 * i + x) < 0)) := by first | exact Or.inl ⟨by assumption, by omega⟩ | exact Or.inr ⟨by assumption, by omega⟩
                    have hf1 : f = 1 := by omega
                    refine g_iconst C dX4_fitsAlone_158 ?_
                    refine g_goto C 163 dX4_fitsAlone_159 (by decide) ?_
                    first
                    | exact J (by assumption) (by omega) _ _ _ (Or.inl ⟨rfl, hf1, hv⟩) rfl rfl
                    | exact J (by assumption) (by omega) _ _ _ (Or.inr ⟨rfl, hv⟩) rfl rfl
                  · exact absurd c_150 (by decide)
                · refine g_iload C dX4_fitsAlone_135 rfl ?_
                  refine g_if_ne C 158 dX4_fitsAlone_137 (by decide) (by omega) (fun c_137 => ?_) (fun c_137 => ?_)
                  · have hv : (M 32 0 i = 123 ∧ (0 ≤ M 33 0 (8 * i + x) ∨ M 33 0 (8 * k + x) < 0)) ∨ (M 32 0 i ≠ 123 ∧ (0 ≤ M 33 0 (8 * k + x) ∨ M 33 0 (8 * i + x) < 0)) := by first | exact Or.inl ⟨by assumption, by omega⟩ | exact Or.inr ⟨by assumption, by omega⟩
                    have hf1 : f = 1 := by omega
                    refine g_iconst C dX4_fitsAlone_158 ?_
                    refine g_goto C 163 dX4_fitsAlone_159 (by decide) ?_
                    first
                    | exact J (by assumption) (by omega) _ _ _ (Or.inl ⟨rfl, hf1, hv⟩) rfl rfl
                    | exact J (by assumption) (by omega) _ _ _ (Or.inr ⟨rfl, hv⟩) rfl rfl
                  · exact absurd c_137 (by decide)
  refine g_aload_n C dX4_fitsAlone_0 rfl ?_
  refine g_getR C 32 dX4_fitsAlone_1 f_X4_13 ⟨rfl, rfl⟩ rfl (by decide) ?_
  refine g_iload_n C dX4_fitsAlone_4 rfl ?_
  refine g_iald C 60 dX4_fitsAlone_5 ⟨rfl, rfl⟩ rfl (by omega) (fun r_5 => ?_)
  refine g_bipush C dX4_fitsAlone_6 (by decide) ?_
  refine g_ic_eq C 22 dX4_fitsAlone_8 (by decide) (by omega) (fun c_8 => ?_) (fun c_8 => ?_)
  · refine g_iconst C dX4_fitsAlone_22 ?_
    exact g_zret C dX4_fitsAlone_23 (by omega) (hp _ _ ⟨Or.inr ⟨fun q => by have := q.1; omega, rfl⟩, rfl⟩)
  · refine g_aload_n C dX4_fitsAlone_11 rfl ?_
    refine g_getR C 32 dX4_fitsAlone_12 f_X4_13 ⟨rfl, rfl⟩ rfl (by decide) ?_
    refine g_iload_n C dX4_fitsAlone_15 rfl ?_
    refine g_iald C 60 dX4_fitsAlone_16 ⟨rfl, rfl⟩ rfl (by omega) (fun r_16 => ?_)
    refine g_bipush C dX4_fitsAlone_17 (by decide) ?_
    refine g_ic_ne C 24 dX4_fitsAlone_19 (by decide) (by omega) (fun c_19 => ?_) (fun c_19 => ?_)
    · refine g_aload_n C dX4_fitsAlone_24 rfl ?_
      refine g_getR C 32 dX4_fitsAlone_25 f_X4_13 ⟨rfl, rfl⟩ rfl (by decide) ?_
      refine g_iload_n C dX4_fitsAlone_28 rfl ?_
      refine g_iald C 60 dX4_fitsAlone_29 ⟨rfl, rfl⟩ rfl (by omega) (fun r_29 => ?_)
      refine g_aload_n C dX4_fitsAlone_30 rfl ?_
      refine g_getR C 32 dX4_fitsAlone_31 f_X4_13 ⟨rfl, rfl⟩ rfl (by decide) ?_
      refine g_iload_n C dX4_fitsAlone_34 rfl ?_
      refine g_iald C 60 dX4_fitsAlone_35 ⟨rfl, rfl⟩ rfl (by omega) (fun r_35 => ?_)
      refine g_ic_ne C 50 dX4_fitsAlone_36 (by decide) (by omega) (fun c_36 => ?_) (fun c_36 => ?_)
      · refine g_iconst C dX4_fitsAlone_50 ?_
        exact g_zret C dX4_fitsAlone_51 (by omega) (hp _ _ ⟨Or.inl ⟨⟨⟨by omega, by omega⟩, by first | exact Or.inl (by omega) | omega⟩, rfl⟩, rfl⟩)
      · refine g_aload_n C dX4_fitsAlone_39 rfl ?_
        refine g_getR C 32 dX4_fitsAlone_40 f_X4_13 ⟨rfl, rfl⟩ rfl (by decide) ?_
        refine g_iload_n C dX4_fitsAlone_43 rfl ?_
        refine g_iald C 60 dX4_fitsAlone_44 ⟨rfl, rfl⟩ rfl (by omega) (fun r_44 => ?_)
        refine g_bipush C dX4_fitsAlone_45 (by decide) ?_
        refine g_ic_ne C 52 dX4_fitsAlone_47 (by decide) (by omega) (fun c_47 => ?_) (fun c_47 => ?_)
        · refine g_iconst C dX4_fitsAlone_52 ?_
          refine g_istn_3 C dX4_fitsAlone_53 (by decide) rfl ?_
          refine g_iconst C dX4_fitsAlone_54 ?_
          refine g_ist_4 C dX4_fitsAlone_55 (by decide) rfl ?_
          exact L 9 1 0 _ _ (by omega) (by omega) (by omega) (by omega) (by omega) (fun _ _ y h1 h2 => by omega) (fun _ q => by omega) (fun _ _ y h1 h2 => by omega) (fun _ q => by omega) (by omega)
        · refine g_iconst C dX4_fitsAlone_50 ?_
          exact g_zret C dX4_fitsAlone_51 (by omega) (hp _ _ ⟨Or.inl ⟨⟨⟨by omega, by omega⟩, by first | exact Or.inl (by omega) | omega⟩, rfl⟩, rfl⟩)
    · refine g_iconst C dX4_fitsAlone_22 ?_
      exact g_zret C dX4_fitsAlone_23 (by omega) (hp _ _ ⟨Or.inr ⟨fun q => by have := q.1; omega, rfl⟩, rfl⟩)
end

