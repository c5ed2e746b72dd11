/-! KindNets$Kind: its five methods (open and isNamed on the kinds of KindNets and of the Reader) -/
set_option maxRecDepth 100000
def kFill (M : KM) (t : Nat) (i n z : Int) : KM := fun t' i' k' => if t' = t ∧ i' = i ∧ 0 ≤ k' ∧ k' < n then z else M t' i' k'
theorem kFill_0 {M : KM} {t : Nat} {i z : Int} : kFill M t i 0 z = M := by
  funext t' i' k'
  simp only [kFill]
  rw [if_neg (by omega)]
theorem kFill_up {M : KM} {t : Nat} {i k z : Int} (hk : 0 ≤ k) : kUp (kFill M t i k z) t i k z = kFill M t i (k + 1) z := by
  funext t' i' k'
  simp only [kFill, kUp]
  repeat' split
  all_goals first | rfl | (exfalso; omega)
theorem kAnd_01 {a b : Int} (ha : a = 0 ∨ a = 1) (hb : b = 0 ∨ b = 1) : kAnd a b = if a = 1 ∧ b = 1 then 1 else 0 := by
  rcases ha with rfl | rfl <;> rcases hb with rfl | rfl <;> decide
theorem kOr_01 {a b : Int} (ha : a = 0 ∨ a = 1) (hb : b = 0 ∨ b = 1) : kOr a b = if a = 1 ∨ b = 1 then 1 else 0 := by
  rcases ha with rfl | rfl <;> rcases hb with rfl | rfl <;> decide
def kSum (g : Int → Int) : Nat → Int
  | 0 => 0
  | n + 1 => kSum g n + g n
theorem kSum_1 (g : Int → Int) {k : Int} (hk : 0 ≤ k) : kSum g (k + 1).toNat = kSum g k.toNat + g k := by
  rw [show (k + 1).toNat = k.toNat + 1 by omega]
  show kSum g k.toNat + g (k.toNat : Int) = _
  rw [show ((k.toNat : Nat) : Int) = k by omega]
theorem kSum_le (g : Int → Int) (h : ∀ k, 0 ≤ g k ∧ g k ≤ 1) : ∀ n : Nat, 0 ≤ kSum g n ∧ kSum g n ≤ n
  | 0 => ⟨Int.le_refl _, Int.le_refl _⟩
  | n + 1 => by
    have := kSum_le g h n
    have := h n
    show 0 ≤ kSum g n + g n ∧ kSum g n + g n ≤ ((n + 1 : Nat) : Int)
    omega
section
variable {l : Launch} {w : KL} {h : Nat} {post : Int → KM → Prop}
theorem m_X2_open_1 (hI : kInj w) (i sg : Int) (M : KM) (hs : 0 ≤ sg ∧ sg < 65536) (hp : ∀ z M', M' = kFill (kUp M 1 i 0 sg) 2 i 8 (-6) → post z M') : kMet l w yX2_open cX2_open 3 none 0 h [vR 1 i, vI sg] M post := by
  refine kMet_of [vR 1 i, vI sg, vN] (by decide) hI rfl rfl (Nat.le_of_ble_eq_true rfl) ?_
  intro p e s m args below meth c C hVok
  have L : ∀ (n : Nat) (k : Int), 0 ≤ k → k ≤ 8 → 9 ≤ k + n → kG p l e h s m args below meth c w 3 0 post 8 [vR 1 i, vI sg, vI k] [] (kFill (kUp M 1 i 0 sg) 2 i k (-6)) := by
    intro n
    induction n with
    | zero => intro k h1 h2 h3; omega
    | succ n ih =>
      intro k h1 h2 h3
      refine g_iload_n C dX2_open_8 rfl ?_
      refine g_bipush C dX2_open_9 (by decide) ?_
      refine g_ic_ge C 28 dX2_open_11 (by decide) (by omega) (fun c_11 => ?_) (fun c_11 => ?_)
      · exact g_vret C dX2_open_28 (hp _ _ (by rw [show k = 8 by omega]))
      · refine g_aload_n C dX2_open_14 rfl ?_
        refine g_getR C 2 dX2_open_15 f_X2_9 ⟨rfl, rfl⟩ rfl (by decide) ?_
        refine g_iload_n C dX2_open_18 rfl ?_
        refine g_bipush C dX2_open_19 (by decide) ?_
        refine g_iast C 8 dX2_open_21 ⟨rfl, rfl⟩ rfl (by omega) (by omega) ?_
        refine g_inc_2 C dX2_open_22 (by decide) rfl ?_
        refine g_goto C 8 dX2_open_25 (by decide) ?_
        rw [kFill_up h1]
        exact ih (k + 1) (by omega) (by omega) (by omega)
  refine g_aload_n C dX2_open_0 rfl ?_
  refine g_iload_n C dX2_open_1 rfl ?_
  refine g_i2c C dX2_open_2 (by omega) ?_
  refine g_putC C 0 dX2_open_3 f_X2_15 ⟨rfl, rfl⟩ rfl rfl (by omega) ?_
  refine g_iconst C dX2_open_6 ?_
  refine g_istn_2 C dX2_open_7 (by decide) rfl ?_
  have L0 := L 9 0 (by omega) (by omega) (by omega)
  rw [kFill_0] at L0
  exact L0
theorem m_X2_isNamed_1 (hI : kInj w) (i : Int) (M : KM) (hp : ∀ z M', (((M 1 i 0 = 123 ∨ M 1 i 0 = 91) ∧ z = 1) ∨ ((M 1 i 0 ≠ 123 ∧ M 1 i 0 ≠ 91) ∧ z = 0)) ∧ M = M' → post z M') : kMet l w yX2_isNamed cX2_isNamed 1 (some .boolean) 1 h [vR 1 i] M post := by
  refine kMet_of [vR 1 i] (by decide) hI rfl rfl (Nat.le_of_ble_eq_true rfl) ?_
  intro p e s m args below meth c C hVok
  refine g_aload_n C dX2_isNamed_0 rfl ?_
  refine g_getI C 0 dX2_isNamed_1 f_X2_15 ⟨rfl, rfl⟩ rfl rfl (fun r_1 => ?_)
  refine g_bipush C dX2_isNamed_4 (by decide) ?_
  refine g_ic_eq C 18 dX2_isNamed_6 (by decide) (by omega) (fun c_6 => ?_) (fun c_6 => ?_)
  · refine g_iconst C dX2_isNamed_18 ?_
    refine g_goto C 23 dX2_isNamed_19 (by decide) ?_
    exact g_zret C dX2_isNamed_23 (by omega) (hp _ _ ⟨by omega, rfl⟩)
  · refine g_aload_n C dX2_isNamed_9 rfl ?_
    refine g_getI C 0 dX2_isNamed_10 f_X2_15 ⟨rfl, rfl⟩ rfl rfl (fun r_10 => ?_)
    refine g_bipush C dX2_isNamed_13 (by decide) ?_
    refine g_ic_ne C 22 dX2_isNamed_15 (by decide) (by omega) (fun c_15 => ?_) (fun c_15 => ?_)
    · refine g_iconst C dX2_isNamed_22 ?_
      exact g_zret C dX2_isNamed_23 (by omega) (hp _ _ ⟨by omega, rfl⟩)
    · refine g_iconst C dX2_isNamed_18 ?_
      refine g_goto C 23 dX2_isNamed_19 (by decide) ?_
      exact g_zret C dX2_isNamed_23 (by omega) (hp _ _ ⟨by omega, rfl⟩)
theorem m_X2_open_3 (hI : kInj w) (i sg : Int) (M : KM) (hs : 0 ≤ sg ∧ sg < 65536) (hp : ∀ z M', M' = kFill (kUp M 3 i 0 sg) 4 i 8 (-6) → post z M') : kMet l w yX2_open cX2_open 3 none 0 h [vR 3 i, vI sg] M post := by
  refine kMet_of [vR 3 i, vI sg, vN] (by decide) hI rfl rfl (Nat.le_of_ble_eq_true rfl) ?_
  intro p e s m args below meth c C hVok
  have L : ∀ (n : Nat) (k : Int), 0 ≤ k → k ≤ 8 → 9 ≤ k + n → kG p l e h s m args below meth c w 3 0 post 8 [vR 3 i, vI sg, vI k] [] (kFill (kUp M 3 i 0 sg) 4 i k (-6)) := by
    intro n
    induction n with
    | zero => intro k h1 h2 h3; omega
    | succ n ih =>
      intro k h1 h2 h3
      refine g_iload_n C dX2_open_8 rfl ?_
      refine g_bipush C dX2_open_9 (by decide) ?_
      refine g_ic_ge C 28 dX2_open_11 (by decide) (by omega) (fun c_11 => ?_) (fun c_11 => ?_)
      · exact g_vret C dX2_open_28 (hp _ _ (by rw [show k = 8 by omega]))
      · refine g_aload_n C dX2_open_14 rfl ?_
        refine g_getR C 4 dX2_open_15 f_X2_9 ⟨rfl, rfl⟩ rfl (by decide) ?_
        refine g_iload_n C dX2_open_18 rfl ?_
        refine g_bipush C dX2_open_19 (by decide) ?_
        refine g_iast C 8 dX2_open_21 ⟨rfl, rfl⟩ rfl (by omega) (by omega) ?_
        refine g_inc_2 C dX2_open_22 (by decide) rfl ?_
        refine g_goto C 8 dX2_open_25 (by decide) ?_
        rw [kFill_up h1]
        exact ih (k + 1) (by omega) (by omega) (by omega)
  refine g_aload_n C dX2_open_0 rfl ?_
  refine g_iload_n C dX2_open_1 rfl ?_
  refine g_i2c C dX2_open_2 (by omega) ?_
  refine g_putC C 0 dX2_open_3 f_X2_15 ⟨rfl, rfl⟩ rfl rfl (by omega) ?_
  refine g_iconst C dX2_open_6 ?_
  refine g_istn_2 C dX2_open_7 (by decide) rfl ?_
  have L0 := L 9 0 (by omega) (by omega) (by omega)
  rw [kFill_0] at L0
  exact L0
theorem m_X2_isNamed_3 (hI : kInj w) (i : Int) (M : KM) (hp : ∀ z M', (((M 3 i 0 = 123 ∨ M 3 i 0 = 91) ∧ z = 1) ∨ ((M 3 i 0 ≠ 123 ∧ M 3 i 0 ≠ 91) ∧ z = 0)) ∧ M = M' → post z M') : kMet l w yX2_isNamed cX2_isNamed 1 (some .boolean) 1 h [vR 3 i] M post := by
  refine kMet_of [vR 3 i] (by decide) hI rfl rfl (Nat.le_of_ble_eq_true rfl) ?_
  intro p e s m args below meth c C hVok
  refine g_aload_n C dX2_isNamed_0 rfl ?_
  refine g_getI C 0 dX2_isNamed_1 f_X2_15 ⟨rfl, rfl⟩ rfl rfl (fun r_1 => ?_)
  refine g_bipush C dX2_isNamed_4 (by decide) ?_
  refine g_ic_eq C 18 dX2_isNamed_6 (by decide) (by omega) (fun c_6 => ?_) (fun c_6 => ?_)
  · refine g_iconst C dX2_isNamed_18 ?_
    refine g_goto C 23 dX2_isNamed_19 (by decide) ?_
    exact g_zret C dX2_isNamed_23 (by omega) (hp _ _ ⟨by omega, rfl⟩)
  · refine g_aload_n C dX2_isNamed_9 rfl ?_
    refine g_getI C 0 dX2_isNamed_10 f_X2_15 ⟨rfl, rfl⟩ rfl rfl (fun r_10 => ?_)
    refine g_bipush C dX2_isNamed_13 (by decide) ?_
    refine g_ic_ne C 22 dX2_isNamed_15 (by decide) (by omega) (fun c_15 => ?_) (fun c_15 => ?_)
    · refine g_iconst C dX2_isNamed_22 ?_
      exact g_zret C dX2_isNamed_23 (by omega) (hp _ _ ⟨by omega, rfl⟩)
    · refine g_iconst C dX2_isNamed_18 ?_
      refine g_goto C 23 dX2_isNamed_19 (by decide) ?_
      exact g_zret C dX2_isNamed_23 (by omega) (hp _ _ ⟨by omega, rfl⟩)
theorem m_X2_has (hI : kInj w) (i x : Int) (M : KM) (hx : 0 ≤ x ∧ x < 8) (hp : ∀ z M', ((M 2 i x ≠ -6 ∧ z = 1) ∨ (M 2 i x = -6 ∧ z = 0)) ∧ M = M' → post z M') : kMet l w yX2_has cX2_has 2 (some .boolean) 1 h [vR 1 i, vI x] M post := by
  refine kMet_of [vR 1 i, vI x] (by decide) hI rfl rfl (Nat.le_of_ble_eq_true rfl) ?_
  intro p e s m args below meth c C hVok
  refine g_aload_n C dX2_has_0 rfl ?_
  refine g_getR C 2 dX2_has_1 f_X2_9 ⟨rfl, rfl⟩ rfl (by decide) ?_
  refine g_iload_n C dX2_has_4 rfl ?_
  refine g_iald C 8 dX2_has_5 ⟨rfl, rfl⟩ rfl (by omega) (fun r_5 => ?_)
  refine g_bipush C dX2_has_6 (by decide) ?_
  refine g_ic_eq C 15 dX2_has_8 (by decide) (by omega) (fun c_8 => ?_) (fun c_8 => ?_)
  · refine g_iconst C dX2_has_15 ?_
    exact g_zret C dX2_has_16 (by omega) (hp _ _ ⟨by omega, rfl⟩)
  · refine g_iconst C dX2_has_11 ?_
    refine g_goto C 16 dX2_has_12 (by decide) ?_
    exact g_zret C dX2_has_16 (by omega) (hp _ _ ⟨by omega, rfl⟩)
def kMany (M : KM) (i : Int) : Int := kSum (fun l => if M 2 i l = -6 then 0 else 1) 8
theorem m_X2_many (hh : 2 ≤ h) (hI : kInj w) (i : Int) (M : KM) (hp : ∀ z M', z = kMany M i ∧ M = M' → post z M') : kMet l w yX2_many cX2_many 3 (some .int) 1 h [vR 1 i] M post := by
  refine kMet_of [vR 1 i, vN, vN] (by decide) hI rfl rfl (Nat.le_of_ble_eq_true rfl) ?_
  intro p e s m args below meth c C hVok
  have L : ∀ (n : Nat) (k : Int), 0 ≤ k → k ≤ 8 → 9 ≤ k + n → kG p l e h s m args below meth c w 3 1 post 4 [vR 1 i, vI (kSum (fun l => if M 2 i l = -6 then 0 else 1) k.toNat), vI k] [] (M) := by
    intro n
    induction n with
    | zero => intro k h1 h2 h3; omega
    | succ n ih =>
      intro k h1 h2 h3
      have ih := ih (k + 1) (by omega)
      rw [kSum_1 _ h1] at ih
      refine g_iload_n C dX2_many_4 rfl ?_
      refine g_bipush C dX2_many_5 (by decide) ?_
      refine g_ic_ge C 32 dX2_many_7 (by decide) (by omega) (fun c_7 => ?_) (fun c_7 => ?_)
      · refine g_iload_n C dX2_many_32 rfl ?_
        exact g_iret C dX2_many_33 (hp _ _ ⟨by rw [show k = 8 by omega]; rfl, rfl⟩)
      · refine g_iload_n C dX2_many_10 rfl ?_
        refine g_aload_n C dX2_many_11 rfl ?_
        refine g_iload_n C dX2_many_12 rfl ?_
        refine g_callVi C dX2_many_13 v_X2_19 (m_X2_has (h := 1) hI i k M (by omega) (fun _ _ q => q)) ⟨rfl, rfl⟩ rfl rfl (Nat.le_of_ble_eq_true rfl) (by omega) ?_
        rintro z M' ⟨hz, rfl⟩
        refine g_if_eq C 23 dX2_many_16 (by decide) (by omega) (fun c_16 => ?_) (fun c_16 => ?_)
        · refine g_iconst C dX2_many_23 ?_
          refine g_iadd C dX2_many_24 ?_
          refine g_istn_1 C dX2_many_25 (by decide) rfl ?_
          refine g_inc_2 C dX2_many_26 (by decide) rfl ?_
          refine g_goto C 4 dX2_many_29 (by decide) ?_
          first
          | rw [if_pos (by omega)] at ih
            exact ih (by omega) (by omega)
          | rw [if_neg (by omega)] at ih
            exact ih (by omega) (by omega)
        · refine g_iconst C dX2_many_19 ?_
          refine g_goto C 24 dX2_many_20 (by decide) ?_
          refine g_iadd C dX2_many_24 ?_
          refine g_istn_1 C dX2_many_25 (by decide) rfl ?_
          refine g_inc_2 C dX2_many_26 (by decide) rfl ?_
          refine g_goto C 4 dX2_many_29 (by decide) ?_
          first
          | rw [if_pos (by omega)] at ih
            exact ih (by omega) (by omega)
          | rw [if_neg (by omega)] at ih
            exact ih (by omega) (by omega)
  refine g_iconst C dX2_many_0 ?_
  refine g_istn_1 C dX2_many_1 (by decide) rfl ?_
  refine g_iconst C dX2_many_2 ?_
  refine g_istn_2 C dX2_many_3 (by decide) rfl ?_
  exact L 9 0 (by omega) (by omega) (by omega)
theorem m_X2_covers (hh : 2 ≤ h) (hI : kInj w) (i j : Int) (M : KM) (hp : ∀ z M', (((∀ x, 0 ≤ x → x < 8 → M 2 i x ≠ -6 ∨ M 2 j x = -6) ∧ z = 1) ∨ ((∃ x, 0 ≤ x ∧ x < 8 ∧ M 2 i x = -6 ∧ M 2 j x ≠ -6) ∧ z = 0)) ∧ M = M' → post z M') : kMet l w yX2_covers cX2_covers 4 (some .boolean) 1 h [vR 1 i, vR 1 j] M post := by
  refine kMet_of [vR 1 i, vR 1 j, vN, vN] (by decide) hI rfl rfl (Nat.le_of_ble_eq_true rfl) ?_
  intro p e s m args below meth c C hVok
  have L : ∀ (n : Nat) (k a : Int), 0 ≤ k → k ≤ 8 → 9 ≤ k + n → (((∀ x, 0 ≤ x → x < k → M 2 i x ≠ -6 ∨ M 2 j x = -6) ∧ a = 1) ∨ ((∃ x, 0 ≤ x ∧ x < k ∧ M 2 i x = -6 ∧ M 2 j x ≠ -6) ∧ a = 0)) → kG p l e h s m args below meth c w 4 1 post 4 [vR 1 i, vR 1 j, vI a, vI k] [] (M) := by
    intro n
    induction n with
    | zero => intro k a h1 h2 h3; omega
    | succ n ih =>
      intro k a h1 h2 h3 ha
      have ha1 : a = 0 ∨ a = 1 := by
        rcases ha with ⟨_, q⟩ | ⟨_, q⟩
        · exact Or.inr q
        · exact Or.inl q
      have J : k < 8 → ∀ b, ((M 2 i k ≠ -6 ∨ M 2 j k = -6) ∧ b = 1) ∨ ((M 2 i k = -6 ∧ M 2 j k ≠ -6) ∧ b = 0) → kG p l e h s m args below meth c w 4 1 post 32 [vR 1 i, vR 1 j, vI a, vI k] [vI b, vI a] (M) := by
        intro hk8 b hb
        refine g_iand C dX2_covers_32 ?_
        refine g_istn_2 C dX2_covers_33 (by decide) rfl ?_
        refine g_inc_3 C dX2_covers_34 (by decide) rfl ?_
        refine g_goto C 4 dX2_covers_37 (by decide) ?_
        refine ih (k + 1) _ (by clear ha; omega) (by clear ha; omega) (by clear ha; omega) ?_
        rw [kAnd_01 ha1 (by clear ha; omega)]
        rcases ha with ⟨ha, rfl⟩ | ⟨ha, rfl⟩
        · rcases hb with ⟨hb, rfl⟩ | ⟨hb, rfl⟩
          · refine Or.inl ⟨fun x h4 h5 => ?_, rfl⟩
            by_cases hx : x = k
            · subst hx; exact hb
            · exact ha x h4 (by omega)
          · exact Or.inr ⟨⟨k, h1, by omega, hb⟩, rfl⟩
        · obtain ⟨x, h4, h5, h6⟩ := ha
          exact Or.inr ⟨⟨x, h4, by omega, h6⟩, by rw [if_neg (fun q => by cases q.1)]⟩
      refine g_iload_n C dX2_covers_4 rfl ?_
      refine g_bipush C dX2_covers_5 (by decide) ?_
      refine g_ic_ge C 40 dX2_covers_7 (by decide) (by clear ha; omega) (fun c_7 => ?_) (fun c_7 => ?_)
      · refine g_iload_n C dX2_covers_40 rfl ?_
        exact g_zret C dX2_covers_41 (by clear ha; omega) (hp _ _ ⟨by rw [show k = 8 by clear ha; omega] at ha; exact ha, rfl⟩)
      · refine g_iload_n C dX2_covers_10 rfl ?_
        refine g_aload_n C dX2_covers_11 rfl ?_
        refine g_iload_n C dX2_covers_12 rfl ?_
        refine g_callVi C dX2_covers_13 v_X2_19 (m_X2_has (h := 1) hI i k M (by clear ha; omega) (fun _ _ q => q)) ⟨rfl, rfl⟩ rfl rfl (Nat.le_of_ble_eq_true rfl) (by omega) ?_
        rintro z M' ⟨hz, rfl⟩
        refine g_if_ne C 27 dX2_covers_16 (by decide) (by clear ha; omega) (fun c_16 => ?_) (fun c_16 => ?_)
        · refine g_iconst C dX2_covers_27 ?_
          refine g_goto C 32 dX2_covers_28 (by decide) ?_
          exact J (by clear ha; omega) _ (by clear ha; omega)
        · refine g_aload_n C dX2_covers_19 rfl ?_
          refine g_iload_n C dX2_covers_20 rfl ?_
          refine g_callVi C dX2_covers_21 v_X2_19 (m_X2_has (h := 1) hI j k M (by clear ha; omega) (fun _ _ q => q)) ⟨rfl, rfl⟩ rfl rfl (Nat.le_of_ble_eq_true rfl) (by omega) ?_
          rintro z2 M' ⟨hz2, rfl⟩
          refine g_if_ne C 31 dX2_covers_24 (by decide) (by clear ha; omega) (fun c_24 => ?_) (fun c_24 => ?_)
          · refine g_iconst C dX2_covers_31 ?_
            exact J (by clear ha; omega) _ (by clear ha; omega)
          · refine g_iconst C dX2_covers_27 ?_
            refine g_goto C 32 dX2_covers_28 (by decide) ?_
            exact J (by clear ha; omega) _ (by clear ha; omega)
  refine g_iconst C dX2_covers_0 ?_
  refine g_istn_2 C dX2_covers_1 (by decide) rfl ?_
  refine g_iconst C dX2_covers_2 ?_
  refine g_istn_3 C dX2_covers_3 (by decide) rfl ?_
  exact L 9 0 1 (by omega) (by omega) (by omega) (Or.inl ⟨fun x h1 h2 => by omega, rfl⟩)
end

