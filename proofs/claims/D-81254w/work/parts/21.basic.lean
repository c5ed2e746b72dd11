/-! small methods of KindNets, KindNetsModel, Math: isIn, in, say, wipe, name, isNode, areNodes, node, min -/
set_option maxRecDepth 100000
theorem kUp_ne {M : KM} {t t' : Nat} {i k z i' k' : Int} (h : t' ≠ t) : kUp M t i k z t' i' k' = M t' i' k' := by
  simp only [kUp]
  rw [if_neg (fun q => h q.1)]
theorem kUp_eq {M : KM} {t : Nat} {i k z : Int} : kUp M t i k z t i k = z := by
  simp [kUp]
theorem kUp_nk {M : KM} {t : Nat} {i k z k' i' : Int} (h : k' ≠ k) : kUp M t i k z t i' k' = M t i' k' := by
  simp only [kUp]
  rw [if_neg (fun q => h q.2.2)]
theorem kUp_ni {M : KM} {t : Nat} {i k z k' i' : Int} (h : i' ≠ i) : kUp M t i k z t i' k' = M t i' k' := by
  simp only [kUp]
  rw [if_neg (fun q => h q.2.1)]
theorem kCmp_sp (x y : Int) : (x < y ∧ kCmp x y = -1) ∨ (x = y ∧ kCmp x y = 0) ∨ (y < x ∧ kCmp x y = 1) := by
  unfold kCmp
  by_cases h : y < x
  · rw [if_pos h]; omega
  · rw [if_neg h]
    by_cases h2 : x = y
    · rw [if_pos h2]; omega
    · rw [if_neg h2]; omega
section
variable {l : Launch} {w : KL} {h : Nat} {post : Int → KM → Prop}
theorem m_X0_isIn (hI : kInj w) (a b d : Int) (M : KM) (hr : (-9223372036854775808 ≤ a ∧ a < 9223372036854775808) ∧ (-9223372036854775808 ≤ b ∧ b < 9223372036854775808) ∧ (-9223372036854775808 ≤ d ∧ d < 9223372036854775808)) (hp : ∀ z M', (((b ≤ a ∧ a ≤ d) ∧ z = 1) ∨ ((a < b ∨ d < a) ∧ z = 0)) ∧ M = M' → post z M') : kMet l w yX0_isIn cX0_isIn 6 (some .boolean) 1 h [vL a, vL b, vL d] M post := by
  refine kMet_of [vL a, vN, vL b, vN, vL d, vN] (by decide) hI rfl rfl (Nat.le_of_ble_eq_true rfl) ?_
  intro p e s m args below meth c C hVok
  have q1 := kCmp_sp a b
  have q2 := kCmp_sp a d
  refine g_lload_n C dX0_isIn_0 rfl ?_
  refine g_lload_n C dX0_isIn_1 rfl ?_
  refine g_lcmp C dX0_isIn_2 (by omega) ?_
  refine g_if_lt C 17 dX0_isIn_3 (by decide) (by omega) (fun c_3 => ?_) (fun c_3 => ?_)
  · refine g_iconst C dX0_isIn_17 ?_
    exact g_zret C dX0_isIn_18 (by omega) (hp _ _ ⟨by omega, rfl⟩)
  · refine g_lload_n C dX0_isIn_6 rfl ?_
    refine g_lload C dX0_isIn_7 rfl ?_
    refine g_lcmp C dX0_isIn_9 (by omega) ?_
    refine g_if_gt C 17 dX0_isIn_10 (by decide) (by omega) (fun c_10 => ?_) (fun c_10 => ?_)
    · refine g_iconst C dX0_isIn_17 ?_
      exact g_zret C dX0_isIn_18 (by omega) (hp _ _ ⟨by omega, rfl⟩)
    · refine g_iconst C dX0_isIn_13 ?_
      refine g_goto C 18 dX0_isIn_14 (by decide) ?_
      exact g_zret C dX0_isIn_18 (by omega) (hp _ _ ⟨by omega, rfl⟩)
theorem m_X4_in (hI : kInj w) (a b d : Int) (M : KM) (hr : (-2147483648 ≤ a ∧ a < 2147483648) ∧ (-2147483648 ≤ b ∧ b < 2147483648) ∧ (-2147483648 ≤ d ∧ d < 2147483648)) (hp : ∀ z M', (((b ≤ a ∧ a ≤ d) ∧ z = 1) ∨ ((a < b ∨ d < a) ∧ z = 0)) ∧ M = M' → post z M') : kMet l w yX4_in cX4_in 3 (some .boolean) 1 h [vI a, vI b, vI d] M post := by
  refine kMet_of [vI a, vI b, vI d] (by decide) hI rfl rfl (Nat.le_of_ble_eq_true rfl) ?_
  intro p e s m args below meth c C hVok
  refine g_iload_n C dX4_in_0 rfl ?_
  refine g_iload_n C dX4_in_1 rfl ?_
  refine g_ic_lt C 14 dX4_in_2 (by decide) (by omega) (fun c_2 => ?_) (fun c_2 => ?_)
  · refine g_iconst C dX4_in_14 ?_
    exact g_zret C dX4_in_15 (by omega) (hp _ _ ⟨by omega, rfl⟩)
  · refine g_iload_n C dX4_in_5 rfl ?_
    refine g_iload_n C dX4_in_6 rfl ?_
    refine g_ic_gt C 14 dX4_in_7 (by decide) (by omega) (fun c_7 => ?_) (fun c_7 => ?_)
    · refine g_iconst C dX4_in_14 ?_
      exact g_zret C dX4_in_15 (by omega) (hp _ _ ⟨by omega, rfl⟩)
    · refine g_iconst C dX4_in_10 ?_
      refine g_goto C 15 dX4_in_11 (by decide) ?_
      exact g_zret C dX4_in_15 (by omega) (hp _ _ ⟨by omega, rfl⟩)
theorem m_X0_say (hh : 2 ≤ h) (hI : kInj w) (x : Int) (M : KM) (hx : -2147483648 ≤ x ∧ x < 2147483648) (hm : 0 ≤ M 7 0 4 ∧ M 7 0 4 ≤ 100)
    (hp : ∀ z M', ((¬ (33 ≤ x ∧ x ≤ 126) ∧ z = -2 ∧ M = M') ∨ ((33 ≤ x ∧ x ≤ 126) ∧ M 7 0 4 = 100 ∧ z = -4 ∧ M = M') ∨ ((33 ≤ x ∧ x ≤ 126) ∧ M 7 0 4 ≠ 100 ∧ z = M 7 0 4 + 1 ∧ kUp (kUp M 10 0 (M 7 0 4) x) 7 0 4 (M 7 0 4 + 1) = M')) → post z M') : kMet l w yX0_say cX0_say 2 (some .int) 1 h [vR 7 0, vI x] M post := by
  refine kMet_of [vR 7 0, vI x] (by decide) hI rfl rfl (Nat.le_of_ble_eq_true rfl) ?_
  intro p e s m args below meth c C hVok
  refine g_iload_n C dX0_say_0 rfl ?_
  refine g_i2l C dX0_say_1 (by omega) ?_
  refine g_ldc2 C (33) q221 dX0_say_2 (by decide) ?_
  refine g_ldc2 C (126) q222 dX0_say_5 (by decide) ?_
  refine g_callSi C dX0_say_8 s_X0_72 (m_X0_isIn (h := 1) hI x 33 126 M (by omega) (fun _ _ q => q)) rfl rfl (Nat.le_of_ble_eq_true rfl) (by omega) ?_
  rintro z M' ⟨hz, rfl⟩
  refine g_if_ne C 17 dX0_say_11 (by decide) (by omega) (fun c_11 => ?_) (fun c_11 => ?_)
  · refine g_aload_n C dX0_say_17 rfl ?_
    refine g_getI C 4 dX0_say_18 f_X0_76 ⟨rfl, rfl⟩ rfl rfl (fun r_18 => ?_)
    refine g_bipush C dX0_say_21 (by decide) ?_
    refine g_ic_ne C 29 dX0_say_23 (by decide) (by omega) (fun c_23 => ?_) (fun c_23 => ?_)
    · refine g_aload_n C dX0_say_29 rfl ?_
      refine g_getR C 10 dX0_say_30 f_X0_19 ⟨rfl, rfl⟩ rfl (by decide) ?_
      refine g_aload_n C dX0_say_33 rfl ?_
      refine g_getI C 4 dX0_say_34 f_X0_76 ⟨rfl, rfl⟩ rfl rfl (fun r_34 => ?_)
      refine g_iload_n C dX0_say_37 rfl ?_
      refine g_i2c C dX0_say_38 (by omega) ?_
      refine g_cast C 100 dX0_say_39 ⟨rfl, rfl⟩ rfl (by omega) (by omega) ?_
      refine g_aload_n C dX0_say_40 rfl ?_
      refine g_dup C dX0_say_41 ⟨rfl, fun q => by cases q⟩ ?_
      refine g_getI C 4 dX0_say_42 f_X0_76 ⟨rfl, rfl⟩ rfl rfl (fun r_42 => ?_)
      simp only [kUp_ne, ne_eq, Nat.reduceEqDiff, not_false_eq_true] at r_42 ⊢
      refine g_iconst C dX0_say_45 ?_
      refine g_iadd C dX0_say_46 ?_
      refine g_putI C 4 dX0_say_47 f_X0_76 ⟨rfl, rfl⟩ rfl rfl (by omega) ?_
      refine g_aload_n C dX0_say_50 rfl ?_
      refine g_getI C 4 dX0_say_51 f_X0_76 ⟨rfl, rfl⟩ rfl rfl (fun r_51 => ?_)
      simp only [kUp_eq] at r_51 ⊢
      exact g_iret C dX0_say_54 (hp _ _ (Or.inr (Or.inr ⟨by omega, by omega, rfl, rfl⟩)))
    · refine g_bipush C dX0_say_26 (by decide) ?_
      exact g_iret C dX0_say_28 (hp _ _ (Or.inr (Or.inl ⟨by omega, by omega, rfl, rfl⟩)))
  · refine g_bipush C dX0_say_14 (by decide) ?_
    exact g_iret C dX0_say_16 (hp _ _ (Or.inl ⟨by omega, rfl, rfl⟩))
theorem m_X0_wipe (hI : kInj w) (M : KM) (hp : ∀ z M', z = M 7 0 4 ∧ kUp M 7 0 4 0 = M' → post z M') : kMet l w yX0_wipe cX0_wipe 2 (some .int) 1 h [vR 7 0] M post := by
  refine kMet_of [vR 7 0, vN] (by decide) hI rfl rfl (Nat.le_of_ble_eq_true rfl) ?_
  intro p e s m args below meth c C hVok
  refine g_aload_n C dX0_wipe_0 rfl ?_
  refine g_getI C 4 dX0_wipe_1 f_X0_76 ⟨rfl, rfl⟩ rfl rfl (fun r_1 => ?_)
  refine g_istn_1 C dX0_wipe_4 (by decide) rfl ?_
  refine g_aload_n C dX0_wipe_5 rfl ?_
  refine g_iconst C dX0_wipe_6 ?_
  refine g_putI C 4 dX0_wipe_7 f_X0_76 ⟨rfl, rfl⟩ rfl rfl (by omega) ?_
  refine g_iload_n C dX0_wipe_10 rfl ?_
  exact g_iret C dX0_wipe_11 (hp _ _ ⟨rfl, rfl⟩)
theorem m_X0_name (hh : 2 ≤ h) (hI : kInj w) (x : Int) (M : KM) (hx : -2147483648 ≤ x ∧ x < 2147483648) (hp : ∀ z M', (((0 ≤ x ∧ x ≤ 7) ∧ z = M 9 0 x) ∨ (¬ (0 ≤ x ∧ x ≤ 7) ∧ z = -1)) ∧ M = M' → post z M') : kMet l w yX0_name cX0_name 2 (some .int) 1 h [vR 7 0, vI x] M post := by
  refine kMet_of [vR 7 0, vI x] (by decide) hI rfl rfl (Nat.le_of_ble_eq_true rfl) ?_
  intro p e s m args below meth c C hVok
  refine g_iload_n C dX0_name_0 rfl ?_
  refine g_i2l C dX0_name_1 (by omega) ?_
  refine g_lconst C (0) dX0_name_2 (by decide) ?_
  refine g_ldc2 C (7) q305 dX0_name_3 (by decide) ?_
  refine g_callSi C dX0_name_6 s_X0_72 (m_X0_isIn (h := 1) hI x 0 7 M (by omega) (fun _ _ q => q)) rfl rfl (Nat.le_of_ble_eq_true rfl) (by omega) ?_
  rintro z M' ⟨hz, rfl⟩
  refine g_if_eq C 21 dX0_name_9 (by decide) (by omega) (fun c_9 => ?_) (fun c_9 => ?_)
  · refine g_iconst C dX0_name_21 ?_
    exact g_iret C dX0_name_22 (hp _ _ ⟨by omega, rfl⟩)
  · refine g_aload_n C dX0_name_12 rfl ?_
    refine g_getR C 9 dX0_name_13 f_X0_15 ⟨rfl, rfl⟩ rfl (by decide) ?_
    refine g_iload_n C dX0_name_16 rfl ?_
    refine g_iald C 8 dX0_name_17 ⟨rfl, rfl⟩ rfl (by omega) (fun r_17 => ?_)
    refine g_goto C 22 dX0_name_18 (by decide) ?_
    exact g_iret C dX0_name_22 (hp _ _ ⟨by omega, rfl⟩)
theorem m_X0_isNode (hh : 2 ≤ h) (hI : kInj w) (x : Int) (M : KM) (hx : -2147483648 ≤ x ∧ x < 2147483648) (hm : 0 ≤ M 7 0 1 ∧ M 7 0 1 ≤ 60) (hp : ∀ z M', (((0 ≤ x ∧ x < M 7 0 1) ∧ z = 1) ∨ (¬ (0 ≤ x ∧ x < M 7 0 1) ∧ z = 0)) ∧ M = M' → post z M') : kMet l w yX0_isNode cX0_isNode 2 (some .boolean) 1 h [vR 7 0, vI x] M post := by
  refine kMet_of [vR 7 0, vI x] (by decide) hI rfl rfl (Nat.le_of_ble_eq_true rfl) ?_
  intro p e s m args below meth c C hVok
  refine g_iload_n C dX0_isNode_0 rfl ?_
  refine g_i2l C dX0_isNode_1 (by omega) ?_
  refine g_lconst C (0) dX0_isNode_2 (by decide) ?_
  refine g_aload_n C dX0_isNode_3 rfl ?_
  refine g_getI C 1 dX0_isNode_4 f_X0_94 ⟨rfl, rfl⟩ rfl rfl (fun r_4 => ?_)
  refine g_iconst C dX0_isNode_7 ?_
  refine g_isub C dX0_isNode_8 ?_
  refine g_i2l C dX0_isNode_9 (by omega) ?_
  refine g_callSi C dX0_isNode_10 s_X0_72 (m_X0_isIn (h := 1) hI x 0 (M 7 0 1 - 1) M (by omega) (fun _ _ q => q)) rfl rfl (Nat.le_of_ble_eq_true rfl) (by omega) ?_
  rintro z M' ⟨hz, rfl⟩
  exact g_zret C dX0_isNode_13 (by omega) (hp _ _ ⟨by omega, rfl⟩)
theorem m_X0_node (hh : 3 ≤ h) (hI : kInj w) (i x : Int) (M : KM) (hi : -2147483648 ≤ i ∧ i < 2147483648) (hx : -2147483648 ≤ x ∧ x < 2147483648) (hm : 0 ≤ M 7 0 1 ∧ M 7 0 1 ≤ 60)
    (hp : ∀ z M', ((¬ (0 ≤ i ∧ i < M 7 0 1) ∧ z = -1) ∨ ((0 ≤ i ∧ i < M 7 0 1) ∧ ¬ (-1 ≤ x ∧ x ≤ 8) ∧ z = -2) ∨ ((0 ≤ i ∧ i < M 7 0 1) ∧ x = -1 ∧ z = M 1 i 0) ∨ ((0 ≤ i ∧ i < M 7 0 1) ∧ x = 8 ∧ z = kMany M i) ∨ ((0 ≤ i ∧ i < M 7 0 1) ∧ (0 ≤ x ∧ x < 8) ∧ z = M 2 i x)) ∧ M = M' → post z M') : kMet l w yX0_node cX0_node 3 (some .int) 1 h [vR 7 0, vI i, vI x] M post := by
  refine kMet_of [vR 7 0, vI i, vI x] (by decide) hI rfl rfl (Nat.le_of_ble_eq_true rfl) ?_
  intro p e s m args below meth c C hVok
  refine g_aload_n C dX0_node_0 rfl ?_
  refine g_iload_n C dX0_node_1 rfl ?_
  refine g_callVi C dX0_node_2 v_X0_132 (m_X0_isNode (h := 2) (by omega) hI i M (by omega) hm (fun _ _ q => q)) ⟨rfl, rfl⟩ rfl rfl (Nat.le_of_ble_eq_true rfl) (by omega) ?_
  rintro z M' ⟨hz, rfl⟩
  refine g_if_ne C 10 dX0_node_5 (by decide) (by omega) (fun c_5 => ?_) (fun c_5 => ?_)
  · refine g_iload_n C dX0_node_10 rfl ?_
    refine g_i2l C dX0_node_11 (by omega) ?_
    refine g_ldc2 C (-1) q314 dX0_node_12 (by decide) ?_
    refine g_ldc2 C (8) q315 dX0_node_15 (by decide) ?_
    refine g_callSi C dX0_node_18 s_X0_72 (m_X0_isIn (h := 1) hI x (-1) 8 M (by omega) (fun _ _ q => q)) rfl rfl (Nat.le_of_ble_eq_true rfl) (by omega) ?_
    rintro z2 M' ⟨hz2, rfl⟩
    refine g_if_ne C 27 dX0_node_21 (by decide) (by omega) (fun c_21 => ?_) (fun c_21 => ?_)
    · refine g_iload_n C dX0_node_27 rfl ?_
      refine g_iconst C dX0_node_28 ?_
      refine g_ic_ne C 44 dX0_node_29 (by decide) (by omega) (fun c_29 => ?_) (fun c_29 => ?_)
      · refine g_iload_n C dX0_node_44 rfl ?_
        refine g_bipush C dX0_node_45 (by decide) ?_
        refine g_ic_ne C 62 dX0_node_47 (by decide) (by omega) (fun c_47 => ?_) (fun c_47 => ?_)
        · refine g_aload_n C dX0_node_62 rfl ?_
          refine g_getR C 8 dX0_node_63 f_X0_11 ⟨rfl, rfl⟩ rfl (by decide) ?_
          refine g_iload_n C dX0_node_66 rfl ?_
          refine g_aald C 1 60 dX0_node_67 ⟨rfl, by decide, by decide⟩ (by decide) rfl (by omega) ?_
          refine g_getR C 2 dX0_node_68 f_X0_113 ⟨rfl, rfl⟩ rfl (by decide) ?_
          refine g_iload_n C dX0_node_71 rfl ?_
          refine g_iald C 8 dX0_node_72 ⟨rfl, rfl⟩ rfl (by omega) (fun r_72 => ?_)
          exact g_iret C dX0_node_73 (hp _ _ ⟨by omega, rfl⟩)
        · refine g_aload_n C dX0_node_50 rfl ?_
          refine g_getR C 8 dX0_node_51 f_X0_11 ⟨rfl, rfl⟩ rfl (by decide) ?_
          refine g_iload_n C dX0_node_54 rfl ?_
          refine g_aald C 1 60 dX0_node_55 ⟨rfl, by decide, by decide⟩ (by decide) rfl (by omega) ?_
          refine g_callVi C dX0_node_56 v_X0_139 (m_X2_many (h := 2) (by omega) hI i M (fun _ _ q => q)) ⟨rfl, rfl⟩ rfl rfl (Nat.le_of_ble_eq_true rfl) (by omega) ?_
          rintro z3 M' ⟨rfl, rfl⟩
          refine g_goto C 73 dX0_node_59 (by decide) ?_
          exact g_iret C dX0_node_73 (hp _ _ ⟨by omega, rfl⟩)
      · refine g_aload_n C dX0_node_32 rfl ?_
        refine g_getR C 8 dX0_node_33 f_X0_11 ⟨rfl, rfl⟩ rfl (by decide) ?_
        refine g_iload_n C dX0_node_36 rfl ?_
        refine g_aald C 1 60 dX0_node_37 ⟨rfl, by decide, by decide⟩ (by decide) rfl (by omega) ?_
        refine g_getI C 0 dX0_node_38 f_X0_101 ⟨rfl, rfl⟩ rfl rfl (fun r_38 => ?_)
        refine g_goto C 73 dX0_node_41 (by decide) ?_
        exact g_iret C dX0_node_73 (hp _ _ ⟨by omega, rfl⟩)
    · refine g_bipush C dX0_node_24 (by decide) ?_
      exact g_iret C dX0_node_26 (hp _ _ ⟨by omega, rfl⟩)
  · refine g_iconst C dX0_node_8 ?_
    exact g_iret C dX0_node_9 (hp _ _ ⟨by omega, rfl⟩)
theorem m_X4_say (hh : 2 ≤ h) (hI : kInj w) (x : Int) (M : KM) (hx : -2147483648 ≤ x ∧ x < 2147483648) (hm : 0 ≤ M 30 0 0 ∧ M 30 0 0 ≤ 100)
    (hp : ∀ z M', ((¬ (33 ≤ x ∧ x ≤ 126) ∧ z = -2 ∧ M = M') ∨ ((33 ≤ x ∧ x ≤ 126) ∧ M 30 0 0 = 100 ∧ z = -4 ∧ M = M') ∨ ((33 ≤ x ∧ x ≤ 126) ∧ M 30 0 0 ≠ 100 ∧ z = M 30 0 0 + 1 ∧ kUp (kUp M 31 0 (M 30 0 0) x) 30 0 0 (M 30 0 0 + 1) = M')) → post z M') : kMet l w yX4_say cX4_say 2 (some .int) 1 h [vR 30 0, vI x] M post := by
  refine kMet_of [vR 30 0, vI x] (by decide) hI rfl rfl (Nat.le_of_ble_eq_true rfl) ?_
  intro p e s m args below meth c C hVok
  refine g_iload_n C dX4_say_0 rfl ?_
  refine g_bipush C dX4_say_1 (by decide) ?_
  refine g_bipush C dX4_say_3 (by decide) ?_
  refine g_callSi C dX4_say_5 s_X4_84 (m_X4_in (h := 1) hI x 33 126 M (by omega) (fun _ _ q => q)) rfl rfl (Nat.le_of_ble_eq_true rfl) (by omega) ?_
  rintro z M' ⟨hz, rfl⟩
  refine g_if_ne C 14 dX4_say_8 (by decide) (by omega) (fun c_8 => ?_) (fun c_8 => ?_)
  · refine g_aload_n C dX4_say_14 rfl ?_
    refine g_getI C 0 dX4_say_15 f_X4_88 ⟨rfl, rfl⟩ rfl rfl (fun r_15 => ?_)
    refine g_bipush C dX4_say_18 (by decide) ?_
    refine g_ic_ne C 26 dX4_say_20 (by decide) (by omega) (fun c_20 => ?_) (fun c_20 => ?_)
    · refine g_aload_n C dX4_say_26 rfl ?_
      refine g_getR C 31 dX4_say_27 f_X4_7 ⟨rfl, rfl⟩ rfl (by decide) ?_
      refine g_aload_n C dX4_say_30 rfl ?_
      refine g_getI C 0 dX4_say_31 f_X4_88 ⟨rfl, rfl⟩ rfl rfl (fun r_31 => ?_)
      refine g_iload_n C dX4_say_34 rfl ?_
      refine g_iast C 100 dX4_say_35 ⟨rfl, rfl⟩ rfl (by omega) (by omega) ?_
      refine g_aload_n C dX4_say_36 rfl ?_
      refine g_dup C dX4_say_37 ⟨rfl, fun q => by cases q⟩ ?_
      refine g_getI C 0 dX4_say_38 f_X4_88 ⟨rfl, rfl⟩ rfl rfl (fun r_38 => ?_)
      simp only [kUp_ne, ne_eq, Nat.reduceEqDiff, not_false_eq_true] at r_38 ⊢
      refine g_iconst C dX4_say_41 ?_
      refine g_iadd C dX4_say_42 ?_
      refine g_putI C 0 dX4_say_43 f_X4_88 ⟨rfl, rfl⟩ rfl rfl (by omega) ?_
      refine g_aload_n C dX4_say_46 rfl ?_
      refine g_getI C 0 dX4_say_47 f_X4_88 ⟨rfl, rfl⟩ rfl rfl (fun r_47 => ?_)
      simp only [kUp_eq] at r_47 ⊢
      exact g_iret C dX4_say_50 (hp _ _ (Or.inr (Or.inr ⟨by omega, by omega, rfl, rfl⟩)))
    · refine g_bipush C dX4_say_23 (by decide) ?_
      exact g_iret C dX4_say_25 (hp _ _ (Or.inr (Or.inl ⟨by omega, by omega, rfl, rfl⟩)))
  · refine g_bipush C dX4_say_11 (by decide) ?_
    exact g_iret C dX4_say_13 (hp _ _ (Or.inl ⟨by omega, rfl, rfl⟩))
theorem m_X4_wipe (hI : kInj w) (M : KM) (hp : ∀ z M', z = M 30 0 0 ∧ kUp M 30 0 0 0 = M' → post z M') : kMet l w yX4_wipe cX4_wipe 2 (some .int) 1 h [vR 30 0] M post := by
  refine kMet_of [vR 30 0, vN] (by decide) hI rfl rfl (Nat.le_of_ble_eq_true rfl) ?_
  intro p e s m args below meth c C hVok
  refine g_aload_n C dX4_wipe_0 rfl ?_
  refine g_getI C 0 dX4_wipe_1 f_X4_88 ⟨rfl, rfl⟩ rfl rfl (fun r_1 => ?_)
  refine g_istn_1 C dX4_wipe_4 (by decide) rfl ?_
  refine g_aload_n C dX4_wipe_5 rfl ?_
  refine g_iconst C dX4_wipe_6 ?_
  refine g_putI C 0 dX4_wipe_7 f_X4_88 ⟨rfl, rfl⟩ rfl rfl (by omega) ?_
  refine g_iload_n C dX4_wipe_10 rfl ?_
  exact g_iret C dX4_wipe_11 (hp _ _ ⟨rfl, rfl⟩)
theorem m_X4_name (hh : 2 ≤ h) (hI : kInj w) (x : Int) (M : KM) (hx : -2147483648 ≤ x ∧ x < 2147483648) (hp : ∀ z M', (((0 ≤ x ∧ x ≤ 7) ∧ z = M 34 0 x) ∨ (¬ (0 ≤ x ∧ x ≤ 7) ∧ z = -1)) ∧ M = M' → post z M') : kMet l w yX4_name cX4_name 2 (some .int) 1 h [vR 30 0, vI x] M post := by
  refine kMet_of [vR 30 0, vI x] (by decide) hI rfl rfl (Nat.le_of_ble_eq_true rfl) ?_
  intro p e s m args below meth c C hVok
  refine g_iload_n C dX4_name_0 rfl ?_
  refine g_iconst C dX4_name_1 ?_
  refine g_bipush C dX4_name_2 (by decide) ?_
  refine g_callSi C dX4_name_4 s_X4_84 (m_X4_in (h := 1) hI x 0 7 M (by omega) (fun _ _ q => q)) rfl rfl (Nat.le_of_ble_eq_true rfl) (by omega) ?_
  rintro z M' ⟨hz, rfl⟩
  refine g_if_eq C 19 dX4_name_7 (by decide) (by omega) (fun c_7 => ?_) (fun c_7 => ?_)
  · refine g_iconst C dX4_name_19 ?_
    exact g_iret C dX4_name_20 (hp _ _ ⟨by omega, rfl⟩)
  · refine g_aload_n C dX4_name_10 rfl ?_
    refine g_getR C 34 dX4_name_11 f_X4_19 ⟨rfl, rfl⟩ rfl (by decide) ?_
    refine g_iload_n C dX4_name_14 rfl ?_
    refine g_iald C 8 dX4_name_15 ⟨rfl, rfl⟩ rfl (by omega) (fun r_15 => ?_)
    refine g_goto C 20 dX4_name_16 (by decide) ?_
    exact g_iret C dX4_name_20 (hp _ _ ⟨by omega, rfl⟩)
theorem m_X4_isNode (hh : 2 ≤ h) (hI : kInj w) (x : Int) (M : KM) (hx : -2147483648 ≤ x ∧ x < 2147483648) (hm : 0 ≤ M 30 0 2 ∧ M 30 0 2 ≤ 60) (hp : ∀ z M', (((0 ≤ x ∧ x < M 30 0 2) ∧ z = 1) ∨ (¬ (0 ≤ x ∧ x < M 30 0 2) ∧ z = 0)) ∧ M = M' → post z M') : kMet l w yX4_isNode cX4_isNode 2 (some .boolean) 1 h [vR 30 0, vI x] M post := by
  refine kMet_of [vR 30 0, vI x] (by decide) hI rfl rfl (Nat.le_of_ble_eq_true rfl) ?_
  intro p e s m args below meth c C hVok
  refine g_iload_n C dX4_isNode_0 rfl ?_
  refine g_iconst C dX4_isNode_1 ?_
  refine g_aload_n C dX4_isNode_2 rfl ?_
  refine g_getI C 2 dX4_isNode_3 f_X4_116 ⟨rfl, rfl⟩ rfl rfl (fun r_3 => ?_)
  refine g_iconst C dX4_isNode_6 ?_
  refine g_isub C dX4_isNode_7 ?_
  refine g_callSi C dX4_isNode_8 s_X4_84 (m_X4_in (h := 1) hI x 0 (M 30 0 2 - 1) M (by omega) (fun _ _ q => q)) rfl rfl (Nat.le_of_ble_eq_true rfl) (by omega) ?_
  rintro z M' ⟨hz, rfl⟩
  exact g_zret C dX4_isNode_11 (by omega) (hp _ _ ⟨by omega, rfl⟩)
theorem m_X4_areNodes (hh : 3 ≤ h) (hI : kInj w) (i x : Int) (M : KM) (hi : -2147483648 ≤ i ∧ i < 2147483648) (hx : -2147483648 ≤ x ∧ x < 2147483648) (hm : 0 ≤ M 30 0 2 ∧ M 30 0 2 ≤ 60) (hp : ∀ z M', ((((0 ≤ i ∧ i < M 30 0 2) ∧ 0 ≤ x ∧ x < M 30 0 2) ∧ z = 1) ∨ (¬ ((0 ≤ i ∧ i < M 30 0 2) ∧ 0 ≤ x ∧ x < M 30 0 2) ∧ z = 0)) ∧ M = M' → post z M') : kMet l w yX4_areNodes cX4_areNodes 3 (some .boolean) 1 h [vR 30 0, vI i, vI x] M post := by
  refine kMet_of [vR 30 0, vI i, vI x] (by decide) hI rfl rfl (Nat.le_of_ble_eq_true rfl) ?_
  intro p e s m args below meth c C hVok
  refine g_aload_n C dX4_areNodes_0 rfl ?_
  refine g_iload_n C dX4_areNodes_1 rfl ?_
  refine g_callVi C dX4_areNodes_2 v_X4_123 (m_X4_isNode (h := 2) (by omega) hI i M (by omega) hm (fun _ _ q => q)) ⟨rfl, rfl⟩ rfl rfl (Nat.le_of_ble_eq_true rfl) (by omega) ?_
  rintro z M' ⟨hz, rfl⟩
  refine g_if_eq C 20 dX4_areNodes_5 (by decide) (by omega) (fun c_5 => ?_) (fun c_5 => ?_)
  · refine g_iconst C dX4_areNodes_20 ?_
    exact g_zret C dX4_areNodes_21 (by omega) (hp _ _ ⟨by omega, rfl⟩)
  · refine g_aload_n C dX4_areNodes_8 rfl ?_
    refine g_iload_n C dX4_areNodes_9 rfl ?_
    refine g_callVi C dX4_areNodes_10 v_X4_123 (m_X4_isNode (h := 2) (by omega) hI x M (by omega) hm (fun _ _ q => q)) ⟨rfl, rfl⟩ rfl rfl (Nat.le_of_ble_eq_true rfl) (by omega) ?_
    rintro z2 M' ⟨hz2, rfl⟩
    refine g_if_eq C 20 dX4_areNodes_13 (by decide) (by omega) (fun c_13 => ?_) (fun c_13 => ?_)
    · refine g_iconst C dX4_areNodes_20 ?_
      exact g_zret C dX4_areNodes_21 (by omega) (hp _ _ ⟨by omega, rfl⟩)
    · refine g_iconst C dX4_areNodes_16 ?_
      refine g_goto C 21 dX4_areNodes_17 (by decide) ?_
      exact g_zret C dX4_areNodes_21 (by omega) (hp _ _ ⟨by omega, rfl⟩)
def kPartsM (M : KM) (i : Int) : Int := kSum (fun l => if 0 ≤ M 33 0 (8 * i + l) then 1 else 0) 8
theorem m_X4_partsOf (hI : kInj w) (i : Int) (M : KM) (hi : 0 ≤ i ∧ i < 60) (hp : ∀ z M', z = kPartsM M i ∧ M = M' → post z M') : kMet l w yX4_partsOf cX4_partsOf 4 (some .int) 1 h [vR 30 0, vI i] M post := by
  refine kMet_of [vR 30 0, vI i, vN, vN] (by decide) hI rfl rfl (Nat.le_of_ble_eq_true rfl) ?_
  intro p e s m args below meth c C hVok
  have L : ∀ (n : Nat) (k : Int), 0 ≤ k → k ≤ 8 → 9 ≤ k + n → kG p l e h s m args below meth c w 4 1 post 4 [vR 30 0, vI i, vI (kSum (fun l => if 0 ≤ M 33 0 (8 * i + l) then 1 else 0) k.toNat), vI k] [] (M) := by
    intro n
    induction n with
    | zero => intro k h1 h2 h3; omega
    | succ n ih =>
      intro k h1 h2 h3
      have ih := ih (k + 1) (by omega)
      rw [kSum_1 _ h1] at ih
      refine g_iload_n C dX4_partsOf_4 rfl ?_
      refine g_bipush C dX4_partsOf_5 (by decide) ?_
      refine g_ic_ge C 38 dX4_partsOf_7 (by decide) (by omega) (fun c_7 => ?_) (fun c_7 => ?_)
      · refine g_iload_n C dX4_partsOf_38 rfl ?_
        exact g_iret C dX4_partsOf_39 (hp _ _ ⟨by rw [show k = 8 by omega]; rfl, rfl⟩)
      · refine g_iload_n C dX4_partsOf_10 rfl ?_
        refine g_aload_n C dX4_partsOf_11 rfl ?_
        refine g_getR C 33 dX4_partsOf_12 f_X4_16 ⟨rfl, rfl⟩ rfl (by decide) ?_
        refine g_bipush C dX4_partsOf_15 (by decide) ?_
        refine g_iload_n C dX4_partsOf_17 rfl ?_
        refine g_imul C dX4_partsOf_18 ?_
        refine g_iload_n C dX4_partsOf_19 rfl ?_
        refine g_iadd C dX4_partsOf_20 ?_
        refine g_iald C 480 dX4_partsOf_21 ⟨rfl, rfl⟩ rfl (by omega) (fun r_21 => ?_)
        refine g_if_lt C 29 dX4_partsOf_22 (by decide) (by omega) (fun c_22 => ?_) (fun c_22 => ?_)
        · refine g_iconst C dX4_partsOf_29 ?_
          refine g_iadd C dX4_partsOf_30 ?_
          refine g_istn_2 C dX4_partsOf_31 (by decide) rfl ?_
          refine g_inc_3 C dX4_partsOf_32 (by decide) rfl ?_
          refine g_goto C 4 dX4_partsOf_35 (by decide) ?_
          first
          | rw [if_pos (by omega)] at ih
            exact ih (by omega) (by omega)
          | rw [if_neg (by omega)] at ih
            exact ih (by omega) (by omega)
        · refine g_iconst C dX4_partsOf_25 ?_
          refine g_goto C 30 dX4_partsOf_26 (by decide) ?_
          refine g_iadd C dX4_partsOf_30 ?_
          refine g_istn_2 C dX4_partsOf_31 (by decide) rfl ?_
          refine g_inc_3 C dX4_partsOf_32 (by decide) rfl ?_
          refine g_goto C 4 dX4_partsOf_35 (by decide) ?_
          first
          | rw [if_pos (by omega)] at ih
            exact ih (by omega) (by omega)
          | rw [if_neg (by omega)] at ih
            exact ih (by omega) (by omega)
  refine g_iconst C dX4_partsOf_0 ?_
  refine g_istn_2 C dX4_partsOf_1 (by decide) rfl ?_
  refine g_iconst C dX4_partsOf_2 ?_
  refine g_istn_3 C dX4_partsOf_3 (by decide) rfl ?_
  exact L 9 0 (by omega) (by omega) (by omega)
theorem m_X4_node (hh : 3 ≤ h) (hI : kInj w) (i x : Int) (M : KM) (hi : -2147483648 ≤ i ∧ i < 2147483648) (hx : -2147483648 ≤ x ∧ x < 2147483648) (hm : 0 ≤ M 30 0 2 ∧ M 30 0 2 ≤ 60)
    (hp : ∀ z M', ((¬ (0 ≤ i ∧ i < M 30 0 2) ∧ z = -1) ∨ ((0 ≤ i ∧ i < M 30 0 2) ∧ ¬ (-1 ≤ x ∧ x ≤ 8) ∧ z = -2) ∨ ((0 ≤ i ∧ i < M 30 0 2) ∧ x = -1 ∧ z = M 32 0 i) ∨ ((0 ≤ i ∧ i < M 30 0 2) ∧ x = 8 ∧ z = kPartsM M i) ∨ ((0 ≤ i ∧ i < M 30 0 2) ∧ (0 ≤ x ∧ x < 8) ∧ z = M 33 0 (8 * i + x))) ∧ M = M' → post z M') : kMet l w yX4_node cX4_node 3 (some .int) 1 h [vR 30 0, vI i, vI x] M post := by
  refine kMet_of [vR 30 0, vI i, vI x] (by decide) hI rfl rfl (Nat.le_of_ble_eq_true rfl) ?_
  intro p e s m args below meth c C hVok
  refine g_aload_n C dX4_node_0 rfl ?_
  refine g_iload_n C dX4_node_1 rfl ?_
  refine g_callVi C dX4_node_2 v_X4_123 (m_X4_isNode (h := 2) (by omega) hI i M (by omega) hm (fun _ _ q => q)) ⟨rfl, rfl⟩ rfl rfl (Nat.le_of_ble_eq_true rfl) (by omega) ?_
  rintro z M' ⟨hz, rfl⟩
  refine g_if_ne C 10 dX4_node_5 (by decide) (by omega) (fun c_5 => ?_) (fun c_5 => ?_)
  · refine g_iload_n C dX4_node_10 rfl ?_
    refine g_iconst C dX4_node_11 ?_
    refine g_ic_ne C 24 dX4_node_12 (by decide) (by omega) (fun c_12 => ?_) (fun c_12 => ?_)
    · refine g_iload_n C dX4_node_24 rfl ?_
      refine g_bipush C dX4_node_25 (by decide) ?_
      refine g_ic_ne C 38 dX4_node_27 (by decide) (by omega) (fun c_27 => ?_) (fun c_27 => ?_)
      · refine g_iload_n C dX4_node_38 rfl ?_
        refine g_iconst C dX4_node_39 ?_
        refine g_bipush C dX4_node_40 (by decide) ?_
        refine g_callSi C dX4_node_42 s_X4_84 (m_X4_in (h := 1) hI x 0 7 M (by omega) (fun _ _ q => q)) rfl rfl (Nat.le_of_ble_eq_true rfl) (by omega) ?_
        rintro z2 M' ⟨hz2, rfl⟩
        refine g_if_eq C 62 dX4_node_45 (by decide) (by omega) (fun c_45 => ?_) (fun c_45 => ?_)
        · refine g_bipush C dX4_node_62 (by decide) ?_
          exact g_iret C dX4_node_64 (hp _ _ ⟨by omega, rfl⟩)
        · refine g_aload_n C dX4_node_48 rfl ?_
          refine g_getR C 33 dX4_node_49 f_X4_16 ⟨rfl, rfl⟩ rfl (by decide) ?_
          refine g_bipush C dX4_node_52 (by decide) ?_
          refine g_iload_n C dX4_node_54 rfl ?_
          refine g_imul C dX4_node_55 ?_
          refine g_iload_n C dX4_node_56 rfl ?_
          refine g_iadd C dX4_node_57 ?_
          refine g_iald C 480 dX4_node_58 ⟨rfl, rfl⟩ rfl (by omega) (fun r_58 => ?_)
          refine g_goto C 64 dX4_node_59 (by decide) ?_
          exact g_iret C dX4_node_64 (hp _ _ ⟨by omega, rfl⟩)
      · refine g_aload_n C dX4_node_30 rfl ?_
        refine g_iload_n C dX4_node_31 rfl ?_
        refine g_callVi C dX4_node_32 v_X4_127 (m_X4_partsOf (h := 1) hI i M (by omega) (fun _ _ q => q)) ⟨rfl, rfl⟩ rfl rfl (Nat.le_of_ble_eq_true rfl) (by omega) ?_
        rintro z3 M' ⟨rfl, rfl⟩
        refine g_goto C 64 dX4_node_35 (by decide) ?_
        exact g_iret C dX4_node_64 (hp _ _ ⟨by omega, rfl⟩)
    · refine g_aload_n C dX4_node_15 rfl ?_
      refine g_getR C 32 dX4_node_16 f_X4_13 ⟨rfl, rfl⟩ rfl (by decide) ?_
      refine g_iload_n C dX4_node_19 rfl ?_
      refine g_iald C 60 dX4_node_20 ⟨rfl, rfl⟩ rfl (by omega) (fun r_20 => ?_)
      refine g_goto C 64 dX4_node_21 (by decide) ?_
      exact g_iret C dX4_node_64 (hp _ _ ⟨by omega, rfl⟩)
  · refine g_iconst C dX4_node_8 ?_
    exact g_iret C dX4_node_9 (hp _ _ ⟨by omega, rfl⟩)
end

