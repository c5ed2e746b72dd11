/-! KindNets.Values: all; KindNets: slip, size -/
set_option maxRecDepth 100000
/-- the cells of Values hold q -/
def kVR (M : KM) (q : KVS) : Prop := M 21 0 4 = vMn q ∧ M 21 0 5 = vOp q ∧ ∀ v, 0 ≤ v → v < vMn q → M 22 0 v = vAt q v ∧ M 23 0 v = vUp q v ∧ M 24 0 v = vLt q v ∧ M 25 0 v = vLa q v
def kVf (M M' : KM) : Prop := ∀ t, (t < 21 ∨ 25 < t) → M' t = M t
theorem kVf.rf {M : KM} : kVf M M := fun _ _ => rfl
theorem kVf.up {M M' : KM} {t : Nat} {i k z : Int} (h : kVf M M') (ht : 21 ≤ t ∧ t ≤ 25) : kVf M (kUp M' t i k z) := fun t' h' => by rw [kUp_t (by omega)]; exact h t' h'
theorem kVf.tr {M M1 M2 : KM} (h : kVf M M1) (g : kVf M1 M2) : kVf M M2 := fun t ht => (g t ht).trans (h t ht)
theorem vBeh_rng (T : Int → Int) (o : Int) (a : Int → Int) : 2 ≤ vBeh T o a ∧ vBeh T o a ≤ 6 := by
  rcases vBeh_ok T o a with ⟨-, e⟩ | ⟨-, -, e⟩ | ⟨-, -, e⟩ | ⟨-, -, e⟩ <;> omega
section
variable {l : Launch} {w : KL} {h : Nat} {post : Int → KM → Prop}
theorem m_X3_isOpen (hI : kInj w) (x : Int) (M : KM) (hx : -2147483648 ≤ x ∧ x < 2147483648) (ho : 0 ≤ M 21 0 5 → M 21 0 5 < 100 ∧ 0 ≤ M 22 0 (M 21 0 5) ∧ M 22 0 (M 21 0 5) < 100) (hp : ∀ z M', (((0 ≤ M 21 0 5 ∧ M 10 0 (M 22 0 (M 21 0 5)) = x) ∧ z = 1) ∨ ((M 21 0 5 < 0 ∨ M 10 0 (M 22 0 (M 21 0 5)) ≠ x) ∧ z = 0)) ∧ M = M' → post z M') : kMet l w yX3_isOpen cX3_isOpen 3 (some .boolean) 1 h [vR 21 0, vR 10 0, vI x] M post := by
  refine kMet_of [vR 21 0, vR 10 0, vI x] (by decide) hI rfl rfl (Nat.le_of_ble_eq_true rfl) ?_
  intro p e s m args below meth c C hVok
  refine g_aload_n C dX3_isOpen_0 rfl ?_
  refine g_getI C 5 dX3_isOpen_1 f_X3_24 ⟨rfl, rfl⟩ rfl rfl (fun r_1 => ?_)
  refine g_if_lt C 26 dX3_isOpen_4 (by decide) (by omega) (fun c_4 => ?_) (fun c_4 => ?_)
  · refine g_iconst C dX3_isOpen_26 ?_
    exact g_zret C dX3_isOpen_27 (by omega) (hp _ _ ⟨by omega, rfl⟩)
  · obtain ⟨o1, o2, o3⟩ := ho (by omega)
    refine g_aload_n C dX3_isOpen_7 rfl ?_
    refine g_aload_n C dX3_isOpen_8 rfl ?_
    refine g_getR C 22 dX3_isOpen_9 f_X3_9 ⟨rfl, rfl⟩ rfl (by decide) ?_
    refine g_aload_n C dX3_isOpen_12 rfl ?_
    refine g_getI C 5 dX3_isOpen_13 f_X3_24 ⟨rfl, rfl⟩ rfl rfl (fun r_13 => ?_)
    refine g_iald C 100 dX3_isOpen_16 ⟨rfl, rfl⟩ rfl (by omega) (fun r_16 => ?_)
    refine g_cald C 100 dX3_isOpen_17 ⟨rfl, rfl⟩ rfl (by omega) (fun r_17 => ?_)
    refine g_iload_n C dX3_isOpen_18 rfl ?_
    refine g_ic_ne C 26 dX3_isOpen_19 (by decide) (by omega) (fun c_19 => ?_) (fun c_19 => ?_)
    · refine g_iconst C dX3_isOpen_26 ?_
      exact g_zret C dX3_isOpen_27 (by omega) (hp _ _ ⟨by omega, rfl⟩)
    · refine g_iconst C dX3_isOpen_22 ?_
      refine g_goto C 27 dX3_isOpen_23 (by decide) ?_
      exact g_zret C dX3_isOpen_27 (by omega) (hp _ _ ⟨by omega, rfl⟩)
theorem m_X3_isWhole (hI : kInj w) (x : Int) (M : KM) (hx : -2147483648 ≤ x ∧ x < 2147483648) (hp : ∀ z M', ((((48 ≤ x ∧ x ≤ 57) ∨ x = 84 ∨ x = 70) ∧ z = 1) ∨ (¬ ((48 ≤ x ∧ x ≤ 57) ∨ x = 84 ∨ x = 70) ∧ z = 0)) ∧ M = M' → post z M') : kMet l w yX3_isWhole cX3_isWhole 1 (some .boolean) 1 h [vI x] M post := by
  refine kMet_of [vI x] (by decide) hI rfl rfl (Nat.le_of_ble_eq_true rfl) ?_
  intro p e s m args below meth c C hVok
  refine g_iload_n C dX3_isWhole_0 rfl ?_
  refine g_bipush C dX3_isWhole_1 (by decide) ?_
  refine g_ic_lt C 12 dX3_isWhole_3 (by decide) (by omega) (fun c_3 => ?_) (fun c_3 => ?_)
  · refine g_iload_n C dX3_isWhole_12 rfl ?_
    refine g_bipush C dX3_isWhole_13 (by decide) ?_
    refine g_ic_eq C 24 dX3_isWhole_15 (by decide) (by omega) (fun c_15 => ?_) (fun c_15 => ?_)
    · refine g_iconst C dX3_isWhole_24 ?_
      refine g_goto C 29 dX3_isWhole_25 (by decide) ?_
      exact g_zret C dX3_isWhole_29 (by omega) (hp _ _ ⟨by omega, rfl⟩)
    · refine g_iload_n C dX3_isWhole_18 rfl ?_
      refine g_bipush C dX3_isWhole_19 (by decide) ?_
      refine g_ic_ne C 28 dX3_isWhole_21 (by decide) (by omega) (fun c_21 => ?_) (fun c_21 => ?_)
      · refine g_iconst C dX3_isWhole_28 ?_
        exact g_zret C dX3_isWhole_29 (by omega) (hp _ _ ⟨by omega, rfl⟩)
      · refine g_iconst C dX3_isWhole_24 ?_
        refine g_goto C 29 dX3_isWhole_25 (by decide) ?_
        exact g_zret C dX3_isWhole_29 (by omega) (hp _ _ ⟨by omega, rfl⟩)
  · refine g_iload_n C dX3_isWhole_6 rfl ?_
    refine g_bipush C dX3_isWhole_7 (by decide) ?_
    refine g_ic_le C 24 dX3_isWhole_9 (by decide) (by omega) (fun c_9 => ?_) (fun c_9 => ?_)
    · refine g_iconst C dX3_isWhole_24 ?_
      refine g_goto C 29 dX3_isWhole_25 (by decide) ?_
      exact g_zret C dX3_isWhole_29 (by omega) (hp _ _ ⟨by omega, rfl⟩)
    · refine g_iload_n C dX3_isWhole_12 rfl ?_
      refine g_bipush C dX3_isWhole_13 (by decide) ?_
      refine g_ic_eq C 24 dX3_isWhole_15 (by decide) (by omega) (fun c_15 => ?_) (fun c_15 => ?_)
      · refine g_iconst C dX3_isWhole_24 ?_
        refine g_goto C 29 dX3_isWhole_25 (by decide) ?_
        exact g_zret C dX3_isWhole_29 (by omega) (hp _ _ ⟨by omega, rfl⟩)
      · refine g_iload_n C dX3_isWhole_18 rfl ?_
        refine g_bipush C dX3_isWhole_19 (by decide) ?_
        refine g_ic_ne C 28 dX3_isWhole_21 (by decide) (by omega) (fun c_21 => ?_) (fun c_21 => ?_)
        · refine g_iconst C dX3_isWhole_28 ?_
          exact g_zret C dX3_isWhole_29 (by omega) (hp _ _ ⟨by omega, rfl⟩)
        · refine g_iconst C dX3_isWhole_24 ?_
          refine g_goto C 29 dX3_isWhole_25 (by decide) ?_
          exact g_zret C dX3_isWhole_29 (by omega) (hp _ _ ⟨by omega, rfl⟩)
theorem m_X3_behind (hh : 2 ≤ h) (hI : kInj w) (M : KM) (ho : 0 ≤ M 21 0 5 → M 21 0 5 < 100 ∧ 0 ≤ M 22 0 (M 21 0 5) ∧ M 22 0 (M 21 0 5) < 100) (hp : ∀ z M', z = vBeh (M 10 0) (M 21 0 5) (M 22 0) ∧ M = M' → post z M') : kMet l w yX3_behind cX3_behind 2 (some .int) 1 h [vR 21 0, vR 10 0] M post := by
  have hb := vBeh_ok (M 10 0) (M 21 0 5) (M 22 0)
  refine kMet_of [vR 21 0, vR 10 0] (by decide) hI rfl rfl (Nat.le_of_ble_eq_true rfl) ?_
  intro p e s m args below meth c C hVok
  have hb' : ∀ z : Int, ((M 21 0 5 < 0 ∧ z = 6) ∨ (0 ≤ M 21 0 5 ∧ M 10 0 (M 22 0 (M 21 0 5)) = 123 ∧ z = 2) ∨ (0 ≤ M 21 0 5 ∧ M 10 0 (M 22 0 (M 21 0 5)) = 91 ∧ z = 4) ∨ (0 ≤ M 21 0 5 ∧ (M 10 0 (M 22 0 (M 21 0 5)) ≠ 123 ∧ M 10 0 (M 22 0 (M 21 0 5)) ≠ 91) ∧ z = 5)) → z = vBeh (M 10 0) (M 21 0 5) (M 22 0) := by
    intro z hz
    omega
  clear hb
  refine g_aload_n C dX3_behind_0 rfl ?_
  refine g_getI C 5 dX3_behind_1 f_X3_24 ⟨rfl, rfl⟩ rfl rfl (fun r_1 => ?_)
  refine g_if_ge C 12 dX3_behind_4 (by decide) (by omega) (fun c_4 => ?_) (fun c_4 => ?_)
  · refine g_aload_n C dX3_behind_12 rfl ?_
    refine g_aload_n C dX3_behind_13 rfl ?_
    refine g_bipush C dX3_behind_14 (by decide) ?_
    refine g_callVi C dX3_behind_16 v_X3_31 (m_X3_isOpen (h := 1) hI 123 M (by omega) ho (fun _ _ q => q)) ⟨rfl, rfl⟩ rfl rfl (Nat.le_of_ble_eq_true rfl) (by omega) ?_
    rintro z M' ⟨hz, rfl⟩
    refine g_if_eq C 26 dX3_behind_19 (by decide) (by omega) (fun c_19 => ?_) (fun c_19 => ?_)
    · refine g_aload_n C dX3_behind_26 rfl ?_
      refine g_aload_n C dX3_behind_27 rfl ?_
      refine g_bipush C dX3_behind_28 (by decide) ?_
      refine g_callVi C dX3_behind_30 v_X3_31 (m_X3_isOpen (h := 1) hI 91 M (by omega) ho (fun _ _ q => q)) ⟨rfl, rfl⟩ rfl rfl (Nat.le_of_ble_eq_true rfl) (by omega) ?_
      rintro z2 M' ⟨hz2, rfl⟩
      refine g_if_eq C 40 dX3_behind_33 (by decide) (by omega) (fun c_33 => ?_) (fun c_33 => ?_)
      · refine g_iconst C dX3_behind_40 ?_
        exact g_iret C dX3_behind_41 (hp _ _ ⟨hb' _ (by omega), rfl⟩)
      · refine g_iconst C dX3_behind_36 ?_
        refine g_goto C 41 dX3_behind_37 (by decide) ?_
        exact g_iret C dX3_behind_41 (hp _ _ ⟨hb' _ (by omega), rfl⟩)
    · refine g_iconst C dX3_behind_22 ?_
      refine g_goto C 41 dX3_behind_23 (by decide) ?_
      exact g_iret C dX3_behind_41 (hp _ _ ⟨hb' _ (by omega), rfl⟩)
  · refine g_bipush C dX3_behind_7 (by decide) ?_
    refine g_goto C 41 dX3_behind_9 (by decide) ?_
    exact g_iret C dX3_behind_41 (hp _ _ ⟨hb' _ (by omega), rfl⟩)
theorem m_X3_begin (hI : kInj w) (i x ltr : Int) (M : KM) (hi : -2147483648 ≤ i ∧ i < 2147483648) (hx : -2147483648 ≤ x ∧ x < 2147483648) (hlr : -2147483648 ≤ ltr ∧ ltr < 2147483648) (hm : 0 ≤ M 21 0 4 ∧ M 21 0 4 < 100)
    (hp : ∀ z M', kUp (kUp (kUp (kUp (kUp (kUp M 22 0 (M 21 0 4) i) 23 0 (M 21 0 4) (M 21 0 5)) 24 0 (M 21 0 4) ltr) 25 0 (M 21 0 4) (-1)) 21 0 5 (if x = 123 ∨ x = 91 ∨ x = 40 then M 21 0 4 else M 21 0 5)) 21 0 4 (M 21 0 4 + 1) = M' → post z M') : kMet l w yX3_begin cX3_begin 4 none 0 h [vR 21 0, vI i, vI x, vI ltr] M post := by
  refine kMet_of [vR 21 0, vI i, vI x, vI ltr] (by decide) hI rfl rfl (Nat.le_of_ble_eq_true rfl) ?_
  intro p e s m args below meth c C hVok
  have J : ∀ o M1, M1 21 0 4 = M 21 0 4 → (-2147483648 ≤ o ∧ o < 2147483648) → kUp (kUp M1 21 0 5 o) 21 0 4 (M 21 0 4 + 1) = kUp (kUp (kUp (kUp (kUp (kUp M 22 0 (M 21 0 4) i) 23 0 (M 21 0 4) (M 21 0 5)) 24 0 (M 21 0 4) ltr) 25 0 (M 21 0 4) (-1)) 21 0 5 (if x = 123 ∨ x = 91 ∨ x = 40 then M 21 0 4 else M 21 0 5)) 21 0 4 (M 21 0 4 + 1) → kG p l e h s m args below meth c w 4 0 post 73 [vR 21 0, vI i, vI x, vI ltr] [vI o, vR 21 0] (M1) := by
    intro o M1 e4 hor hM
    refine g_putI C 5 dX3_begin_73 f_X3_24 ⟨rfl, rfl⟩ rfl rfl (by omega) ?_
    refine g_aload_n C dX3_begin_76 rfl ?_
    refine g_dup C dX3_begin_77 ⟨rfl, fun q => by cases q⟩ ?_
    refine g_getI C 4 dX3_begin_78 f_X3_28 ⟨rfl, rfl⟩ rfl rfl (fun r_78 => ?_)
    rw [kUp_nk (by decide), e4] at r_78 ⊢
    refine g_iconst C dX3_begin_81 ?_
    refine g_iadd C dX3_begin_82 ?_
    refine g_putI C 4 dX3_begin_83 f_X3_28 ⟨rfl, rfl⟩ rfl rfl (by omega) ?_
    exact g_vret C dX3_begin_86 (hp _ _ hM.symm)
  refine g_aload_n C dX3_begin_0 rfl ?_
  refine g_getR C 22 dX3_begin_1 f_X3_9 ⟨rfl, rfl⟩ rfl (by decide) ?_
  refine g_aload_n C dX3_begin_4 rfl ?_
  refine g_getI C 4 dX3_begin_5 f_X3_28 ⟨rfl, rfl⟩ rfl rfl (fun r_5 => ?_)
  refine g_iload_n C dX3_begin_8 rfl ?_
  refine g_iast C 100 dX3_begin_9 ⟨rfl, rfl⟩ rfl (by omega) (by omega) ?_
  refine g_aload_n C dX3_begin_10 rfl ?_
  refine g_getR C 23 dX3_begin_11 f_X3_15 ⟨rfl, rfl⟩ rfl (by decide) ?_
  refine g_aload_n C dX3_begin_14 rfl ?_
  refine g_getI C 4 dX3_begin_15 f_X3_28 ⟨rfl, rfl⟩ rfl rfl (fun r_15 => ?_)
  simp (disch := decide) only [kUp_ne] at r_15 ⊢
  refine g_aload_n C dX3_begin_18 rfl ?_
  refine g_getI C 5 dX3_begin_19 f_X3_24 ⟨rfl, rfl⟩ rfl rfl (fun r_19 => ?_)
  simp (disch := decide) only [kUp_ne] at r_19 ⊢
  refine g_iast C 100 dX3_begin_22 ⟨rfl, rfl⟩ rfl (by omega) (by omega) ?_
  refine g_aload_n C dX3_begin_23 rfl ?_
  refine g_getR C 24 dX3_begin_24 f_X3_18 ⟨rfl, rfl⟩ rfl (by decide) ?_
  refine g_aload_n C dX3_begin_27 rfl ?_
  refine g_getI C 4 dX3_begin_28 f_X3_28 ⟨rfl, rfl⟩ rfl rfl (fun r_28 => ?_)
  simp (disch := decide) only [kUp_ne] at r_28 ⊢
  refine g_iload_n C dX3_begin_31 rfl ?_
  refine g_iast C 100 dX3_begin_32 ⟨rfl, rfl⟩ rfl (by omega) (by omega) ?_
  refine g_aload_n C dX3_begin_33 rfl ?_
  refine g_getR C 25 dX3_begin_34 f_X3_21 ⟨rfl, rfl⟩ rfl (by decide) ?_
  refine g_aload_n C dX3_begin_37 rfl ?_
  refine g_getI C 4 dX3_begin_38 f_X3_28 ⟨rfl, rfl⟩ rfl rfl (fun r_38 => ?_)
  simp (disch := decide) only [kUp_ne] at r_38 ⊢
  refine g_iconst C dX3_begin_41 ?_
  refine g_iast C 100 dX3_begin_42 ⟨rfl, rfl⟩ rfl (by omega) (by omega) ?_
  refine g_aload_n C dX3_begin_43 rfl ?_
  refine g_iload_n C dX3_begin_44 rfl ?_
  refine g_bipush C dX3_begin_45 (by decide) ?_
  refine g_ic_eq C 62 dX3_begin_47 (by decide) (by omega) (fun c_47 => ?_) (fun c_47 => ?_)
  · refine g_aload_n C dX3_begin_62 rfl ?_
    refine g_getI C 4 dX3_begin_63 f_X3_28 ⟨rfl, rfl⟩ rfl rfl (fun r_63 => ?_)
    simp (disch := decide) only [kUp_ne] at r_63 ⊢
    refine g_goto C 73 dX3_begin_66 (by decide) ?_
    exact J _ _ (by simp (disch := decide) only [kUp_ne]) (by omega) (by rw [if_pos (by omega)])
  · refine g_iload_n C dX3_begin_50 rfl ?_
    refine g_bipush C dX3_begin_51 (by decide) ?_
    refine g_ic_eq C 62 dX3_begin_53 (by decide) (by omega) (fun c_53 => ?_) (fun c_53 => ?_)
    · refine g_aload_n C dX3_begin_62 rfl ?_
      refine g_getI C 4 dX3_begin_63 f_X3_28 ⟨rfl, rfl⟩ rfl rfl (fun r_63 => ?_)
      simp (disch := decide) only [kUp_ne] at r_63 ⊢
      refine g_goto C 73 dX3_begin_66 (by decide) ?_
      exact J _ _ (by simp (disch := decide) only [kUp_ne]) (by omega) (by rw [if_pos (by omega)])
    · refine g_iload_n C dX3_begin_56 rfl ?_
      refine g_bipush C dX3_begin_57 (by decide) ?_
      refine g_ic_ne C 69 dX3_begin_59 (by decide) (by omega) (fun c_59 => ?_) (fun c_59 => ?_)
      · refine g_aload_n C dX3_begin_69 rfl ?_
        refine g_getI C 5 dX3_begin_70 f_X3_24 ⟨rfl, rfl⟩ rfl rfl (fun r_70 => ?_)
        simp (disch := decide) only [kUp_ne] at r_70 ⊢
        exact J _ _ (by simp (disch := decide) only [kUp_ne]) r_70 (by rw [if_neg (by omega)])
      · refine g_aload_n C dX3_begin_62 rfl ?_
        refine g_getI C 4 dX3_begin_63 f_X3_28 ⟨rfl, rfl⟩ rfl rfl (fun r_63 => ?_)
        simp (disch := decide) only [kUp_ne] at r_63 ⊢
        refine g_goto C 73 dX3_begin_66 (by decide) ?_
        exact J _ _ (by simp (disch := decide) only [kUp_ne]) (by omega) (by rw [if_pos (by omega)])
end

