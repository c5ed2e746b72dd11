/-! KindNetsModel: inner, begin -/
set_option maxRecDepth 100000
section
variable {l : Launch} {w : KL} {h : Nat} {post : Int → KM → Prop}
def kInn (M : KM) (x : Int) : Int := if M 30 0 27 = 0 then -6 else if M 49 0 (M 30 0 27 - 1) < 0 then -6 else if M 32 0 (M 49 0 (M 30 0 27 - 1)) = 42 then M 33 0 (8 * M 49 0 (M 30 0 27 - 1)) else M 33 0 (8 * M 49 0 (M 30 0 27 - 1) + x)
theorem m_X4_inner (hI : kInj w) (x : Int) (M : KM) (hx : 0 ≤ x ∧ x < 8) (hd : 0 ≤ M 30 0 27 ∧ M 30 0 27 ≤ 100) (hm : 0 < M 30 0 27 → M 49 0 (M 30 0 27 - 1) < 60) (hp : ∀ z M', z = kInn M x ∧ M = M' → post z M') : kMet l w yX4_inner cX4_inner 3 (some .int) 1 h [vR 30 0, vI x] M post := by
  unfold kInn at hp
  refine kMet_of [vR 30 0, vI x, vN] (by decide) hI rfl rfl (Nat.le_of_ble_eq_true rfl) ?_
  intro p e s m args below meth c C hVok
  refine g_aload_n C dX4_inner_0 rfl ?_
  refine g_getI C 27 dX4_inner_1 f_X4_172 ⟨rfl, rfl⟩ rfl rfl (fun r_1 => ?_)
  refine g_if_ne C 12 dX4_inner_4 (by decide) (by omega) (fun c_4 => ?_) (fun c_4 => ?_)
  · refine g_aload_n C dX4_inner_12 rfl ?_
    refine g_getR C 49 dX4_inner_13 f_X4_65 ⟨rfl, rfl⟩ rfl (by decide) ?_
    refine g_aload_n C dX4_inner_16 rfl ?_
    refine g_getI C 27 dX4_inner_17 f_X4_172 ⟨rfl, rfl⟩ rfl rfl (fun r_17 => ?_)
    refine g_iconst C dX4_inner_20 ?_
    refine g_isub C dX4_inner_21 ?_
    refine g_iald C 101 dX4_inner_22 ⟨rfl, rfl⟩ rfl (by omega) (fun r_22 => ?_)
    refine g_istn_2 C dX4_inner_23 (by decide) rfl ?_
    refine g_iload_n C dX4_inner_24 rfl ?_
    refine g_if_ge C 33 dX4_inner_25 (by decide) (by omega) (fun c_25 => ?_) (fun c_25 => ?_)
    · refine g_aload_n C dX4_inner_33 rfl ?_
      refine g_getR C 32 dX4_inner_34 f_X4_13 ⟨rfl, rfl⟩ rfl (by decide) ?_
      refine g_iload_n C dX4_inner_37 rfl ?_
      refine g_iald C 60 dX4_inner_38 ⟨rfl, rfl⟩ rfl (by omega) (fun r_38 => ?_)
      refine g_bipush C dX4_inner_39 (by decide) ?_
      refine g_ic_ne C 56 dX4_inner_41 (by decide) (by omega) (fun c_41 => ?_) (fun c_41 => ?_)
      · refine g_aload_n C dX4_inner_56 rfl ?_
        refine g_getR C 33 dX4_inner_57 f_X4_16 ⟨rfl, rfl⟩ rfl (by decide) ?_
        refine g_bipush C dX4_inner_60 (by decide) ?_
        refine g_iload_n C dX4_inner_62 rfl ?_
        refine g_imul C dX4_inner_63 ?_
        refine g_iload_n C dX4_inner_64 rfl ?_
        refine g_iadd C dX4_inner_65 ?_
        refine g_iald C 480 dX4_inner_66 ⟨rfl, rfl⟩ rfl (by omega) (fun r_66 => ?_)
        exact g_iret C dX4_inner_67 (hp _ _ ⟨by rw [if_neg (by assumption), if_neg (show ¬ M 49 0 (M 30 0 27 - 1) < 0 by omega), if_neg (by assumption)], rfl⟩)
      · refine g_aload_n C dX4_inner_44 rfl ?_
        refine g_getR C 33 dX4_inner_45 f_X4_16 ⟨rfl, rfl⟩ rfl (by decide) ?_
        refine g_bipush C dX4_inner_48 (by decide) ?_
        refine g_iload_n C dX4_inner_50 rfl ?_
        refine g_imul C dX4_inner_51 ?_
        refine g_iald C 480 dX4_inner_52 ⟨rfl, rfl⟩ rfl (by omega) (fun r_52 => ?_)
        refine g_goto C 67 dX4_inner_53 (by decide) ?_
        exact g_iret C dX4_inner_67 (hp _ _ ⟨by rw [if_neg (by assumption), if_neg (show ¬ M 49 0 (M 30 0 27 - 1) < 0 by omega), if_pos (by assumption)], rfl⟩)
    · refine g_bipush C dX4_inner_28 (by decide) ?_
      skip
      refine g_goto C 67 dX4_inner_30 (by decide) ?_
      skip
      exact g_iret C dX4_inner_67 (hp _ _ ⟨by
      first
        | rw [if_pos (show M 30 0 27 = 0 by omega)]
        | rw [if_neg (show ¬ M 30 0 27 = 0 by omega), if_pos (show M 49 0 (M 30 0 27 - 1) < 0 by omega)], rfl⟩)
  · refine g_bipush C dX4_inner_7 (by decide) ?_
    refine g_goto C 23 dX4_inner_9 (by decide) ?_
    refine g_istn_2 C dX4_inner_23 (by decide) rfl ?_
    refine g_iload_n C dX4_inner_24 rfl ?_
    refine g_if_ge C 33 dX4_inner_25 (by decide) (by omega) (fun c_25 => ?_) (fun c_25 => ?_)
    · exact absurd c_25 (by decide)
    · refine g_bipush C dX4_inner_28 (by decide) ?_
      skip
      refine g_goto C 67 dX4_inner_30 (by decide) ?_
      skip
      exact g_iret C dX4_inner_67 (hp _ _ ⟨by
      first
        | rw [if_pos (show M 30 0 27 = 0 by omega)]
        | rw [if_neg (show ¬ M 30 0 27 = 0 by omega), if_pos (show M 49 0 (M 30 0 27 - 1) < 0 by omega)], rfl⟩)
theorem m_X4_begin (hI : kInj w) (x y : Int) (M : KM) (hxy : (-2147483648 ≤ x ∧ x < 2147483648) ∧ (-2147483648 ≤ y ∧ y < 2147483648)) (hd : 0 ≤ M 30 0 27 ∧ M 30 0 27 ≤ 100) (hp : ∀ z M', kUp (kUp (kUp (kUp M 47 0 (M 30 0 27) x) 49 0 (M 30 0 27) y) 50 0 (M 30 0 27) 0) 30 0 27 (M 30 0 27 + 1) = M' → post z M') : kMet l w yX4_begin cX4_begin 3 none 0 h [vR 30 0, vI x, vI y] M post := by
  refine kMet_of [vR 30 0, vI x, vI y] (by decide) hI rfl rfl (Nat.le_of_ble_eq_true rfl) ?_
  intro p e s m args below meth c C hVok
  refine g_aload_n C dX4_begin_0 rfl ?_
  refine g_getR C 47 dX4_begin_1 f_X4_59 ⟨rfl, rfl⟩ rfl (by decide) ?_
  refine g_aload_n C dX4_begin_4 rfl ?_
  refine g_getI C 27 dX4_begin_5 f_X4_172 ⟨rfl, rfl⟩ rfl rfl (fun r_5 => ?_)
  refine g_iload_n C dX4_begin_8 rfl ?_
  refine g_iast C 101 dX4_begin_9 ⟨rfl, rfl⟩ rfl (by omega) (by omega) ?_
  refine g_aload_n C dX4_begin_10 rfl ?_
  refine g_getR C 49 dX4_begin_11 f_X4_65 ⟨rfl, rfl⟩ rfl (by decide) ?_
  refine g_aload_n C dX4_begin_14 rfl ?_
  refine g_getI C 27 dX4_begin_15 f_X4_172 ⟨rfl, rfl⟩ rfl rfl (fun r_15 => ?_)
  simp (disch := decide) only [kUp_ne] at r_15 ⊢
  refine g_iload_n C dX4_begin_18 rfl ?_
  refine g_iast C 101 dX4_begin_19 ⟨rfl, rfl⟩ rfl (by omega) (by omega) ?_
  refine g_aload_n C dX4_begin_20 rfl ?_
  refine g_getR C 50 dX4_begin_21 f_X4_68 ⟨rfl, rfl⟩ rfl (by decide) ?_
  refine g_aload_n C dX4_begin_24 rfl ?_
  refine g_getI C 27 dX4_begin_25 f_X4_172 ⟨rfl, rfl⟩ rfl rfl (fun r_25 => ?_)
  simp (disch := decide) only [kUp_ne] at r_25 ⊢
  refine g_iconst C dX4_begin_28 ?_
  refine g_iast C 101 dX4_begin_29 ⟨rfl, rfl⟩ rfl (by omega) (by omega) ?_
  refine g_aload_n C dX4_begin_30 rfl ?_
  refine g_dup C dX4_begin_31 ⟨rfl, fun q => by cases q⟩ ?_
  refine g_getI C 27 dX4_begin_32 f_X4_172 ⟨rfl, rfl⟩ rfl rfl (fun r_32 => ?_)
  simp (disch := decide) only [kUp_ne] at r_32 ⊢
  refine g_iconst C dX4_begin_35 ?_
  refine g_iadd C dX4_begin_36 ?_
  refine g_putI C 27 dX4_begin_37 f_X4_172 ⟨rfl, rfl⟩ rfl rfl (by omega) ?_
  exact g_vret C dX4_begin_40 (hp _ _ rfl)
end

