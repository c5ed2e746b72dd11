/-! KindNetsModel: held, recordCount, listCount, choiceCount, count -/
set_option maxRecDepth 100000
def kTM (M : KM) : Int → Int → Int := fun u j => M 51 0 (13 * j + u)
section
variable {l : Launch} {w : KL} {h : Nat} {post : Int → KM → Prop}
theorem m_X4_held (hI : kInj w) (v : Int) (M : KM) (hr : -9223372036854775808 ≤ v ∧ v < 9223372036854775808) (hp : ∀ z M', z = min 1000000000 v ∧ M = M' → post z M') : kMet l w yX4_held cX4_held 2 (some .long) 2 h [vL v] M post := by
  have q1 := kCmp_sp v 1000000000
  refine kMet_of [vL v, vN] (by decide) hI rfl rfl (Nat.le_of_ble_eq_true rfl) ?_
  intro p e s m args below meth c C hVok
  refine g_lload_n C dX4_held_0 rfl ?_
  refine g_ldc2 C (1000000000) q766 dX4_held_1 (by decide) ?_
  refine g_lcmp C dX4_held_4 (by omega) ?_
  refine g_if_le C 14 dX4_held_5 (by decide) (by omega) (fun c_5 => ?_) (fun c_5 => ?_)
  · refine g_lload_n C dX4_held_14 rfl ?_
    exact g_lret C dX4_held_15 (hp _ _ ⟨by omega, rfl⟩)
  · refine g_ldc2 C (1000000000) q766 dX4_held_8 (by decide) ?_
    refine g_goto C 15 dX4_held_11 (by decide) ?_
    exact g_lret C dX4_held_15 (hp _ _ ⟨by omega, rfl⟩)
theorem m_X4_listCount (hh : 2 ≤ h) (hI : kInj w) (i sz : Int) (M : KM) (hi : 0 ≤ i ∧ i < 60) (hq : 0 ≤ M 33 0 (8 * i) ∧ M 33 0 (8 * i) < 60) (hsz : 1 ≤ sz ∧ sz ≤ 12) (hb : ∀ u : Int, 1 ≤ u → u < sz → kHd (kTM M u (M 33 0 (8 * i)))) (hp : ∀ z M', (∀ t, t ≠ 52 → M' t = M t) ∧ z = kLf (kTM M) (M 33 0 (8 * i)) (sz - 1) → post z M') : kMet l w yX4_listCount cX4_listCount 6 (some .long) 2 h [vR 30 0, vI i, vI sz] M post := by
  obtain ⟨q, eq⟩ : ∃ q, q = M 33 0 (8 * i) := ⟨_, rfl⟩
  rw [← eq] at hq hb hp
  refine kMet_of [vR 30 0, vI i, vI sz, vN, vN, vN] (by decide) hI rfl rfl (Nat.le_of_ble_eq_true rfl) ?_
  intro p e s m args below meth c C hVok
  have LB : ∀ x, 0 ≤ x → x ≤ sz - 1 → kHd (kLf (kTM M) q x) := fun x h1 h2 => kLf_b x.toNat x h1 (by omega) (fun u u1 u2 => hb u u1 (by omega))
  have L : ∀ (n : Nat) (a : Int) (x5 : KV) (M1 : KM), 1 ≤ a → a ≤ sz → sz + 1 ≤ a + n → (∀ t, t ≠ 52 → M1 t = M t) → (∀ x, 0 ≤ x → x < a → M1 52 0 x = kLf (kTM M) q x) → kG p l e h s m args below meth c w 6 2 post 20 [vR 30 0, vI i, vI sz, vI q, vI a, x5] [] (M1) := by
    intro n
    induction n with
    | zero => intro a x5 M1 h1 h2 h3; omega
    | succ n ih =>
      intro a x5 M1 h1 h2 h3 hs hS
      have INNER : ∀ (n3 : Nat) (u : Int) (M2 : KM), a < sz → 1 ≤ u → u ≤ a + 1 → a + 2 ≤ u + n3 → (∀ t, t ≠ 52 → M2 t = M t) → (∀ x, 0 ≤ x → x < a → M2 52 0 x = kLf (kTM M) q x) → M2 52 0 a = kCvo (kTM M) q (kLf (kTM M) q) a (u - 1).toNat → kG p l e h s m args below meth c w 6 2 post 37 [vR 30 0, vI i, vI sz, vI q, vI a, vI u] [] (M2) := by
        intro n3
        induction n3 with
        | zero => intro u M2 h9 u1 u2 u3; omega
        | succ n3 ih3 =>
          intro u M2 h9 u1 u2 u3 hs2 hS2 hA
          have hacc := kCvo_b (T := kTM M) (q := q) (S := kLf (kTM M) q) (s := a) (u - 1).toNat (fun v v1 v2 => ⟨hb v v1 (by omega), LB (a - v) (by omega) (by omega)⟩)
          rw [← hA] at hacc
          have e51 : M2 51 = M 51 := hs2 51 (by decide)
          refine g_iload C dX4_listCount_37 rfl ?_
          refine g_iload C dX4_listCount_39 rfl ?_
          refine g_ic_gt C 94 dX4_listCount_41 (by decide) (by omega) (fun c_41 => ?_) (fun c_41 => ?_)
          · refine g_inc_4 C dX4_listCount_94 (by decide) rfl ?_
            refine g_goto C 20 dX4_listCount_97 (by decide) ?_
            refine ih (a + 1) _ M2 (by omega) (by omega) (by omega) hs2 (fun x x1 x2 => ?_)
            by_cases q9 : x = a
            · rw [q9, hA, kLf_1 (by omega), show u - 1 = a by omega]
            · exact hS2 x x1 (by omega)
          · refine g_aload_n C dX4_listCount_44 rfl ?_
            refine g_getR C 52 dX4_listCount_45 f_X4_75 ⟨rfl, rfl⟩ rfl (by decide) ?_
            refine g_iload C dX4_listCount_48 rfl ?_
            refine g_aload_n C dX4_listCount_50 rfl ?_
            refine g_getR C 52 dX4_listCount_51 f_X4_75 ⟨rfl, rfl⟩ rfl (by decide) ?_
            refine g_iload C dX4_listCount_54 rfl ?_
            refine g_lald C 13 dX4_listCount_56 ⟨rfl, rfl⟩ rfl (by omega) ?_
            refine g_aload_n C dX4_listCount_57 rfl ?_
            refine g_getR C 52 dX4_listCount_58 f_X4_75 ⟨rfl, rfl⟩ rfl (by decide) ?_
            refine g_iload C dX4_listCount_61 rfl ?_
            refine g_iload C dX4_listCount_63 rfl ?_
            refine g_isub C dX4_listCount_65 ?_
            refine g_lald C 13 dX4_listCount_66 ⟨rfl, rfl⟩ rfl (by omega) ?_
            rw [hS2 (a - u) (by omega) (by omega)]
            refine g_aload_n C dX4_listCount_67 rfl ?_
            refine g_getR C 51 dX4_listCount_68 f_X4_71 ⟨rfl, rfl⟩ rfl (by decide) ?_
            refine g_bipush C dX4_listCount_71 (by decide) ?_
            refine g_iload_n C dX4_listCount_73 rfl ?_
            refine g_imul C dX4_listCount_74 ?_
            refine g_iload C dX4_listCount_75 rfl ?_
            refine g_iadd C dX4_listCount_77 ?_
            refine g_lald C 780 dX4_listCount_78 ⟨rfl, rfl⟩ rfl (by omega) ?_
            rw [e51]
            refine g_lmul C dX4_listCount_79 ?_
            obtain ⟨x, ex⟩ : ∃ x, x = kLf (kTM M) q (a - u) * M 51 0 (13 * q + u) := ⟨_, rfl⟩
            have hm := kMul_b (LB (a - u) (by omega) (by omega)) (hb u (by omega) (by omega))
            rw [show kLf (kTM M) q (a - u) * kTM M u q = x from ex.symm] at hm
            rw [← ex]
            unfold kHd at hacc
            refine g_callSl C dX4_listCount_80 s_X4_187 (m_X4_held (h := 1) hI x M2 (by omega) (fun _ _ q => q)) rfl rfl (Nat.le_of_ble_eq_true rfl) (by omega) ?_
            rintro z M' ⟨rfl, rfl⟩
            refine g_ladd C dX4_listCount_83 ?_
            refine g_callSl C dX4_listCount_84 s_X4_187 (m_X4_held (h := 1) hI (M2 52 0 a + min 1000000000 x) M2 (by omega) (fun _ _ q => q)) rfl rfl (Nat.le_of_ble_eq_true rfl) (by omega) ?_
            rintro z M' ⟨rfl, rfl⟩
            refine g_last C 13 dX4_listCount_87 ⟨rfl, rfl⟩ rfl (by omega) ?_
            refine g_inc_5 C dX4_listCount_88 (by decide) rfl ?_
            refine g_goto C 37 dX4_listCount_91 (by decide) ?_
            refine ih3 (u + 1) _ h9 (by omega) (by omega) (by omega) (fun t ht => by rw [kUp_t ht]; exact hs2 t ht) (fun x x1 x2 => by rw [kUp_nk (by omega)]; exact hS2 x x1 x2) ?_
            rw [kUp_eq, show u + 1 - 1 = u by omega, kCvo_1 (by omega), ← hA, Int.mul_comm, show kLf (kTM M) q (a - u) * kTM M u q = x from ex.symm]
            omega
      refine g_iload C dX4_listCount_20 rfl ?_
      refine g_iload_n C dX4_listCount_22 rfl ?_
      refine g_ic_ge C 100 dX4_listCount_23 (by decide) (by omega) (fun c_23 => ?_) (fun c_23 => ?_)
      · refine g_aload_n C dX4_listCount_100 rfl ?_
        refine g_getR C 52 dX4_listCount_101 f_X4_75 ⟨rfl, rfl⟩ rfl (by decide) ?_
        refine g_iload_n C dX4_listCount_104 rfl ?_
        refine g_iconst C dX4_listCount_105 ?_
        refine g_isub C dX4_listCount_106 ?_
        refine g_lald C 13 dX4_listCount_107 ⟨rfl, rfl⟩ rfl (by omega) ?_
        rw [hS (sz - 1) (by omega) (by omega)]
        exact g_lret C dX4_listCount_108 (hp _ _ ⟨hs, rfl⟩)
      · refine g_aload_n C dX4_listCount_26 rfl ?_
        refine g_getR C 52 dX4_listCount_27 f_X4_75 ⟨rfl, rfl⟩ rfl (by decide) ?_
        refine g_iload C dX4_listCount_30 rfl ?_
        refine g_lconst C (0) dX4_listCount_32 (by decide) ?_
        refine g_last C 13 dX4_listCount_33 ⟨rfl, rfl⟩ rfl (by omega) ?_
        refine g_iconst C dX4_listCount_34 ?_
        refine g_ist_5 C dX4_listCount_35 (by decide) rfl ?_
        exact INNER (a + 1).toNat 1 _ (by omega) (by omega) (by omega) (by omega) (fun t ht => by rw [kUp_t ht]; exact hs t ht) (fun x x1 x2 => by rw [kUp_nk (by omega)]; exact hS x x1 x2) (by rw [kUp_eq]; rfl)
  refine g_aload_n C dX4_listCount_0 rfl ?_
  refine g_getR C 33 dX4_listCount_1 f_X4_16 ⟨rfl, rfl⟩ rfl (by decide) ?_
  refine g_bipush C dX4_listCount_4 (by decide) ?_
  refine g_iload_n C dX4_listCount_6 rfl ?_
  refine g_imul C dX4_listCount_7 ?_
  refine g_iald C 480 dX4_listCount_8 ⟨rfl, rfl⟩ rfl (by omega) (fun r_8 => ?_)
  rw [← eq] at r_8 ⊢
  refine g_istn_3 C dX4_listCount_9 (by decide) rfl ?_
  refine g_aload_n C dX4_listCount_10 rfl ?_
  refine g_getR C 52 dX4_listCount_11 f_X4_75 ⟨rfl, rfl⟩ rfl (by decide) ?_
  refine g_iconst C dX4_listCount_14 ?_
  refine g_lconst C (1) dX4_listCount_15 (by decide) ?_
  refine g_last C 13 dX4_listCount_16 ⟨rfl, rfl⟩ rfl (by omega) ?_
  refine g_iconst C dX4_listCount_17 ?_
  refine g_ist_4 C dX4_listCount_18 (by decide) rfl ?_
  refine L (sz + 1).toNat 1 _ _ (by omega) (by omega) (by omega) (fun t ht => kUp_t ht) (fun x x1 x2 => ?_)
  rw [show x = 0 by omega, kUp_eq]; rfl
theorem m_X4_choiceCount (hh : 2 ≤ h) (hI : kInj w) (i sz : Int) (M : KM) (hN : kWF (kMnet M)) (hi : 0 ≤ i ∧ i < M 30 0 2) (hsz : 1 ≤ sz ∧ sz ≤ 12) (hb : ∀ j : Int, kRn (kMnet M) j → kHd (kTM M (sz - 1) j)) (hp : ∀ z M', z = min 1000000000 (kCh (kMnet M) (kTM M) i (sz - 1) 8) ∧ M = M' → post z M') : kMet l w yX4_choiceCount cX4_choiceCount 6 (some .long) 2 h [vR 30 0, vI i, vI sz] M post := by
  obtain ⟨hn, -, hpt, -, -⟩ := kMwf hN
  refine kMet_of [vR 30 0, vI i, vI sz, vN, vN, vN] (by decide) hI rfl rfl (Nat.le_of_ble_eq_true rfl) ?_
  intro p e s m args below meth c C hVok
  have L : ∀ (n : Nat) (k : Int), 0 ≤ k → k ≤ 8 → 9 ≤ k + n → kG p l e h s m args below meth c w 6 2 post 5 [vR 30 0, vI i, vI sz, vL (kCh (kMnet M) (kTM M) i (sz - 1) k.toNat), vN, vI k] [] (M) := by
    intro n
    induction n with
    | zero => intro k h1 h2 h3; omega
    | succ n ih =>
      intro k h1 h2 h3
      have EP : k < 8 → (kMnet M).2.2 i k = M 33 0 (8 * i + k) := fun h8 => kMnet_p hi ⟨h1, h8⟩
      have ih := ih (k + 1) (by omega)
      rw [kCh_1 h1] at ih
      have P : k < 8 → (M 33 0 (8 * i + k) = -6 ∨ (0 ≤ M 33 0 (8 * i + k) ∧ M 33 0 (8 * i + k) < M 30 0 2)) := fun h8 => hpt i k hi.1 hi.2 h1 h8
      have cb := kCh_b hN hi hb k.toNat (by omega)
      obtain ⟨acc, ea⟩ : ∃ acc, acc = kCh (kMnet M) (kTM M) i (sz - 1) k.toNat := ⟨_, rfl⟩
      rw [← ea] at cb ih ⊢
      refine g_iload C dX4_choiceCount_5 rfl ?_
      refine g_bipush C dX4_choiceCount_7 (by decide) ?_
      refine g_ic_ge C 64 dX4_choiceCount_9 (by decide) (by omega) (fun c_9 => ?_) (fun c_9 => ?_)
      · refine g_lload_n C dX4_choiceCount_64 rfl ?_
        refine g_callSl C dX4_choiceCount_65 s_X4_187 (m_X4_held (h := 1) hI acc M (by omega) (fun _ _ q => q)) rfl rfl (Nat.le_of_ble_eq_true rfl) (by omega) ?_
        rintro z M' ⟨rfl, rfl⟩
        exact g_lret C dX4_choiceCount_68 (hp _ _ ⟨by rw [ea, show k = 8 by omega]; rfl, rfl⟩)
      · refine g_lload_n C dX4_choiceCount_12 rfl ?_
        refine g_aload_n C dX4_choiceCount_13 rfl ?_
        refine g_getR C 33 dX4_choiceCount_14 f_X4_16 ⟨rfl, rfl⟩ rfl (by decide) ?_
        refine g_bipush C dX4_choiceCount_17 (by decide) ?_
        refine g_iload_n C dX4_choiceCount_19 rfl ?_
        refine g_imul C dX4_choiceCount_20 ?_
        refine g_iload C dX4_choiceCount_21 rfl ?_
        refine g_iadd C dX4_choiceCount_23 ?_
        refine g_iald C 480 dX4_choiceCount_24 ⟨rfl, rfl⟩ rfl (by omega) (fun r_24 => ?_)
        refine g_if_lt C 55 dX4_choiceCount_25 (by decide) (by omega) (fun c_25 => ?_) (fun c_25 => ?_)
        · refine g_lconst C (0) dX4_choiceCount_55 (by decide) ?_
          refine g_ladd C dX4_choiceCount_56 ?_
          refine g_lstn_3 C dX4_choiceCount_57 (by decide) rfl ?_
          refine g_inc_5 C dX4_choiceCount_58 (by decide) rfl ?_
          refine g_goto C 5 dX4_choiceCount_61 (by decide) ?_
          have p6 : M 33 0 (8 * i + k) = -6 := by have := P (by omega); omega
          rw [EP (by omega), if_pos p6] at ih
          exact ih (by omega) (by omega)
        · refine g_aload_n C dX4_choiceCount_28 rfl ?_
          refine g_getR C 51 dX4_choiceCount_29 f_X4_71 ⟨rfl, rfl⟩ rfl (by decide) ?_
          refine g_bipush C dX4_choiceCount_32 (by decide) ?_
          refine g_aload_n C dX4_choiceCount_34 rfl ?_
          refine g_getR C 33 dX4_choiceCount_35 f_X4_16 ⟨rfl, rfl⟩ rfl (by decide) ?_
          refine g_bipush C dX4_choiceCount_38 (by decide) ?_
          refine g_iload_n C dX4_choiceCount_40 rfl ?_
          refine g_imul C dX4_choiceCount_41 ?_
          refine g_iload C dX4_choiceCount_42 rfl ?_
          refine g_iadd C dX4_choiceCount_44 ?_
          refine g_iald C 480 dX4_choiceCount_45 ⟨rfl, rfl⟩ rfl (by omega) (fun r_45 => ?_)
          have p2 : M 33 0 (8 * i + k) < M 30 0 2 := by have := P (by omega); omega
          refine g_imul C dX4_choiceCount_46 ?_
          refine g_iload_n C dX4_choiceCount_47 rfl ?_
          refine g_iadd C dX4_choiceCount_48 ?_
          refine g_iconst C dX4_choiceCount_49 ?_
          refine g_isub C dX4_choiceCount_50 ?_
          refine g_lald C 780 dX4_choiceCount_51 ⟨rfl, rfl⟩ rfl (by omega) ?_
          refine g_goto C 56 dX4_choiceCount_52 (by decide) ?_
          refine g_ladd C dX4_choiceCount_56 ?_
          refine g_lstn_3 C dX4_choiceCount_57 (by decide) rfl ?_
          refine g_inc_5 C dX4_choiceCount_58 (by decide) rfl ?_
          refine g_goto C 5 dX4_choiceCount_61 (by decide) ?_
          rw [EP (by omega), if_neg (by omega)] at ih
          have e9 : kTM M (sz - 1) (M 33 0 (8 * i + k)) = M 51 0 (13 * M 33 0 (8 * i + k) + sz - 1) := by
            unfold kTM
            rw [Int.add_sub_assoc]
          rw [e9] at ih
          exact ih (by omega) (by omega)
  refine g_lconst C (0) dX4_choiceCount_0 (by decide) ?_
  refine g_lstn_3 C dX4_choiceCount_1 (by decide) rfl ?_
  refine g_iconst C dX4_choiceCount_2 ?_
  refine g_ist_5 C dX4_choiceCount_3 (by decide) rfl ?_
  exact L 9 0 (by omega) (by omega) (by omega)
theorem m_X4_recordCount (hh : 2 ≤ h) (hI : kInj w) (i sz : Int) (M : KM) (hN : kWF (kMnet M)) (hi : 0 ≤ i ∧ i < M 30 0 2) (hsz : 1 ≤ sz ∧ sz ≤ 12) (hb : ∀ u j : Int, 1 ≤ u → u ≤ sz - 1 → kRn (kMnet M) j → kHd (kTM M u j)) (hp : ∀ z M', (∀ t, t ≠ 52 → t ≠ 53 → M' t = M t) ∧ z = kRt2 (kMnet M) (kTM M) i 8 (sz - 1) → post z M') : kMet l w yX4_recordCount cX4_recordCount 7 (some .long) 2 h [vR 30 0, vI i, vI sz] M post := by
  obtain ⟨hn, -, hpt, -, -⟩ := kMwf hN
  refine kMet_of [vR 30 0, vI i, vI sz, vN, vN, vN, vN] (by decide) hI rfl rfl (Nat.le_of_ble_eq_true rfl) ?_
  intro p e s m args below meth c C hVok
  have RB : ∀ (k : Nat) x, k ≤ 8 → 0 ≤ x → x ≤ sz - 1 → kHd (kRt2 (kMnet M) (kTM M) i k x) := fun k x h0 h1 h2 => kRt2_b hN hi hb k x h0 h1 h2
  have LET : ∀ (n : Nat) (k : Int) (x4 x5 x6 : KV) (M1 : KM), 0 ≤ k → k ≤ 8 → 9 ≤ k + n → (∀ t, t ≠ 52 → t ≠ 53 → M1 t = M t) → (∀ x, 1 ≤ x → x ≤ sz → M1 52 0 x = kRt2 (kMnet M) (kTM M) i k.toNat (x - 1)) → kG p l e h s m args below meth c w 7 2 post 32 [vR 30 0, vI i, vI sz, vI k, x4, x5, x6] [] (M1) := by
    intro n
    induction n with
    | zero => intro k x4 x5 x6 M1 h1 h2 h3; omega
    | succ n ih =>
      intro k x4 x5 x6 M1 h1 h2 h3 hs hS
      have EP : k < 8 → (kMnet M).2.2 i k = M 33 0 (8 * i + k) := fun h8 => kMnet_p hi ⟨h1, h8⟩
      have P : k < 8 → (M 33 0 (8 * i + k) = -6 ∨ (0 ≤ M 33 0 (8 * i + k) ∧ M 33 0 (8 * i + k) < M 30 0 2)) := fun h8 => hpt i k hi.1 hi.2 h1 h8
      have e33 : M1 33 = M 33 := hs 33 (by decide) (by decide)
      have e52 : ∀ x, 1 ≤ x → x ≤ sz → M1 52 0 x = kRt2 (kMnet M) (kTM M) i k.toNat (x - 1) := hS
      obtain ⟨q, eq⟩ : ∃ q, q = M 33 0 (8 * i + k) := ⟨_, rfl⟩
      rw [← eq] at EP P
      have COPY : q ≠ -6 → k < 8 → ∀ (n2 : Nat) (a : Int) (x6 : KV) (M2 : KM), 0 ≤ a → a ≤ sz + 1 → sz + 2 ≤ a + n2 → (∀ t, t ≠ 52 → t ≠ 53 → M2 t = M t) → (∀ x, 1 ≤ x → x ≤ sz → M2 53 0 x = kRt2 (kMnet M) (kTM M) i (k + 1).toNat (x - 1)) → (∀ x, 1 ≤ x → x < a → M2 52 0 x = kRt2 (kMnet M) (kTM M) i (k + 1).toNat (x - 1)) → kG p l e h s m args below meth c w 7 2 post 143 [vR 30 0, vI i, vI sz, vI k, vI q, vI a, x6] [] (M2) := by
        intro hne h8 n2
        induction n2 with
        | zero => intro a x6 M2 a1 a2 a3; omega
        | succ n2 ih2 =>
          intro a x6 M2 a1 a2 a3 hs2 hO hR
          refine g_iload C dX4_recordCount_143 rfl ?_
          refine g_iload_n C dX4_recordCount_145 rfl ?_
          refine g_ic_gt C 169 dX4_recordCount_146 (by decide) (by omega) (fun c_146 => ?_) (fun c_146 => ?_)
          · refine g_inc_3 C dX4_recordCount_169 (by decide) rfl ?_
            refine g_goto C 32 dX4_recordCount_172 (by decide) ?_
            exact ih (k + 1) _ _ _ M2 (by omega) (by omega) (by omega) hs2 (fun x x1 x2 => hR x x1 (by omega))
          · refine g_aload_n C dX4_recordCount_149 rfl ?_
            refine g_getR C 52 dX4_recordCount_150 f_X4_75 ⟨rfl, rfl⟩ rfl (by decide) ?_
            refine g_iload C dX4_recordCount_153 rfl ?_
            refine g_aload_n C dX4_recordCount_155 rfl ?_
            refine g_getR C 53 dX4_recordCount_156 f_X4_78 ⟨rfl, rfl⟩ rfl (by decide) ?_
            refine g_iload C dX4_recordCount_159 rfl ?_
            refine g_lald C 13 dX4_recordCount_161 ⟨rfl, rfl⟩ rfl (by omega) ?_
            refine g_last C 13 dX4_recordCount_162 ⟨rfl, rfl⟩ rfl (by omega) ?_
            refine g_inc_5 C dX4_recordCount_163 (by decide) rfl ?_
            refine g_goto C 143 dX4_recordCount_166 (by decide) ?_
            refine ih2 (a + 1) _ _ (by omega) (by omega) (by omega) (fun t t1 t2 => by rw [kUp_t t1]; exact hs2 t t1 t2) (fun x x1 x2 => by rw [kUp_ne (by decide)]; exact hO x x1 x2) (fun x x1 x2 => ?_)
            by_cases q9 : x = a
            · subst q9; rw [kUp_eq]; exact hO x x1 (by omega)
            · rw [kUp_nk q9]; exact hR x x1 (by omega)
      have ROWS : q ≠ -6 → k < 8 → ∀ (n2 : Nat) (a : Int) (x6 : KV) (M2 : KM), 0 ≤ a → a ≤ sz + 1 → sz + 2 ≤ a + n2 → (∀ t, t ≠ 53 → M2 t = M1 t) → (∀ x, 1 ≤ x → x < a → M2 53 0 x = kRt2 (kMnet M) (kTM M) i (k + 1).toNat (x - 1)) → kG p l e h s m args below meth c w 7 2 post 59 [vR 30 0, vI i, vI sz, vI k, vI q, vI a, x6] [] (M2) := by
        intro hne h8 n2
        have pq : 0 ≤ q ∧ q < M 30 0 2 := by have := P h8; omega
        induction n2 with
        | zero => intro a x6 M2 a1 a2 a3; omega
        | succ n2 ih2 =>
          intro a x6 M2 a1 a2 a3 hs2 hO
          have INNER : ∀ (n3 : Nat) (u : Int) (M3 : KM), a ≤ sz → 1 ≤ u → (u ≤ a ∨ u = 1) → a + 1 ≤ u + n3 → 0 < n3 → (∀ t, t ≠ 53 → M3 t = M1 t) → (∀ x, 1 ≤ x → x < a → M3 53 0 x = kRt2 (kMnet M) (kTM M) i (k + 1).toNat (x - 1)) → M3 53 0 a = kCvo (kTM M) q (kRt2 (kMnet M) (kTM M) i k.toNat) (a - 1) (u - 1).toNat → kG p l e h s m args below meth c w 7 2 post 76 [vR 30 0, vI i, vI sz, vI k, vI q, vI a, vI u] [] (M3) := by
            intro n3
            induction n3 with
            | zero => intro u M3 h9 u1 u2 u3 u4; omega
            | succ n3 ih3 =>
              intro u M3 h9 u1 u2' u3 u4 hs3 hO3 hA
              have u2 : ∀ z : Unit, (u ≤ a ∨ u = 1) := fun _ => u2'
              have u5 : u ≤ a + 1 := by omega
              clear u2' u4
              have hacc : u ≤ a → kHd (kCvo (kTM M) q (kRt2 (kMnet M) (kTM M) i k.toNat) (a - 1) (u - 1).toNat) := fun hua => kCvo_b (u - 1).toNat (fun v v1 v2 => ⟨hb v q v1 (by omega) pq, RB k.toNat (a - 1 - v) (by omega) (by omega) (by omega)⟩)
              rw [← hA] at hacc
              have e51 : M3 51 = M 51 := by rw [hs3 51 (by decide), hs 51 (by decide) (by decide)]
              have e52b : M3 52 = M1 52 := hs3 52 (by decide)
              refine g_iload C dX4_recordCount_76 rfl ?_
              refine g_iload C dX4_recordCount_78 rfl ?_
              refine g_ic_ge C 134 dX4_recordCount_80 (by decide) (by omega) (fun c_80 => ?_) (fun c_80 => ?_)
              · refine g_inc_5 C dX4_recordCount_134 (by decide) rfl ?_
                refine g_goto C 59 dX4_recordCount_137 (by decide) ?_
                refine ih2 (a + 1) _ M3 (by omega) (by omega) (by omega) hs3 (fun x x1 x2 => ?_)
                by_cases q9 : x = a
                · rw [q9, hA, kRt2_1 h1, EP h8, if_neg hne, show (u - 1).toNat = (a - 1).toNat by have := u2 (); omega]
                · exact hO3 x x1 (by omega)
              · refine g_aload_n C dX4_recordCount_83 rfl ?_
                refine g_getR C 53 dX4_recordCount_84 f_X4_78 ⟨rfl, rfl⟩ rfl (by decide) ?_
                refine g_iload C dX4_recordCount_87 rfl ?_
                refine g_aload_n C dX4_recordCount_89 rfl ?_
                refine g_getR C 53 dX4_recordCount_90 f_X4_78 ⟨rfl, rfl⟩ rfl (by decide) ?_
                refine g_iload C dX4_recordCount_93 rfl ?_
                refine g_lald C 13 dX4_recordCount_95 ⟨rfl, rfl⟩ rfl (by omega) ?_
                refine g_aload_n C dX4_recordCount_96 rfl ?_
                refine g_getR C 52 dX4_recordCount_97 f_X4_75 ⟨rfl, rfl⟩ rfl (by decide) ?_
                refine g_iload C dX4_recordCount_100 rfl ?_
                refine g_iload C dX4_recordCount_102 rfl ?_
                refine g_isub C dX4_recordCount_104 ?_
                refine g_lald C 13 dX4_recordCount_105 ⟨rfl, rfl⟩ rfl (by omega) ?_
                rw [e52b, e52 (a - u) (by omega) (by omega)]
                refine g_aload_n C dX4_recordCount_106 rfl ?_
                refine g_getR C 51 dX4_recordCount_107 f_X4_71 ⟨rfl, rfl⟩ rfl (by decide) ?_
                refine g_bipush C dX4_recordCount_110 (by decide) ?_
                refine g_iload C dX4_recordCount_112 rfl ?_
                refine g_imul C dX4_recordCount_114 ?_
                refine g_iload C dX4_recordCount_115 rfl ?_
                refine g_iadd C dX4_recordCount_117 ?_
                refine g_lald C 780 dX4_recordCount_118 ⟨rfl, rfl⟩ rfl (by omega) ?_
                rw [e51]
                refine g_lmul C dX4_recordCount_119 ?_
                obtain ⟨x, ex⟩ : ∃ x, x = kRt2 (kMnet M) (kTM M) i k.toNat (a - u - 1) * M 51 0 (13 * q + u) := ⟨_, rfl⟩
                have hm := kMul_b (RB k.toNat (a - u - 1) (by omega) (by omega) (by omega)) (hb u q (by omega) (by omega) pq)
                rw [show kRt2 (kMnet M) (kTM M) i k.toNat (a - u - 1) * kTM M u q = x from ex.symm] at hm
                rw [← ex]
                have hacc := hacc (by omega)
                unfold kHd at hacc
                refine g_callSl C dX4_recordCount_120 s_X4_187 (m_X4_held (h := 1) hI x M3 (by omega) (fun _ _ q => q)) rfl rfl (Nat.le_of_ble_eq_true rfl) (by omega) ?_
                rintro z M' ⟨rfl, rfl⟩
                refine g_ladd C dX4_recordCount_123 ?_
                refine g_callSl C dX4_recordCount_124 s_X4_187 (m_X4_held (h := 1) hI (M3 53 0 a + min 1000000000 x) M3 (by omega) (fun _ _ q => q)) rfl rfl (Nat.le_of_ble_eq_true rfl) (by omega) ?_
                rintro z M' ⟨rfl, rfl⟩
                refine g_last C 13 dX4_recordCount_127 ⟨rfl, rfl⟩ rfl (by omega) ?_
                refine g_inc_6 C dX4_recordCount_128 (by decide) rfl ?_
                refine g_goto C 76 dX4_recordCount_131 (by decide) ?_
                refine ih3 (u + 1) _ h9 (by omega) (Or.inl (by omega)) (by omega) (by omega) (fun t ht => by rw [kUp_t ht]; exact hs3 t ht) (fun x x1 x2 => by rw [kUp_nk (by omega)]; exact hO3 x x1 x2) ?_
                rw [kUp_eq, show u + 1 - 1 = u by omega, kCvo_1 (by omega), ← hA, Int.mul_comm, show a - 1 - u = a - u - 1 by omega, show kRt2 (kMnet M) (kTM M) i k.toNat (a - u - 1) * kTM M u q = x from ex.symm]
                omega
          have e53 : True := trivial
          refine g_iload C dX4_recordCount_59 rfl ?_
          refine g_iload_n C dX4_recordCount_61 rfl ?_
          refine g_ic_gt C 140 dX4_recordCount_62 (by decide) (by omega) (fun c_62 => ?_) (fun c_62 => ?_)
          · refine g_iconst C dX4_recordCount_140 ?_
            refine g_ist_5 C dX4_recordCount_141 (by decide) rfl ?_
            exact COPY hne h8 (sz + 2).toNat 0 _ M2 (by omega) (by omega) (by omega) (fun t t1 t2 => by rw [hs2 t t2]; exact hs t t1 t2) (fun x x1 x2 => hO x x1 (by omega)) (fun x x1 x2 => by omega)
          · refine g_aload_n C dX4_recordCount_65 rfl ?_
            refine g_getR C 53 dX4_recordCount_66 f_X4_78 ⟨rfl, rfl⟩ rfl (by decide) ?_
            refine g_iload C dX4_recordCount_69 rfl ?_
            refine g_lconst C (0) dX4_recordCount_71 (by decide) ?_
            refine g_last C 13 dX4_recordCount_72 ⟨rfl, rfl⟩ rfl (by omega) ?_
            refine g_iconst C dX4_recordCount_73 ?_
            refine g_ist_6 C dX4_recordCount_74 (by decide) rfl ?_
            exact INNER (a + 1).toNat 1 _ (by omega) (by omega) (Or.inr rfl) (by omega) (by omega) (fun t ht => by rw [kUp_t ht]; exact hs2 t ht) (fun x x1 x2 => by rw [kUp_nk (by omega)]; exact hO x x1 x2) (by rw [kUp_eq]; rfl)
      refine g_iload_n C dX4_recordCount_32 rfl ?_
      refine g_bipush C dX4_recordCount_33 (by decide) ?_
      refine g_ic_ge C 175 dX4_recordCount_35 (by decide) (by omega) (fun c_35 => ?_) (fun c_35 => ?_)
      · refine g_aload_n C dX4_recordCount_175 rfl ?_
        refine g_getR C 52 dX4_recordCount_176 f_X4_75 ⟨rfl, rfl⟩ rfl (by decide) ?_
        refine g_iload_n C dX4_recordCount_179 rfl ?_
        refine g_lald C 13 dX4_recordCount_180 ⟨rfl, rfl⟩ rfl (by omega) ?_
        rw [hS sz (by omega) (by omega), show k = 8 by omega]
        exact g_lret C dX4_recordCount_181 (hp _ _ ⟨hs, rfl⟩)
      · refine g_aload_n C dX4_recordCount_38 rfl ?_
        refine g_getR C 33 dX4_recordCount_39 f_X4_16 ⟨rfl, rfl⟩ rfl (by decide) ?_
        refine g_bipush C dX4_recordCount_42 (by decide) ?_
        refine g_iload_n C dX4_recordCount_44 rfl ?_
        refine g_imul C dX4_recordCount_45 ?_
        refine g_iload_n C dX4_recordCount_46 rfl ?_
        refine g_iadd C dX4_recordCount_47 ?_
        refine g_iald C 480 dX4_recordCount_48 ⟨rfl, rfl⟩ rfl (by omega) (fun r_48 => ?_)
        rw [e33, ← eq] at r_48 ⊢
        refine g_ist_4 C dX4_recordCount_49 (by decide) rfl ?_
        refine g_iload C dX4_recordCount_51 rfl ?_
        refine g_if_lt C 169 dX4_recordCount_53 (by decide) (by omega) (fun c_53 => ?_) (fun c_53 => ?_)
        · refine g_inc_3 C dX4_recordCount_169 (by decide) rfl ?_
          refine g_goto C 32 dX4_recordCount_172 (by decide) ?_
          have q6 : q = -6 := by have := P (by omega); omega
          refine ih (k + 1) _ _ _ M1 (by omega) (by omega) (by omega) hs (fun x x1 x2 => ?_)
          rw [hS x x1 x2, kRt2_1 h1, EP (by omega), if_pos q6]
        · refine g_iconst C dX4_recordCount_56 ?_
          refine g_ist_5 C dX4_recordCount_57 (by decide) rfl ?_
          exact ROWS (by omega) (by omega) (sz + 2).toNat 0 _ M1 (by omega) (by omega) (by omega) (fun _ _ => rfl) (fun x x1 x2 => by omega)
  have INI : ∀ (n : Nat) (a : Int) (M1 : KM), 0 ≤ a → a ≤ 13 → 14 ≤ a + n → (∀ t, t ≠ 52 → M1 t = M t) → (∀ x, 0 ≤ x → x < a → M1 52 0 x = if x = 1 then 1 else 0) → kG p l e h s m args below meth c w 7 2 post 2 [vR 30 0, vI i, vI sz, vI a, vN, vN, vN] [] (M1) := by
    intro n
    induction n with
    | zero => intro a M1 h1 h2 h3; omega
    | succ n ih =>
      intro a M1 h1 h2 h3 hs hS
      have nxt : ∀ v, a < 13 → v = (if a = 1 then 1 else 0) → kG p l e h s m args below meth c w 7 2 post 2 [vR 30 0, vI i, vI sz, vI (a + 1), vN, vN, vN] [] (kUp M1 52 0 a v) := by
        intro v hlt hv
        refine ih (a + 1) _ (by omega) (by omega) (by omega) (fun t ht => by rw [kUp_t ht]; exact hs t ht) (fun x x1 x2 => ?_)
        by_cases q : x = a
        · subst q; rw [kUp_eq]; exact hv
        · rw [kUp_nk q]; exact hS x x1 (by omega)
      refine g_iload_n C dX4_recordCount_2 rfl ?_
      refine g_bipush C dX4_recordCount_3 (by decide) ?_
      refine g_ic_ge C 30 dX4_recordCount_5 (by decide) (by omega) (fun c_5 => ?_) (fun c_5 => ?_)
      · refine g_iconst C dX4_recordCount_30 ?_
        refine g_istn_3 C dX4_recordCount_31 (by decide) rfl ?_
        refine LET 9 0 _ _ _ M1 (by omega) (by omega) (by omega) (fun t t1 _ => hs t t1) (fun x x1 x2 => ?_)
        rw [hS x (by omega) (by omega)]
        show _ = if x - 1 = 0 then 1 else 0
        by_cases q : x = 1
        · rw [if_pos q, if_pos (by omega)]
        · rw [if_neg q, if_neg (by omega)]
      · refine g_aload_n C dX4_recordCount_8 rfl ?_
        refine g_getR C 52 dX4_recordCount_9 f_X4_75 ⟨rfl, rfl⟩ rfl (by decide) ?_
        refine g_iload_n C dX4_recordCount_12 rfl ?_
        refine g_iload_n C dX4_recordCount_13 rfl ?_
        refine g_iconst C dX4_recordCount_14 ?_
        refine g_ic_ne C 22 dX4_recordCount_15 (by decide) (by omega) (fun c_15 => ?_) (fun c_15 => ?_)
        · refine g_lconst C (0) dX4_recordCount_22 (by decide) ?_
          refine g_last C 13 dX4_recordCount_23 ⟨rfl, rfl⟩ rfl (by omega) ?_
          refine g_inc_3 C dX4_recordCount_24 (by decide) rfl ?_
          refine g_goto C 2 dX4_recordCount_27 (by decide) ?_
          first
          | exact nxt 1 (by omega) (by rw [if_pos (by assumption)])
          | exact nxt 0 (by omega) (by rw [if_neg (by assumption)])
        · refine g_lconst C (1) dX4_recordCount_18 (by decide) ?_
          refine g_goto C 23 dX4_recordCount_19 (by decide) ?_
          refine g_last C 13 dX4_recordCount_23 ⟨rfl, rfl⟩ rfl (by omega) ?_
          refine g_inc_3 C dX4_recordCount_24 (by decide) rfl ?_
          refine g_goto C 2 dX4_recordCount_27 (by decide) ?_
          first
          | exact nxt 1 (by omega) (by rw [if_pos (by assumption)])
          | exact nxt 0 (by omega) (by rw [if_neg (by assumption)])
  refine g_iconst C dX4_recordCount_0 ?_
  refine g_istn_3 C dX4_recordCount_1 (by decide) rfl ?_
  exact INI 14 0 M (by omega) (by omega) (by omega) (fun _ _ => rfl) (fun x x1 x2 => by omega)
theorem m_X4_count (hh : 3 ≤ h) (hI : kInj w) (i sz : Int) (M : KM) (hN : kWF (kMnet M)) (hi : -2147483648 ≤ i ∧ i < 2147483648) (hsz : -2147483648 ≤ sz ∧ sz < 2147483648) (hp : ∀ z M', (¬ kRn (kMnet M) i ∧ z = -1 ∧ M = M') ∨ (kRn (kMnet M) i ∧ ¬ (1 ≤ sz ∧ sz ≤ 12) ∧ z = -2 ∧ M = M') ∨ (kRn (kMnet M) i ∧ (1 ≤ sz ∧ sz ≤ 12) ∧ kCntA (kMnet M) i sz z ∧ ∀ t, t ≠ 51 → t ≠ 52 → t ≠ 53 → M' t = M t) → post z M') : kMet l w yX4_count cX4_count 8 (some .int) 1 h [vR 30 0, vI i, vI sz] M post := by
  obtain ⟨hn, -, hpt, hl, -⟩ := kMwf hN
  have er : kRn (kMnet M) i ↔ (0 ≤ i ∧ i < M 30 0 2) := Iff.rfl
  refine kMet_of [vR 30 0, vI i, vI sz, vN, vN, vN, vN, vN] (by decide) hI rfl rfl (Nat.le_of_ble_eq_true rfl) ?_
  intro p e s m args below meth c C hVok
  have SZ : (0 ≤ i ∧ i < M 30 0 2) → (1 ≤ sz ∧ sz ≤ 12) → ∀ (n : Nat) (v : Int) (x4 x5 x6 x7 : KV) (M1 : KM), 1 ≤ v → v ≤ sz + 1 → sz + 2 ≤ v + n → (∀ t, t ≠ 51 → t ≠ 52 → t ≠ 53 → M1 t = M t) → (∀ j, kRn (kMnet M) j → kTM M1 0 j = 0) → kTw (kMnet M) (kTM M1) v 0 → kG p l e h s m args below meth c w 8 1 post 47 [vR 30 0, vI i, vI sz, vI v, x4, x5, x6, x7] [] (M1) := by
    intro hri hsr n
    induction n with
    | zero => intro v x4 x5 x6 x7 M1 h1 h2 h3; omega
    | succ n ih =>
      intro v x4 x5 x6 x7 M1 v1 v2 v3 hs hZ hW
      have INNER : ∀ (n3 : Nat) (a : Int) (x5 x6 x7 : KV) (M2 : KM), v ≤ sz → 0 ≤ a → a ≤ M 30 0 2 → M 30 0 2 + 1 ≤ a + n3 → (∀ t, t ≠ 51 → t ≠ 52 → t ≠ 53 → M2 t = M t) → (∀ j, kRn (kMnet M) j → kTM M2 0 j = 0) → kTw (kMnet M) (kTM M2) v a → kG p l e h s m args below meth c w 8 1 post 55 [vR 30 0, vI i, vI sz, vI v, vI a, x5, x6, x7] [] (M2) := by
        intro n3
        induction n3 with
        | zero => intro a x5 x6 x7 M2 h9 h1 h2 h3; omega
        | succ n3 ih3 =>
          intro a x5 x6 x7 M2 hv a1 a2 a3 hs2 hZ2 hW2
          have e2 : M2 30 0 2 = M 30 0 2 := by rw [hs2 30 (by decide) (by decide) (by decide)]
          have e32 : M2 32 = M 32 := hs2 32 (by decide) (by decide) (by decide)
          have e33 : M2 33 = M 33 := hs2 33 (by decide) (by decide) (by decide)
          have eN : kMnet M2 = kMnet M := kMnet_eq e32 e33 e2
          have hTb := kTw_b hN hW2
          have HB : ∀ j, kRn (kMnet M) j → kHd (kTM M2 (v - 1) j) := by
            intro j hj
            by_cases q9 : v = 1
            · rw [q9, show (1 : Int) - 1 = 0 by omega, hZ2 j hj]
              unfold kHd
              omega
            · exact hTb (v - 1) j (by omega) (by omega) hj
          have E : a < M 30 0 2 → kCt (kMnet M) (kTM M2) v a = if M 32 0 a = 123 then kRt2 (kMnet M) (kTM M2) a 8 (v - 1) else if M 32 0 a = 42 then kLf (kTM M2) (M 33 0 (8 * a)) (v - 1) else if M 32 0 a = 91 then (if v = 1 then 0 else min 1000000000 (kCh (kMnet M) (kTM M2) a (v - 1) 8)) else if v = 1 then (if M 32 0 a = 110 then 10 else if M 32 0 a = 116 then 2 else if M 32 0 a = 115 then 26 else 0) else 0 := by
            intro h9
            unfold kCt
            rw [kMnet_s ⟨a1, h9⟩, kMnet_p ⟨a1, h9⟩ (by omega), Int.add_zero]
          have STORE : ∀ (z : Int) (x5 x6 x7 : KV) (M3 : KM), a < M 30 0 2 → (∀ t, t ≠ 52 → t ≠ 53 → M3 t = M2 t) → z = kCt (kMnet M) (kTM M2) v a → kG p l e h s m args below meth c w 8 1 post 188 [vR 30 0, vI i, vI sz, vI v, vI a, x5, x6, x7] [vL z, vI (13 * a + v), vR 51 0] (M3) := by
            intro z x5 x6 x7 M3 hlt hs3 hz
            have e51 : M3 51 = M2 51 := hs3 51 (by decide) (by decide)
            refine g_last C 780 dX4_count_188 ⟨rfl, rfl⟩ rfl (by omega) ?_
            refine g_inc_4 C dX4_count_189 (by decide) rfl ?_
            refine g_goto C 55 dX4_count_192 (by decide) ?_
            refine ih3 (a + 1) _ _ _ _ hv (by omega) (by omega) (by omega) (fun t t1 t2 t3 => by rw [kUp_t t1, hs3 t t2 t3]; exact hs2 t t1 t2 t3) (fun j hj => ?_) (kTw_set hN hW2 (fun v' j h1 h2 hj => ?_))
            · unfold kTM
              have := hj.1
              rw [kUp_nk (by omega), e51]
              exact hZ2 j hj
            · unfold kTM
              have q1 := hj.1
              by_cases q9 : v' = v ∧ j = a
              · rw [if_pos q9, q9.1, q9.2, kUp_eq]
                exact hz
              · rw [if_neg q9, kUp_nk (by omega), e51]
          have REST : ∀ (own : Int) (x6 x7 : KV), (-2147483648 ≤ M 32 0 a ∧ M 32 0 a < 2147483648) → a < M 30 0 2 → own = (if M 32 0 a = 110 then 10 else if M 32 0 a = 116 then 2 else if M 32 0 a = 115 then 26 else 0) → kG p l e h s m args below meth c w 8 1 post 113 [vR 30 0, vI i, vI sz, vI v, vI a, vI (M 32 0 a), x6, x7] [vL own] (M2) := by
            intro own x6 x7 hr hlt hown
            have E := E hlt
            have SAME : ∀ t : Nat, t ≠ 52 → t ≠ 53 → M2 t = M2 t := fun _ _ _ => rfl
            have p0 : M 32 0 a = 42 → 0 ≤ M 33 0 (8 * a) ∧ M 33 0 (8 * a) < M 30 0 2 := by
              intro q9
              have u1 := (hl a a1 hlt q9).1
              have u2 := hpt a 0 a1 hlt (by omega) (by omega)
              rw [Int.add_zero] at u2
              omega
            refine g_lst_6 C dX4_count_113 (by decide) rfl ?_
            refine g_aload_n C dX4_count_115 rfl ?_
            refine g_getR C 51 dX4_count_116 f_X4_71 ⟨rfl, rfl⟩ rfl (by decide) ?_
            refine g_bipush C dX4_count_119 (by decide) ?_
            refine g_iload C dX4_count_121 rfl ?_
            refine g_imul C dX4_count_123 ?_
            refine g_iload_n C dX4_count_124 rfl ?_
            refine g_iadd C dX4_count_125 ?_
            refine g_iload C dX4_count_126 rfl ?_
            refine g_bipush C dX4_count_128 (by decide) ?_
            refine g_ic_ne C 143 dX4_count_130 (by decide) (by omega) (fun c_130 => ?_) (fun c_130 => ?_)
            · refine g_iload C dX4_count_143 rfl ?_
              refine g_bipush C dX4_count_145 (by decide) ?_
              refine g_ic_ne C 160 dX4_count_147 (by decide) (by omega) (fun c_147 => ?_) (fun c_147 => ?_)
              · refine g_iload C dX4_count_160 rfl ?_
                refine g_bipush C dX4_count_162 (by decide) ?_
                refine g_ic_ne C 177 dX4_count_164 (by decide) (by omega) (fun c_164 => ?_) (fun c_164 => ?_)
                · refine g_iload_n C dX4_count_177 rfl ?_
                  refine g_iconst C dX4_count_178 ?_
                  refine g_ic_ne C 187 dX4_count_179 (by decide) (by omega) (fun c_179 => ?_) (fun c_179 => ?_)
                  · refine g_lconst C (0) dX4_count_187 (by decide) ?_
                    first
                    | exact STORE _ _ _ _ M3 hlt hs3 (by rw [E, if_pos (by assumption)]; exact hz)
                    | exact STORE _ _ _ _ M3 hlt (fun t t1 _ => hs3 t t1) (by rw [E, if_neg (by assumption), if_pos (by assumption)]; exact hz)
                    | exact STORE _ _ _ _ M2 hlt SAME (by
                        rw [E, if_neg (by assumption), if_neg (by omega), if_pos (by assumption), hz]
                        by_cases q9 : v = 1
                        · rw [if_pos q9]
                          have e0 : kCh (kMnet M) (kTM M2) a (v - 1) 8 = 0 := by
                            rw [q9, show (1 : Int) - 1 = 0 by omega]
                            have b := kCh_b (T := fun _ _ => 0) (s := 0) hN ⟨a1, hlt⟩ (fun _ _ => by unfold kHd; omega) 8 (Nat.le_refl _)
                            have e1 : kCh (kMnet M) (kTM M2) a 0 8 = kCh (kMnet M) (fun _ _ => 0) a 0 8 := kCh_congr hN ⟨a1, hlt⟩ (fun j hj => hZ2 j hj) 8 (Nat.le_refl _)
                            rw [e1]
                            unfold kCh
                            rw [kSum_congr (f := fun _ => 0) (fun l h1 h2 => by split <;> rfl)]
                            rfl
                          rw [e0]; rfl
                        · rw [if_neg q9])
                    | exact STORE _ _ _ _ M2 hlt SAME (by rw [E, if_neg (by assumption), if_neg (by assumption), if_neg (by assumption), if_pos (by assumption)]; exact hown)
                    | exact STORE _ _ _ _ M2 hlt SAME (by rw [E, if_neg (by assumption), if_neg (by assumption), if_neg (by assumption), if_neg (by assumption)])
                  · refine g_lload C dX4_count_182 rfl ?_
                    refine g_goto C 188 dX4_count_184 (by decide) ?_
                    first
                    | exact STORE _ _ _ _ M3 hlt hs3 (by rw [E, if_pos (by assumption)]; exact hz)
                    | exact STORE _ _ _ _ M3 hlt (fun t t1 _ => hs3 t t1) (by rw [E, if_neg (by assumption), if_pos (by assumption)]; exact hz)
                    | exact STORE _ _ _ _ M2 hlt SAME (by
                        rw [E, if_neg (by assumption), if_neg (by omega), if_pos (by assumption), hz]
                        by_cases q9 : v = 1
                        · rw [if_pos q9]
                          have e0 : kCh (kMnet M) (kTM M2) a (v - 1) 8 = 0 := by
                            rw [q9, show (1 : Int) - 1 = 0 by omega]
                            have b := kCh_b (T := fun _ _ => 0) (s := 0) hN ⟨a1, hlt⟩ (fun _ _ => by unfold kHd; omega) 8 (Nat.le_refl _)
                            have e1 : kCh (kMnet M) (kTM M2) a 0 8 = kCh (kMnet M) (fun _ _ => 0) a 0 8 := kCh_congr hN ⟨a1, hlt⟩ (fun j hj => hZ2 j hj) 8 (Nat.le_refl _)
                            rw [e1]
                            unfold kCh
                            rw [kSum_congr (f := fun _ => 0) (fun l h1 h2 => by split <;> rfl)]
                            rfl
                          rw [e0]; rfl
                        · rw [if_neg q9])
                    | exact STORE _ _ _ _ M2 hlt SAME (by rw [E, if_neg (by assumption), if_neg (by assumption), if_neg (by assumption), if_pos (by assumption)]; exact hown)
                    | exact STORE _ _ _ _ M2 hlt SAME (by rw [E, if_neg (by assumption), if_neg (by assumption), if_neg (by assumption), if_neg (by assumption)])
                · refine g_aload_n C dX4_count_167 rfl ?_
                  refine g_iload C dX4_count_168 rfl ?_
                  refine g_iload_n C dX4_count_170 rfl ?_
                  refine g_callVl C dX4_count_171 v_X4_203 (m_X4_listCount (h := 2) (by omega) hI a v M2 (by omega) (by rw [e33]; have := p0 (by assumption); omega) (by omega) (by rw [e33]; exact fun u u1 u2 => hTb u _ u1 u2 (by have := p0 (by assumption); rw [kRn, kMnet_n]; omega)) (fun _ _ q => q)) ⟨rfl, rfl⟩ rfl rfl (Nat.le_of_ble_eq_true rfl) (by omega) ?_
                  rintro z M3 ⟨hs3, hz⟩
                  rw [e33] at hz
                  refine g_goto C 188 dX4_count_174 (by decide) ?_
                  first
                  | exact STORE _ _ _ _ M3 hlt hs3 (by rw [E, if_pos (by assumption)]; exact hz)
                  | exact STORE _ _ _ _ M3 hlt (fun t t1 _ => hs3 t t1) (by rw [E, if_neg (by assumption), if_pos (by assumption)]; exact hz)
                  | exact STORE _ _ _ _ M2 hlt SAME (by
                      rw [E, if_neg (by assumption), if_neg (by omega), if_pos (by assumption), hz]
                      by_cases q9 : v = 1
                      · rw [if_pos q9]
                        have e0 : kCh (kMnet M) (kTM M2) a (v - 1) 8 = 0 := by
                          rw [q9, show (1 : Int) - 1 = 0 by omega]
                          have b := kCh_b (T := fun _ _ => 0) (s := 0) hN ⟨a1, hlt⟩ (fun _ _ => by unfold kHd; omega) 8 (Nat.le_refl _)
                          have e1 : kCh (kMnet M) (kTM M2) a 0 8 = kCh (kMnet M) (fun _ _ => 0) a 0 8 := kCh_congr hN ⟨a1, hlt⟩ (fun j hj => hZ2 j hj) 8 (Nat.le_refl _)
                          rw [e1]
                          unfold kCh
                          rw [kSum_congr (f := fun _ => 0) (fun l h1 h2 => by split <;> rfl)]
                          rfl
                        rw [e0]; rfl
                      · rw [if_neg q9])
                  | exact STORE _ _ _ _ M2 hlt SAME (by rw [E, if_neg (by assumption), if_neg (by assumption), if_neg (by assumption), if_pos (by assumption)]; exact hown)
                  | exact STORE _ _ _ _ M2 hlt SAME (by rw [E, if_neg (by assumption), if_neg (by assumption), if_neg (by assumption), if_neg (by assumption)])
              · refine g_aload_n C dX4_count_150 rfl ?_
                refine g_iload C dX4_count_151 rfl ?_
                refine g_iload_n C dX4_count_153 rfl ?_
                refine g_callVl C dX4_count_154 v_X4_200 (m_X4_choiceCount (h := 2) (by omega) hI a v M2 (by rw [eN]; exact hN) (by omega) (by omega) (by rw [eN]; exact HB) (fun _ _ q => q)) ⟨rfl, rfl⟩ rfl rfl (Nat.le_of_ble_eq_true rfl) (by omega) ?_
                rintro z M' ⟨hz, rfl⟩
                rw [eN] at hz
                refine g_goto C 188 dX4_count_157 (by decide) ?_
                first
                | exact STORE _ _ _ _ M3 hlt hs3 (by rw [E, if_pos (by assumption)]; exact hz)
                | exact STORE _ _ _ _ M3 hlt (fun t t1 _ => hs3 t t1) (by rw [E, if_neg (by assumption), if_pos (by assumption)]; exact hz)
                | exact STORE _ _ _ _ M2 hlt SAME (by
                    rw [E, if_neg (by assumption), if_neg (by omega), if_pos (by assumption), hz]
                    by_cases q9 : v = 1
                    · rw [if_pos q9]
                      have e0 : kCh (kMnet M) (kTM M2) a (v - 1) 8 = 0 := by
                        rw [q9, show (1 : Int) - 1 = 0 by omega]
                        have b := kCh_b (T := fun _ _ => 0) (s := 0) hN ⟨a1, hlt⟩ (fun _ _ => by unfold kHd; omega) 8 (Nat.le_refl _)
                        have e1 : kCh (kMnet M) (kTM M2) a 0 8 = kCh (kMnet M) (fun _ _ => 0) a 0 8 := kCh_congr hN ⟨a1, hlt⟩ (fun j hj => hZ2 j hj) 8 (Nat.le_refl _)
                        rw [e1]
                        unfold kCh
                        rw [kSum_congr (f := fun _ => 0) (fun l h1 h2 => by split <;> rfl)]
                        rfl
                      rw [e0]; rfl
                    · rw [if_neg q9])
                | exact STORE _ _ _ _ M2 hlt SAME (by rw [E, if_neg (by assumption), if_neg (by assumption), if_neg (by assumption), if_pos (by assumption)]; exact hown)
                | exact STORE _ _ _ _ M2 hlt SAME (by rw [E, if_neg (by assumption), if_neg (by assumption), if_neg (by assumption), if_neg (by assumption)])
            · refine g_aload_n C dX4_count_133 rfl ?_
              refine g_iload C dX4_count_134 rfl ?_
              refine g_iload_n C dX4_count_136 rfl ?_
              refine g_callVl C dX4_count_137 v_X4_196 (m_X4_recordCount (h := 2) (by omega) hI a v M2 (by rw [eN]; exact hN) (by omega) (by omega) (by rw [eN]; exact fun u j u1 u2 hj => hTb u j u1 (by omega) hj) (fun _ _ q => q)) ⟨rfl, rfl⟩ rfl rfl (Nat.le_of_ble_eq_true rfl) (by omega) ?_
              rintro z M3 ⟨hs3, hz⟩
              rw [eN] at hz
              refine g_goto C 188 dX4_count_140 (by decide) ?_
              first
              | exact STORE _ _ _ _ M3 hlt hs3 (by rw [E, if_pos (by assumption)]; exact hz)
              | exact STORE _ _ _ _ M3 hlt (fun t t1 _ => hs3 t t1) (by rw [E, if_neg (by assumption), if_pos (by assumption)]; exact hz)
              | exact STORE _ _ _ _ M2 hlt SAME (by
                  rw [E, if_neg (by assumption), if_neg (by omega), if_pos (by assumption), hz]
                  by_cases q9 : v = 1
                  · rw [if_pos q9]
                    have e0 : kCh (kMnet M) (kTM M2) a (v - 1) 8 = 0 := by
                      rw [q9, show (1 : Int) - 1 = 0 by omega]
                      have b := kCh_b (T := fun _ _ => 0) (s := 0) hN ⟨a1, hlt⟩ (fun _ _ => by unfold kHd; omega) 8 (Nat.le_refl _)
                      have e1 : kCh (kMnet M) (kTM M2) a 0 8 = kCh (kMnet M) (fun _ _ => 0) a 0 8 := kCh_congr hN ⟨a1, hlt⟩ (fun j hj => hZ2 j hj) 8 (Nat.le_refl _)
                      rw [e1]
                      unfold kCh
                      rw [kSum_congr (f := fun _ => 0) (fun l h1 h2 => by split <;> rfl)]
                      rfl
                    rw [e0]; rfl
                  · rw [if_neg q9])
              | exact STORE _ _ _ _ M2 hlt SAME (by rw [E, if_neg (by assumption), if_neg (by assumption), if_neg (by assumption), if_pos (by assumption)]; exact hown)
              | exact STORE _ _ _ _ M2 hlt SAME (by rw [E, if_neg (by assumption), if_neg (by assumption), if_neg (by assumption), if_neg (by assumption)])
          refine g_iload C dX4_count_55 rfl ?_
          refine g_aload_n C dX4_count_57 rfl ?_
          refine g_getI C 2 dX4_count_58 f_X4_116 ⟨rfl, rfl⟩ rfl rfl (fun r_58 => ?_)
          refine g_ic_ge C 195 dX4_count_61 (by decide) (by omega) (fun c_61 => ?_) (fun c_61 => ?_)
          · refine g_inc_3 C dX4_count_195 (by decide) rfl ?_
            refine g_goto C 47 dX4_count_198 (by decide) ?_
            exact ih (v + 1) _ _ _ _ M2 (by omega) (by omega) (by omega) hs2 hZ2 (kTw_row (by rw [kMnet_n, show M 30 0 2 = a by omega]; exact hW2))
          · refine g_aload_n C dX4_count_64 rfl ?_
            refine g_getR C 32 dX4_count_65 f_X4_13 ⟨rfl, rfl⟩ rfl (by decide) ?_
            refine g_iload C dX4_count_68 rfl ?_
            refine g_iald C 60 dX4_count_70 ⟨rfl, rfl⟩ rfl (by omega) (fun r_70 => ?_)
            rw [e32] at r_70 ⊢
            refine g_ist_5 C dX4_count_71 (by decide) rfl ?_
            refine g_iload C dX4_count_73 rfl ?_
            refine g_bipush C dX4_count_75 (by decide) ?_
            refine g_ic_ne C 86 dX4_count_77 (by decide) (by omega) (fun c_77 => ?_) (fun c_77 => ?_)
            · refine g_iload C dX4_count_86 rfl ?_
              refine g_bipush C dX4_count_88 (by decide) ?_
              refine g_ic_ne C 99 dX4_count_90 (by decide) (by omega) (fun c_90 => ?_) (fun c_90 => ?_)
              · refine g_iload C dX4_count_99 rfl ?_
                refine g_bipush C dX4_count_101 (by decide) ?_
                refine g_ic_ne C 112 dX4_count_103 (by decide) (by omega) (fun c_103 => ?_) (fun c_103 => ?_)
                · refine g_lconst C (0) dX4_count_112 (by decide) ?_
                  first
                  | exact REST _ _ _ r_70 (by omega) (by rw [if_pos (by assumption)])
                  | exact REST _ _ _ r_70 (by omega) (by rw [if_neg (by assumption), if_pos (by assumption)])
                  | exact REST _ _ _ r_70 (by omega) (by rw [if_neg (by assumption), if_neg (by assumption), if_pos (by assumption)])
                  | exact REST _ _ _ r_70 (by omega) (by rw [if_neg (by assumption), if_neg (by assumption), if_neg (by assumption)])
                · refine g_ldc2 C (26) q758 dX4_count_106 (by decide) ?_
                  refine g_goto C 113 dX4_count_109 (by decide) ?_
                  first
                  | exact REST _ _ _ r_70 (by omega) (by rw [if_pos (by assumption)])
                  | exact REST _ _ _ r_70 (by omega) (by rw [if_neg (by assumption), if_pos (by assumption)])
                  | exact REST _ _ _ r_70 (by omega) (by rw [if_neg (by assumption), if_neg (by assumption), if_pos (by assumption)])
                  | exact REST _ _ _ r_70 (by omega) (by rw [if_neg (by assumption), if_neg (by assumption), if_neg (by assumption)])
              · refine g_ldc2 C (2) q757 dX4_count_93 (by decide) ?_
                refine g_goto C 113 dX4_count_96 (by decide) ?_
                first
                | exact REST _ _ _ r_70 (by omega) (by rw [if_pos (by assumption)])
                | exact REST _ _ _ r_70 (by omega) (by rw [if_neg (by assumption), if_pos (by assumption)])
                | exact REST _ _ _ r_70 (by omega) (by rw [if_neg (by assumption), if_neg (by assumption), if_pos (by assumption)])
                | exact REST _ _ _ r_70 (by omega) (by rw [if_neg (by assumption), if_neg (by assumption), if_neg (by assumption)])
            · refine g_ldc2 C (10) q756 dX4_count_80 (by decide) ?_
              refine g_goto C 113 dX4_count_83 (by decide) ?_
              first
              | exact REST _ _ _ r_70 (by omega) (by rw [if_pos (by assumption)])
              | exact REST _ _ _ r_70 (by omega) (by rw [if_neg (by assumption), if_pos (by assumption)])
              | exact REST _ _ _ r_70 (by omega) (by rw [if_neg (by assumption), if_neg (by assumption), if_pos (by assumption)])
              | exact REST _ _ _ r_70 (by omega) (by rw [if_neg (by assumption), if_neg (by assumption), if_neg (by assumption)])
      refine g_iload_n C dX4_count_47 rfl ?_
      refine g_iload_n C dX4_count_48 rfl ?_
      refine g_ic_gt C 201 dX4_count_49 (by decide) (by omega) (fun c_49 => ?_) (fun c_49 => ?_)
      · refine g_aload_n C dX4_count_201 rfl ?_
        refine g_getR C 51 dX4_count_202 f_X4_71 ⟨rfl, rfl⟩ rfl (by decide) ?_
        refine g_bipush C dX4_count_205 (by decide) ?_
        refine g_iload_n C dX4_count_207 rfl ?_
        refine g_imul C dX4_count_208 ?_
        refine g_iload_n C dX4_count_209 rfl ?_
        refine g_iadd C dX4_count_210 ?_
        refine g_lald C 780 dX4_count_211 ⟨rfl, rfl⟩ rfl (by omega) ?_
        refine g_l2i C dX4_count_212 ?_
        exact g_iret C dX4_count_213 (hp _ _ (Or.inr (Or.inr ⟨hri, hsr, ⟨kTM M1, fun q j q1 q2 hj => hW q j q1 hj (Or.inl (by omega)), rfl⟩, hs⟩)))
      · refine g_iconst C dX4_count_52 ?_
        refine g_ist_4 C dX4_count_53 (by decide) rfl ?_
        exact INNER ((M 30 0 2).toNat + 1) 0 _ _ _ M1 (by omega) (by omega) (by omega) (by omega) hs hZ hW
  have CLR : (0 ≤ i ∧ i < M 30 0 2) → (1 ≤ sz ∧ sz ≤ 12) → ∀ (n : Nat) (a : Int) (M1 : KM), 0 ≤ a → a ≤ 780 → 781 ≤ a + n → (∀ t, t ≠ 51 → M1 t = M t) → (∀ x, 0 ≤ x → x < a → M1 51 0 x = 0) → kG p l e h s m args below meth c w 8 1 post 25 [vR 30 0, vI i, vI sz, vI a, vN, vN, vN, vN] [] (M1) := by
    intro hri hsr n
    induction n with
    | zero => intro a M1 h1 h2 h3; omega
    | succ n ih =>
      intro a M1 h1 h2 h3 hs hS
      refine g_iload_n C dX4_count_25 rfl ?_
      refine g_sipush C dX4_count_26 (by decide) ?_
      refine g_ic_ge C 45 dX4_count_29 (by decide) (by omega) (fun c_29 => ?_) (fun c_29 => ?_)
      · refine g_iconst C dX4_count_45 ?_
        refine g_istn_3 C dX4_count_46 (by decide) rfl ?_
        exact SZ hri hsr (sz + 2).toNat 1 _ _ _ _ M1 (by omega) (by omega) (by omega) (fun t t1 _ _ => hs t t1) (fun j hj => hS _ (by have := hj.1; omega) (by have := hj.2; rw [kMnet_n] at this; omega)) (fun v j h1 hj hb => by have := hj.1; omega)
      · refine g_aload_n C dX4_count_32 rfl ?_
        refine g_getR C 51 dX4_count_33 f_X4_71 ⟨rfl, rfl⟩ rfl (by decide) ?_
        refine g_iload_n C dX4_count_36 rfl ?_
        refine g_lconst C (0) dX4_count_37 (by decide) ?_
        refine g_last C 780 dX4_count_38 ⟨rfl, rfl⟩ rfl (by omega) ?_
        refine g_inc_3 C dX4_count_39 (by decide) rfl ?_
        refine g_goto C 25 dX4_count_42 (by decide) ?_
        refine ih (a + 1) _ (by omega) (by omega) (by omega) (fun t ht => by rw [kUp_t ht]; exact hs t ht) (fun x x1 x2 => ?_)
        by_cases q : x = a
        · subst q; exact kUp_eq
        · rw [kUp_nk q]; exact hS x x1 (by omega)
  refine g_aload_n C dX4_count_0 rfl ?_
  refine g_iload_n C dX4_count_1 rfl ?_
  refine g_callVi C dX4_count_2 v_X4_123 (m_X4_isNode (h := 2) (by omega) hI i M (by omega) hn (fun _ _ q => q)) ⟨rfl, rfl⟩ rfl rfl (Nat.le_of_ble_eq_true rfl) (by omega) ?_
  rintro z M' ⟨hz, rfl⟩
  refine g_if_ne C 10 dX4_count_5 (by decide) (by omega) (fun c_5 => ?_) (fun c_5 => ?_)
  · refine g_iload_n C dX4_count_10 rfl ?_
    refine g_iconst C dX4_count_11 ?_
    refine g_bipush C dX4_count_12 (by decide) ?_
    refine g_callSi C dX4_count_14 s_X4_84 (m_X4_in (h := 1) hI sz 1 12 M (by omega) (fun _ _ q => q)) rfl rfl (Nat.le_of_ble_eq_true rfl) (by omega) ?_
    rintro z2 M' ⟨hz2, rfl⟩
    refine g_if_ne C 23 dX4_count_17 (by decide) (by omega) (fun c_17 => ?_) (fun c_17 => ?_)
    · refine g_iconst C dX4_count_23 ?_
      refine g_istn_3 C dX4_count_24 (by decide) rfl ?_
      exact CLR (by omega) (by omega) 781 0 M (by omega) (by omega) (by omega) (fun _ _ => rfl) (fun x x1 x2 => by omega)
    · refine g_bipush C dX4_count_20 (by decide) ?_
      exact g_iret C dX4_count_22 (hp _ _ (Or.inr (Or.inl ⟨by rw [er]; omega, by omega, rfl, rfl⟩)))
  · refine g_iconst C dX4_count_8 ?_
    exact g_iret C dX4_count_9 (hp _ _ (Or.inl ⟨by rw [er]; omega, rfl, rfl⟩))
end

