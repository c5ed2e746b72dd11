/-! KindNets: held, listsOf, recordsOf, countOf, count -/
set_option maxRecDepth 100000
section
variable {l : Launch} {w : KL} {h : Nat} {post : Int → KM → Prop}
theorem m_X0_held (hh : 1 ≤ h) (hI : kInj w) (v : Int) (M : KM) (hr : -9223372036854775808 ≤ v ∧ v < 9223372036854775808) (hp : ∀ z M', z = min 1000000000 v ∧ M = M' → post z M') : kMet l w yX0_held cX0_held 2 (some .long) 2 h [vL v] M post := by
  refine kMet_of [vL v, vN] (by decide) hI rfl rfl (Nat.le_of_ble_eq_true rfl) ?_
  intro p e s m args below meth c C hVok
  refine g_lload_n C dX0_held_0 rfl ?_
  refine g_ldc2 C (1000000000) q477 dX0_held_1 (by decide) ?_
  refine g_minL C q478 dX0_held_4 (by omega) (by omega) (Nat.le_of_ble_eq_true rfl) (fun z_4 hz_4 => ?_)
  exact g_lret C dX0_held_7 (hp _ _ ⟨by omega, rfl⟩)
theorem m_X0_listsOf (hh : 2 ≤ h) (hI : kInj w) (q sz : Int) (M : KM) (hq : 0 ≤ q ∧ q < 60) (hsz : 0 ≤ sz ∧ sz ≤ 12) (hb : ∀ u : Int, 1 ≤ u → u ≤ sz → kHd (M 6 u q)) (hp : ∀ z M', (∀ t, t ≠ 28 → M' t = M t) ∧ z = kLf (M 6) q sz → post z M') : kMet l w yX0_listsOf cX0_listsOf 7 (some .long) 2 h [vR 7 0, vI q, vI sz] M post := by
  refine kMet_of [vR 7 0, vI q, vI sz, vN, vN, vN, vN] (by decide) hI rfl rfl (Nat.le_of_ble_eq_true rfl) ?_
  intro p e s m args below meth c C hVok
  have LB : ∀ x, 0 ≤ x → x ≤ sz → kHd (kLf (M 6) q x) := fun x h1 h2 => kLf_b x.toNat x h1 (by omega) (fun u u1 u2 => hb u u1 (by omega))
  have L : ∀ (n : Nat) (a : Int) (x4 x5 x6 : KV) (M1 : KM), 1 ≤ a → a ≤ sz + 1 → sz + 2 ≤ a + n → (∀ t, t ≠ 28 → M1 t = M t) → (∀ x, 0 ≤ x → x < a → M1 28 0 x = kLf (M 6) q x) → kG p l e h s m args below meth c w 7 2 post 9 [vR 7 0, vI q, vI sz, vI a, x4, x5, x6] [] (M1) := by
    intro n
    induction n with
    | zero => intro a x4 x5 x6 M1 h1 h2 h3; omega
    | succ n ih =>
      intro a x4 x5 x6 M1 h1 h2 h3 hs hS
      have e6 : M1 6 = M 6 := hs 6 (by decide)
      have INNER : ∀ (n3 : Nat) (u : Int), a ≤ sz → 1 ≤ u → u ≤ a + 1 → a + 2 ≤ u + n3 → kG p l e h s m args below meth c w 7 2 post 20 [vR 7 0, vI q, vI sz, vI a, vL (kCvo (M 6) q (kLf (M 6) q) a (u - 1).toNat), vN, vI u] [] (M1) := by
        intro n3
        induction n3 with
        | zero => intro u h9 u1 u2 u3; omega
        | succ n3 ih3 =>
          intro u h9 u1 u2 u3
          have hacc := kCvo_b (T := M 6) (q := q) (S := kLf (M 6) q) (s := a) (u - 1).toNat (fun v v1 v2 => ⟨hb v v1 (by omega), LB (a - v) (by omega) (by omega)⟩)
          obtain ⟨acc, eacc⟩ : ∃ acc, acc = kCvo (M 6) q (kLf (M 6) q) a (u - 1).toNat := ⟨_, rfl⟩
          rw [← eacc] at hacc ⊢
          refine g_iload C dX0_listsOf_20 rfl ?_
          refine g_iload_n C dX0_listsOf_22 rfl ?_
          refine g_ic_gt C 59 dX0_listsOf_23 (by decide) (by omega) (fun c_23 => ?_) (fun c_23 => ?_)
          · refine g_aload_n C dX0_listsOf_59 rfl ?_
            refine g_getR C 28 dX0_listsOf_60 f_X0_60 ⟨rfl, rfl⟩ rfl (by decide) ?_
            refine g_iload_n C dX0_listsOf_63 rfl ?_
            refine g_lload C dX0_listsOf_64 rfl ?_
            refine g_last C 13 dX0_listsOf_66 ⟨rfl, rfl⟩ rfl (by omega) ?_
            refine g_inc_3 C dX0_listsOf_67 (by decide) rfl ?_
            refine g_goto C 9 dX0_listsOf_70 (by decide) ?_
            refine ih (a + 1) _ _ _ _ (by omega) (by omega) (by omega) (fun t ht => by rw [kUp_t ht]; exact hs t ht) (fun x x1 x2 => ?_)
            by_cases q9 : x = a
            · subst q9
              rw [kUp_eq, eacc, kLf_1 (by omega), show u - 1 = x by omega]
            · rw [kUp_nk q9]; exact hS x x1 (by omega)
          · refine g_lload C dX0_listsOf_26 rfl ?_
            refine g_aload_n C dX0_listsOf_28 rfl ?_
            refine g_getR C 27 dX0_listsOf_29 f_X0_57 ⟨rfl, rfl⟩ rfl (by decide) ?_
            refine g_iload C dX0_listsOf_32 rfl ?_
            refine g_aald C 6 13 dX0_listsOf_34 ⟨rfl, by decide, by decide⟩ (by decide) rfl (by omega) ?_
            refine g_iload_n C dX0_listsOf_35 rfl ?_
            refine g_lald C 60 dX0_listsOf_36 ⟨rfl, rfl⟩ rfl (by omega) ?_
            rw [e6]
            refine g_aload_n C dX0_listsOf_37 rfl ?_
            refine g_getR C 28 dX0_listsOf_38 f_X0_60 ⟨rfl, rfl⟩ rfl (by decide) ?_
            refine g_iload_n C dX0_listsOf_41 rfl ?_
            refine g_iload C dX0_listsOf_42 rfl ?_
            refine g_isub C dX0_listsOf_44 ?_
            refine g_lald C 13 dX0_listsOf_45 ⟨rfl, rfl⟩ rfl (by omega) ?_
            rw [hS (a - u) (by omega) (by omega)]
            refine g_lmul C dX0_listsOf_46 ?_
            refine g_ladd C dX0_listsOf_47 ?_
            obtain ⟨x, ex⟩ : ∃ x, x = M 6 u q * kLf (M 6) q (a - u) := ⟨_, rfl⟩
            have hm := kMul_b (hb u (by omega) (by omega)) (LB (a - u) (by omega) (by omega))
            rw [← ex] at hm ⊢
            unfold kHd at hacc
            refine g_callSl C dX0_listsOf_48 s_X0_232 (m_X0_held (h := 1) (by omega) hI (acc + x) M1 (by omega) (fun _ _ q => q)) rfl rfl (Nat.le_of_ble_eq_true rfl) (by omega) ?_
            rintro z M' ⟨rfl, rfl⟩
            refine g_lst_4 C dX0_listsOf_51 (by decide) rfl ?_
            refine g_inc_6 C dX0_listsOf_53 (by decide) rfl ?_
            refine g_goto C 20 dX0_listsOf_56 (by decide) ?_
            have := ih3 (u + 1) h9 (by omega) (by omega) (by omega)
            rw [show u + 1 - 1 = u by omega, kCvo_1 (by omega), ← eacc, ← ex] at this
            exact this
      refine g_iload_n C dX0_listsOf_9 rfl ?_
      refine g_iload_n C dX0_listsOf_10 rfl ?_
      refine g_ic_gt C 73 dX0_listsOf_11 (by decide) (by omega) (fun c_11 => ?_) (fun c_11 => ?_)
      · refine g_aload_n C dX0_listsOf_73 rfl ?_
        refine g_getR C 28 dX0_listsOf_74 f_X0_60 ⟨rfl, rfl⟩ rfl (by decide) ?_
        refine g_iload_n C dX0_listsOf_77 rfl ?_
        refine g_lald C 13 dX0_listsOf_78 ⟨rfl, rfl⟩ rfl (by omega) ?_
        rw [hS sz (by omega) (by omega)]
        exact g_lret C dX0_listsOf_79 (hp _ _ ⟨hs, rfl⟩)
      · refine g_lconst C (0) dX0_listsOf_14 (by decide) ?_
        refine g_lst_4 C dX0_listsOf_15 (by decide) rfl ?_
        refine g_iconst C dX0_listsOf_17 ?_
        refine g_ist_6 C dX0_listsOf_18 (by decide) rfl ?_
        have := INNER (a + 2).toNat 1 (by omega) (by omega) (by omega) (by omega)
        exact this
  refine g_aload_n C dX0_listsOf_0 rfl ?_
  refine g_getR C 28 dX0_listsOf_1 f_X0_60 ⟨rfl, rfl⟩ rfl (by decide) ?_
  refine g_iconst C dX0_listsOf_4 ?_
  refine g_lconst C (1) dX0_listsOf_5 (by decide) ?_
  refine g_last C 13 dX0_listsOf_6 ⟨rfl, rfl⟩ rfl (by omega) ?_
  refine g_iconst C dX0_listsOf_7 ?_
  refine g_istn_3 C dX0_listsOf_8 (by decide) rfl ?_
  refine L (sz + 2).toNat 1 _ _ _ _ (by omega) (by omega) (by omega) (fun t ht => kUp_t ht) (fun x x1 x2 => ?_)
  rw [show x = 0 by omega, kUp_eq]; rfl
theorem m_X0_recordsOf (hh : 2 ≤ h) (hI : kInj w) (i sz : Int) (M : KM) (hN : kWF (kXnet M)) (hi : 0 ≤ i ∧ i < M 7 0 1) (hsz : 0 ≤ sz ∧ sz ≤ 12) (hb : ∀ u j : Int, 1 ≤ u → u ≤ sz → kRn (kXnet M) j → kHd (M 6 u j)) (hp : ∀ z M', (∀ t, t ≠ 28 → M' t = M t) ∧ z = kRt2 (kXnet M) (M 6) i 8 sz → post z M') : kMet l w yX0_recordsOf cX0_recordsOf 8 (some .long) 2 h [vR 7 0, vR 1 i, vI sz] M post := by
  obtain ⟨hn, -, hpt, -, -⟩ := kXwf hN
  refine kMet_of [vR 7 0, vR 1 i, vI sz, vN, vN, vN, vN, vN] (by decide) hI rfl rfl (Nat.le_of_ble_eq_true rfl) ?_
  intro p e s m args below meth c C hVok
  have RB : ∀ (c9 : Nat) x, c9 ≤ 8 → 0 ≤ x → x ≤ sz → kHd (kRt2 (kXnet M) (M 6) i c9 x) := fun c9 x h0 h1 h2 => kRt2_b hN hi hb c9 x h0 h1 h2
  have LET : ∀ (n : Nat) (c9 : Int) (x4 x5 x6 x7 : KV) (M1 : KM), 0 ≤ c9 → c9 ≤ 8 → 9 ≤ c9 + n → (∀ t, t ≠ 28 → M1 t = M t) → (∀ x, 0 ≤ x → x ≤ sz → M1 28 0 x = kRt2 (kXnet M) (M 6) i c9.toNat x) → kG p l e h s m args below meth c w 8 2 post 30 [vR 7 0, vR 1 i, vI sz, vI c9, x4, x5, x6, x7] [] (M1) := by
    intro n
    induction n with
    | zero => intro c9 x4 x5 x6 x7 M1 h1 h2 h3; omega
    | succ n ih =>
      intro c9 x4 x5 x6 x7 M1 h1 h2 h3 hs hS
      have EP : c9 < 8 → (kXnet M).2.2 i c9 = M 2 i c9 := fun h8 => kXnet_p hi ⟨h1, h8⟩
      have DOWN : M 2 i c9 ≠ -6 → ∀ (n2 : Nat) (a : Int) (x5 x6 x7 : KV) (M2 : KM), c9 < 8 → -1 ≤ a → a ≤ sz → a + 2 ≤ n2 → (∀ t, t ≠ 28 → M2 t = M t) → (∀ x, a < x → x ≤ sz → M2 28 0 x = kRt2 (kXnet M) (M 6) i (c9 + 1).toNat x) → (∀ x, 0 ≤ x → x ≤ a → M2 28 0 x = kRt2 (kXnet M) (M 6) i c9.toNat x) → kG p l e h s m args below meth c w 8 2 post 39 [vR 7 0, vR 1 i, vI sz, vI c9, vI a, x5, x6, x7] [] (M2) := by
        intro hne n2
        induction n2 with
        | zero => intro a x5 x6 x7 M2 h9 a1 a2 a3; omega
        | succ n2 ih2 =>
          intro a x5 x6 x7 M2 h9 a1 a2 a3 hs2 hU hD
          have e6 : M2 6 = M 6 := hs2 6 (by decide)
          have e2 : M2 2 = M 2 := hs2 2 (by decide)
          have pp : 0 ≤ M 2 i c9 ∧ M 2 i c9 < M 7 0 1 := by
            have := hpt i c9 hi.1 hi.2 h1 h9
            omega
          have INNER : ∀ (n3 : Nat) (u : Int), 0 ≤ a → 1 ≤ u → u ≤ a + 1 → a + 2 ≤ u + n3 → kG p l e h s m args below meth c w 8 2 post 58 [vR 7 0, vR 1 i, vI sz, vI c9, vI a, vL (kCvo (M 6) (M 2 i c9) (kRt2 (kXnet M) (M 6) i c9.toNat) a (u - 1).toNat), vN, vI u] [] (M2) := by
            intro n3
            induction n3 with
            | zero => intro u h9 u1 u2 u3; omega
            | succ n3 ih3 =>
              intro u ha0 u1 u2 u3
              have hacc := kCvo_b (T := M 6) (q := M 2 i c9) (S := kRt2 (kXnet M) (M 6) i c9.toNat) (s := a) (u - 1).toNat (fun v v1 v2 => ⟨hb v _ v1 (by omega) pp, RB c9.toNat (a - v) (by omega) (by omega) (by omega)⟩)
              obtain ⟨acc, eacc⟩ : ∃ acc, acc = kCvo (M 6) (M 2 i c9) (kRt2 (kXnet M) (M 6) i c9.toNat) a (u - 1).toNat := ⟨_, rfl⟩
              rw [← eacc] at hacc ⊢
              refine g_iload C dX0_recordsOf_58 rfl ?_
              refine g_iload C dX0_recordsOf_60 rfl ?_
              refine g_ic_gt C 104 dX0_recordsOf_62 (by decide) (by omega) (fun c_62 => ?_) (fun c_62 => ?_)
              · refine g_aload_n C dX0_recordsOf_104 rfl ?_
                refine g_getR C 28 dX0_recordsOf_105 f_X0_60 ⟨rfl, rfl⟩ rfl (by decide) ?_
                refine g_iload C dX0_recordsOf_108 rfl ?_
                refine g_lload C dX0_recordsOf_110 rfl ?_
                refine g_last C 13 dX0_recordsOf_112 ⟨rfl, rfl⟩ rfl (by omega) ?_
                refine g_inc_4 C dX0_recordsOf_113 (by decide) rfl ?_
                refine g_goto C 39 dX0_recordsOf_116 (by decide) ?_
                refine ih2 (a + -1) _ _ _ _ h9 (by omega) (by omega) (by omega) (fun t ht => by rw [kUp_t ht]; exact hs2 t ht) (fun x x1 x2 => ?_) (fun x x1 x2 => ?_)
                · by_cases q9 : x = a
                  · subst q9
                    rw [kUp_eq, eacc, kRt2_1 h1, EP h9, if_neg hne, show u - 1 = x by omega]
                  · rw [kUp_nk q9]; exact hU x (by omega) x2
                · rw [kUp_nk (by omega)]; exact hD x x1 (by omega)
              · refine g_lload C dX0_recordsOf_65 rfl ?_
                refine g_aload_n C dX0_recordsOf_67 rfl ?_
                refine g_getR C 27 dX0_recordsOf_68 f_X0_57 ⟨rfl, rfl⟩ rfl (by decide) ?_
                refine g_iload C dX0_recordsOf_71 rfl ?_
                refine g_aald C 6 13 dX0_recordsOf_73 ⟨rfl, by decide, by decide⟩ (by decide) rfl (by omega) ?_
                refine g_aload_n C dX0_recordsOf_74 rfl ?_
                refine g_getR C 2 dX0_recordsOf_75 f_X0_113 ⟨rfl, rfl⟩ rfl (by decide) ?_
                refine g_iload_n C dX0_recordsOf_78 rfl ?_
                refine g_iald C 8 dX0_recordsOf_79 ⟨rfl, rfl⟩ rfl (by omega) (fun r_79 => ?_)
                rw [e2] at r_79 ⊢
                refine g_lald C 60 dX0_recordsOf_80 ⟨rfl, rfl⟩ rfl (by omega) ?_
                rw [e6]
                refine g_aload_n C dX0_recordsOf_81 rfl ?_
                refine g_getR C 28 dX0_recordsOf_82 f_X0_60 ⟨rfl, rfl⟩ rfl (by decide) ?_
                refine g_iload C dX0_recordsOf_85 rfl ?_
                refine g_iload C dX0_recordsOf_87 rfl ?_
                refine g_isub C dX0_recordsOf_89 ?_
                refine g_lald C 13 dX0_recordsOf_90 ⟨rfl, rfl⟩ rfl (by omega) ?_
                rw [hD (a - u) (by omega) (by omega)]
                refine g_lmul C dX0_recordsOf_91 ?_
                refine g_ladd C dX0_recordsOf_92 ?_
                obtain ⟨x, ex⟩ : ∃ x, x = M 6 u (M 2 i c9) * kRt2 (kXnet M) (M 6) i c9.toNat (a - u) := ⟨_, rfl⟩
                have hm := kMul_b (hb u _ (by omega) (by omega) pp) (RB c9.toNat (a - u) (by omega) (by omega) (by omega))
                rw [← ex] at hm ⊢
                unfold kHd at hacc
                refine g_callSl C dX0_recordsOf_93 s_X0_232 (m_X0_held (h := 1) (by omega) hI (acc + x) M2 (by omega) (fun _ _ q => q)) rfl rfl (Nat.le_of_ble_eq_true rfl) (by omega) ?_
                rintro z M' ⟨rfl, rfl⟩
                refine g_lst_5 C dX0_recordsOf_96 (by decide) rfl ?_
                refine g_inc_7 C dX0_recordsOf_98 (by decide) rfl ?_
                refine g_goto C 58 dX0_recordsOf_101 (by decide) ?_
                have := ih3 (u + 1) ha0 (by omega) (by omega) (by omega)
                rw [show u + 1 - 1 = u by omega, kCvo_1 (by omega), ← eacc, ← ex] at this
                exact this
          refine g_iload C dX0_recordsOf_39 rfl ?_
          refine g_if_lt C 119 dX0_recordsOf_41 (by decide) (by omega) (fun c_41 => ?_) (fun c_41 => ?_)
          · refine g_inc_3 C dX0_recordsOf_119 (by decide) rfl ?_
            refine g_goto C 30 dX0_recordsOf_122 (by decide) ?_
            exact ih (c9 + 1) _ _ _ _ M2 (by omega) (by omega) (by omega) hs2 (fun x x1 x2 => hU x (by omega) x2)
          · refine g_aload_n C dX0_recordsOf_44 rfl ?_
            refine g_iload_n C dX0_recordsOf_45 rfl ?_
            refine g_callVi C dX0_recordsOf_46 v_X0_148 (m_X2_has (h := 1) hI i c9 M2 (by omega) (fun _ _ q => q)) ⟨rfl, rfl⟩ rfl rfl (Nat.le_of_ble_eq_true rfl) (by omega) ?_
            rintro z M' ⟨hz, rfl⟩
            rw [e2] at hz
            obtain rfl : z = 1 := by omega
            refine g_if_eq C 119 dX0_recordsOf_49 (by decide) (by omega) (fun c_49 => ?_) (fun c_49 => ?_)
            · omega
            · refine g_lconst C (0) dX0_recordsOf_52 (by decide) ?_
              refine g_lst_5 C dX0_recordsOf_53 (by decide) rfl ?_
              refine g_iconst C dX0_recordsOf_55 ?_
              refine g_ist_7 C dX0_recordsOf_56 (by decide) rfl ?_
              have := INNER (a + 2).toNat 1 (by omega) (by omega) (by omega) (by omega)
              exact this
      have e2 : M1 2 = M 2 := hs 2 (by decide)
      refine g_iload_n C dX0_recordsOf_30 rfl ?_
      refine g_bipush C dX0_recordsOf_31 (by decide) ?_
      refine g_ic_ge C 125 dX0_recordsOf_33 (by decide) (by omega) (fun c_33 => ?_) (fun c_33 => ?_)
      · refine g_aload_n C dX0_recordsOf_125 rfl ?_
        refine g_getR C 28 dX0_recordsOf_126 f_X0_60 ⟨rfl, rfl⟩ rfl (by decide) ?_
        refine g_iload_n C dX0_recordsOf_129 rfl ?_
        refine g_lald C 13 dX0_recordsOf_130 ⟨rfl, rfl⟩ rfl (by omega) ?_
        rw [hS sz (by omega) (by omega), show c9 = 8 by omega]
        exact g_lret C dX0_recordsOf_131 (hp _ _ ⟨hs, rfl⟩)
      · refine g_iload_n C dX0_recordsOf_36 rfl ?_
        refine g_ist_4 C dX0_recordsOf_37 (by decide) rfl ?_
        by_cases hne : M 2 i c9 = -6
        · refine g_iload C dX0_recordsOf_39 rfl ?_
          refine g_if_lt C 119 dX0_recordsOf_41 (by decide) (by omega) (fun c_41 => by omega) (fun c_41 => ?_)
          refine g_aload_n C dX0_recordsOf_44 rfl ?_
          refine g_iload_n C dX0_recordsOf_45 rfl ?_
          refine g_callVi C dX0_recordsOf_46 v_X0_148 (m_X2_has (h := 1) hI i c9 M1 (by omega) (fun _ _ q => q)) ⟨rfl, rfl⟩ rfl rfl (Nat.le_of_ble_eq_true rfl) (by omega) ?_
          rintro z M' ⟨hz, rfl⟩
          rw [e2] at hz
          obtain rfl : z = 0 := by omega
          refine g_if_eq C 119 dX0_recordsOf_49 (by decide) (by omega) (fun c_49 => ?_) (fun c_49 => by omega)
          refine g_inc_3 C dX0_recordsOf_119 (by decide) rfl ?_
          refine g_goto C 30 dX0_recordsOf_122 (by decide) ?_
          refine ih (c9 + 1) _ _ _ _ M1 (by omega) (by omega) (by omega) hs (fun x x1 x2 => ?_)
          rw [hS x x1 x2, kRt2_1 h1, EP (by omega), if_pos hne]
        · exact DOWN hne (sz + 2).toNat sz _ _ _ M1 (by omega) (by omega) (by omega) (by omega) hs (fun x x1 x2 => by omega) (fun x x1 x2 => hS x x1 x2)
  have INI : ∀ (n : Nat) (a : Int) (M1 : KM), 0 ≤ a → a ≤ sz + 1 → sz + 2 ≤ a + n → (∀ t, t ≠ 28 → M1 t = M t) → (∀ x, 0 ≤ x → x < a → M1 28 0 x = if x = 0 then 1 else 0) → kG p l e h s m args below meth c w 8 2 post 2 [vR 7 0, vR 1 i, vI sz, vI a, vN, vN, vN, vN] [] (M1) := by
    intro n
    induction n with
    | zero => intro a M1 h1 h2 h3; omega
    | succ n ih =>
      intro a M1 h1 h2 h3 hs hS
      have nxt : ∀ v, a ≤ sz → v = (if a = 0 then 1 else 0) → kG p l e h s m args below meth c w 8 2 post 2 [vR 7 0, vR 1 i, vI sz, vI (a + 1), vN, vN, vN, vN] [] (kUp M1 28 0 a v) := by
        intro v hlt hv
        refine ih (a + 1) _ (by omega) (by omega) (by omega) (fun t ht => by rw [kUp_t ht]; exact hs t ht) (fun x x1 x2 => ?_)
        by_cases q : x = a
        · subst q; rw [kUp_eq]; exact hv
        · rw [kUp_nk q]; exact hS x x1 (by omega)
      refine g_iload_n C dX0_recordsOf_2 rfl ?_
      refine g_iload_n C dX0_recordsOf_3 rfl ?_
      refine g_ic_gt C 28 dX0_recordsOf_4 (by decide) (by omega) (fun c_4 => ?_) (fun c_4 => ?_)
      · refine g_iconst C dX0_recordsOf_28 ?_
        refine g_istn_3 C dX0_recordsOf_29 (by decide) rfl ?_
        exact LET 9 0 _ _ _ _ M1 (by omega) (by omega) (by omega) hs (fun x x1 x2 => hS x x1 (by omega))
      · refine g_aload_n C dX0_recordsOf_7 rfl ?_
        refine g_getR C 28 dX0_recordsOf_8 f_X0_60 ⟨rfl, rfl⟩ rfl (by decide) ?_
        refine g_iload_n C dX0_recordsOf_11 rfl ?_
        refine g_iload_n C dX0_recordsOf_12 rfl ?_
        refine g_if_ne C 20 dX0_recordsOf_13 (by decide) (by omega) (fun c_13 => ?_) (fun c_13 => ?_)
        · refine g_lconst C (0) dX0_recordsOf_20 (by decide) ?_
          refine g_last C 13 dX0_recordsOf_21 ⟨rfl, rfl⟩ rfl (by omega) ?_
          refine g_inc_3 C dX0_recordsOf_22 (by decide) rfl ?_
          refine g_goto C 2 dX0_recordsOf_25 (by decide) ?_
          first
          | exact nxt 1 (by omega) (by rw [if_pos (by assumption)])
          | exact nxt 0 (by omega) (by rw [if_neg (by assumption)])
        · refine g_lconst C (1) dX0_recordsOf_16 (by decide) ?_
          refine g_goto C 21 dX0_recordsOf_17 (by decide) ?_
          refine g_last C 13 dX0_recordsOf_21 ⟨rfl, rfl⟩ rfl (by omega) ?_
          refine g_inc_3 C dX0_recordsOf_22 (by decide) rfl ?_
          refine g_goto C 2 dX0_recordsOf_25 (by decide) ?_
          first
          | exact nxt 1 (by omega) (by rw [if_pos (by assumption)])
          | exact nxt 0 (by omega) (by rw [if_neg (by assumption)])
  refine g_iconst C dX0_recordsOf_0 ?_
  refine g_istn_3 C dX0_recordsOf_1 (by decide) rfl ?_
  exact INI (sz + 2).toNat 0 M (by omega) (by omega) (by omega) (fun _ _ => rfl) (fun x x1 x2 => by omega)
theorem m_X0_countOf (hh : 3 ≤ h) (hI : kInj w) (i sz : Int) (M : KM) (hN : kWF (kXnet M)) (hi : 0 ≤ i ∧ i < M 7 0 1) (hsz : 1 ≤ sz ∧ sz ≤ 12) (hb : ∀ u j : Int, 1 ≤ u → u < sz → kRn (kXnet M) j → kHd (M 6 u j)) (hp : ∀ z M', (∀ t, t ≠ 28 → M' t = M t) ∧ z = kCt (kXnet M) (M 6) sz i → post z M') : kMet l w yX0_countOf cX0_countOf 6 (some .long) 2 h [vR 7 0, vR 1 i, vI sz] M post := by
  obtain ⟨hn, -, hpt, hl, -⟩ := kXwf hN
  have E : kCt (kXnet M) (M 6) sz i = if M 1 i 0 = 123 then kRt2 (kXnet M) (M 6) i 8 (sz - 1) else if M 1 i 0 = 42 then kLf (M 6) (M 2 i 0) (sz - 1) else if M 1 i 0 = 91 then (if sz = 1 then 0 else min 1000000000 (kCh (kXnet M) (M 6) i (sz - 1) 8)) else if sz = 1 then (if M 1 i 0 = 110 then 10 else if M 1 i 0 = 116 then 2 else if M 1 i 0 = 115 then 26 else 0) else 0 := by
    unfold kCt
    rw [kXnet_s hi, kXnet_p hi (by omega)]
  have SAME : ∀ t : Nat, t ≠ 28 → M t = M t := fun _ _ => rfl
  refine kMet_of [vR 7 0, vR 1 i, vI sz, vN, vN, vN] (by decide) hI rfl rfl (Nat.le_of_ble_eq_true rfl) ?_
  intro p e s m args below meth c C hVok
  have CHO : M 1 i 0 = 91 → ∀ (n : Nat) (c9 : Int), 0 ≤ c9 → c9 ≤ 8 → 9 ≤ c9 + n → (sz = 1 → c9 = 0) → kG p l e h s m args below meth c w 6 2 post 131 [vR 7 0, vR 1 i, vI sz, vL (min 1000000000 (if sz = 1 then 0 else kCh (kXnet M) (M 6) i (sz - 1) c9.toNat)), vN, vI c9] [] (M) := by
    intro h91 n
    induction n with
    | zero => intro c9 h1 h2 h3; omega
    | succ n ih =>
      intro c9 h1 h2 h3 h4
      have cb : sz ≠ 1 → 0 ≤ kCh (kXnet M) (M 6) i (sz - 1) c9.toNat := fun q => (kCh_b hN hi (fun j hj => hb (sz - 1) j (by omega) (by omega) hj) c9.toNat (by omega)).1
      have EP : c9 < 8 → (kXnet M).2.2 i c9 = M 2 i c9 := fun h8 => kXnet_p hi ⟨h1, h8⟩
      have nxt : ∀ v z, c9 < 8 → sz ≠ 1 → v = (if M 2 i c9 = -6 then 0 else M 6 (sz - 1) (M 2 i c9)) → 0 ≤ v → z = min 1000000000 (min 1000000000 (kCh (kXnet M) (M 6) i (sz - 1) c9.toNat) + v) → kG p l e h s m args below meth c w 6 2 post 131 [vR 7 0, vR 1 i, vI sz, vL z, vN, vI (c9 + 1)] [] (M) := by
        intro v z h8 hne hv hv0 hz
        have := ih (c9 + 1) (by omega) (by omega) (by omega) (fun q => absurd q hne)
        rw [if_neg hne, kCh_1 h1, EP h8, ← hv] at this
        have := cb hne
        rw [show z = min 1000000000 (kCh (kXnet M) (M 6) i (sz - 1) c9.toNat + v) by omega]
        assumption
      have fin : (8 ≤ c9 ∨ sz ≤ 1) → min 1000000000 (if sz = 1 then 0 else kCh (kXnet M) (M 6) i (sz - 1) c9.toNat) = kCt (kXnet M) (M 6) sz i := by
        intro q
        rw [E, if_neg (show ¬ M 1 i 0 = 123 by omega), if_neg (show ¬ M 1 i 0 = 42 by omega), if_pos h91]
        by_cases q1 : sz = 1
        · rw [if_pos q1, if_pos q1]; omega
        · rw [if_neg q1, if_neg q1, show c9 = 8 by omega]; rfl
      refine g_iload C dX0_countOf_131 rfl ?_
      refine g_bipush C dX0_countOf_133 (by decide) ?_
      refine g_ic_ge C 184 dX0_countOf_135 (by decide) (by omega) (fun c_135 => ?_) (fun c_135 => ?_)
      · refine g_lload_n C dX0_countOf_184 rfl ?_
        exact g_lret C dX0_countOf_185 (hp _ _ ⟨SAME, fin (by omega)⟩)
      · refine g_iload_n C dX0_countOf_138 rfl ?_
        refine g_iconst C dX0_countOf_139 ?_
        refine g_ic_le C 184 dX0_countOf_140 (by decide) (by omega) (fun c_140 => ?_) (fun c_140 => ?_)
        · refine g_lload_n C dX0_countOf_184 rfl ?_
          exact g_lret C dX0_countOf_185 (hp _ _ ⟨SAME, fin (by omega)⟩)
        · rw [if_neg (by omega)]
          have cb := cb (by omega)
          refine g_lload_n C dX0_countOf_143 rfl ?_
          refine g_aload_n C dX0_countOf_144 rfl ?_
          refine g_iload C dX0_countOf_145 rfl ?_
          refine g_callVi C dX0_countOf_147 v_X0_148 (m_X2_has (h := 1) hI i c9 M (by omega) (fun _ _ q => q)) ⟨rfl, rfl⟩ rfl rfl (Nat.le_of_ble_eq_true rfl) (by omega) ?_
          rintro z M' ⟨⟨hz, rfl⟩ | ⟨hz, rfl⟩, rfl⟩
          · refine g_if_eq C 172 dX0_countOf_150 (by decide) (by omega) (fun c_150 => ?_) (fun c_150 => ?_)
            · omega
            · have pp : 0 ≤ M 2 i c9 ∧ M 2 i c9 < M 7 0 1 := by
                have := hpt i c9 hi.1 hi.2 h1 (by omega)
                omega
              have hv := hb (sz - 1) (M 2 i c9) (by omega) (by omega) pp
              unfold kHd at hv
              refine g_aload_n C dX0_countOf_153 rfl ?_
              refine g_getR C 27 dX0_countOf_154 f_X0_57 ⟨rfl, rfl⟩ rfl (by decide) ?_
              refine g_iload_n C dX0_countOf_157 rfl ?_
              refine g_iconst C dX0_countOf_158 ?_
              refine g_isub C dX0_countOf_159 ?_
              refine g_aald C 6 13 dX0_countOf_160 ⟨rfl, by decide, by decide⟩ (by decide) rfl (by omega) ?_
              refine g_aload_n C dX0_countOf_161 rfl ?_
              refine g_getR C 2 dX0_countOf_162 f_X0_113 ⟨rfl, rfl⟩ rfl (by decide) ?_
              refine g_iload C dX0_countOf_165 rfl ?_
              refine g_iald C 8 dX0_countOf_167 ⟨rfl, rfl⟩ rfl (by omega) (fun r_167 => ?_)
              refine g_lald C 60 dX0_countOf_168 ⟨rfl, rfl⟩ rfl (by omega) ?_
              refine g_goto C 173 dX0_countOf_169 (by decide) ?_
              refine g_ladd C dX0_countOf_173 ?_
              refine g_callSl C dX0_countOf_174 s_X0_232 (m_X0_held (h := 1) (by omega) hI _ M (by omega) (fun _ _ q => q)) rfl rfl (Nat.le_of_ble_eq_true rfl) (by omega) ?_
              rintro z2 M' ⟨hz2, rfl⟩
              refine g_lstn_3 C dX0_countOf_177 (by decide) rfl ?_
              refine g_inc_5 C dX0_countOf_178 (by decide) rfl ?_
              refine g_goto C 131 dX0_countOf_181 (by decide) ?_
              exact nxt (M 6 (sz - 1) (M 2 i c9)) _ (by omega) (by omega) (by rw [if_neg hz]) (by omega) hz2
          · refine g_if_eq C 172 dX0_countOf_150 (by decide) (by omega) (fun c_150 => ?_) (fun c_150 => ?_)
            · refine g_lconst C (0) dX0_countOf_172 (by decide) ?_
              refine g_ladd C dX0_countOf_173 ?_
              refine g_callSl C dX0_countOf_174 s_X0_232 (m_X0_held (h := 1) (by omega) hI _ M (by omega) (fun _ _ q => q)) rfl rfl (Nat.le_of_ble_eq_true rfl) (by omega) ?_
              rintro z2 M' ⟨hz2, rfl⟩
              refine g_lstn_3 C dX0_countOf_177 (by decide) rfl ?_
              refine g_inc_5 C dX0_countOf_178 (by decide) rfl ?_
              refine g_goto C 131 dX0_countOf_181 (by decide) ?_
              exact nxt 0 _ (by omega) (by omega) (by rw [if_pos hz]) (by omega) hz2
            · omega
  refine g_aload_n C dX0_countOf_0 rfl ?_
  refine g_getI C 0 dX0_countOf_1 f_X0_101 ⟨rfl, rfl⟩ rfl rfl (fun r_1 => ?_)
  have sw_4 : ((M 1 i 0 ≠ 42 ∧ M 1 i 0 ≠ 91 ∧ M 1 i 0 ≠ 110 ∧ M 1 i 0 ≠ 115 ∧ M 1 i 0 ≠ 116 ∧ M 1 i 0 ≠ 123)) ∨ (M 1 i 0 = 42) ∨ (M 1 i 0 = 91) ∨ (M 1 i 0 = 110) ∨ (M 1 i 0 = 115) ∨ (M 1 i 0 = 116) ∨ (M 1 i 0 = 123) := by omega
  rcases sw_4 with c_4 | c_4 | c_4 | c_4 | c_4 | c_4 | c_4
  · refine g_look C (off := 182) 186 dX0_countOf_4 (by decide) (by omega) (show Op.lookupswitch.offset [(42, 108), (91, 122), (110, 60), (115, 86), (116, 73), (123, 99)] 182 (M 1 i 0) = 182 by simp only [Op.lookupswitch.offset_cons, Op.lookupswitch.offset_nil]; repeat rw [if_neg (by omega)]) (by decide) ?_
    refine g_lconst C (0) dX0_countOf_186 (by decide) ?_
    exact g_lret C dX0_countOf_187 (hp _ _ ⟨SAME, by rw [E, if_neg (show ¬ M 1 i 0 = 123 by omega), if_neg (show ¬ M 1 i 0 = 42 by omega), if_neg (show ¬ M 1 i 0 = 91 by omega), if_neg (show ¬ M 1 i 0 = 110 by omega), if_neg (show ¬ M 1 i 0 = 116 by omega), if_neg (show ¬ M 1 i 0 = 115 by omega)]; split <;> rfl⟩)
  · refine g_look C (off := 108) 112 dX0_countOf_4 (by decide) (by omega) (by rw [c_4]; rfl) (by decide) ?_
    refine g_aload_n C dX0_countOf_112 rfl ?_
    refine g_aload_n C dX0_countOf_113 rfl ?_
    refine g_getR C 2 dX0_countOf_114 f_X0_113 ⟨rfl, rfl⟩ rfl (by decide) ?_
    refine g_iconst C dX0_countOf_117 ?_
    refine g_iald C 8 dX0_countOf_118 ⟨rfl, rfl⟩ rfl (by omega) (fun r_118 => ?_)
    have pp := hpt i 0 hi.1 hi.2 (by omega) (by omega)
    have p2 := (hl i hi.1 hi.2 (by assumption)).1
    refine g_iload_n C dX0_countOf_119 rfl ?_
    refine g_iconst C dX0_countOf_120 ?_
    refine g_isub C dX0_countOf_121 ?_
    refine g_callVl C dX0_countOf_122 v_X0_245 (m_X0_listsOf (h := 2) (by omega) hI (M 2 i 0) (sz - 1) M (by omega) (by omega) (fun u u1 u2 => hb u _ u1 (by omega) (by rw [kRn, kXnet_n]; omega)) (fun _ _ q => q)) ⟨rfl, rfl⟩ rfl rfl (Nat.le_of_ble_eq_true rfl) (by omega) ?_
    rintro z M1 ⟨hs, hz⟩
    exact g_lret C dX0_countOf_125 (hp _ _ ⟨hs, by rw [E, if_neg (by omega), if_pos (by omega)]; exact hz⟩)
  · refine g_look C (off := 122) 126 dX0_countOf_4 (by decide) (by omega) (by rw [c_4]; rfl) (by decide) ?_
    refine g_lconst C (0) dX0_countOf_126 (by decide) ?_
    refine g_lstn_3 C dX0_countOf_127 (by decide) rfl ?_
    refine g_iconst C dX0_countOf_128 ?_
    refine g_ist_5 C dX0_countOf_129 (by decide) rfl ?_
    have := CHO (by assumption) 9 0 (by omega) (by omega) (by omega) (fun _ => rfl)
    have e0 : min 1000000000 (if sz = 1 then (0 : Int) else kCh (kXnet M) (M 6) i (sz - 1) (0 : Int).toNat) = 0 := by
      rw [show kCh (kXnet M) (M 6) i (sz - 1) (0 : Int).toNat = 0 from rfl]
      split <;> rfl
    rw [e0] at this
    exact this
  · refine g_look C (off := 60) 64 dX0_countOf_4 (by decide) (by omega) (by rw [c_4]; rfl) (by decide) ?_
    refine g_iload_n C dX0_countOf_64 rfl ?_
    refine g_iconst C dX0_countOf_65 ?_
    refine g_ic_ne C 75 dX0_countOf_66 (by decide) (by omega) (fun c_66 => ?_) (fun c_66 => ?_)
    · refine g_lconst C (0) dX0_countOf_75 (by decide) ?_
      exact g_lret C dX0_countOf_76 (hp _ _ ⟨SAME, by rw [E, if_neg (by omega), if_neg (by omega), if_neg (by omega)]; first | rw [if_pos (by assumption), if_pos (by assumption)] | rw [if_neg (by assumption)]⟩)
    · refine g_ldc2 C (10) q467 dX0_countOf_69 (by decide) ?_
      refine g_goto C 76 dX0_countOf_72 (by decide) ?_
      exact g_lret C dX0_countOf_76 (hp _ _ ⟨SAME, by rw [E, if_neg (by omega), if_neg (by omega), if_neg (by omega)]; first | rw [if_pos (by assumption), if_pos (by assumption)] | rw [if_neg (by assumption)]⟩)
  · refine g_look C (off := 86) 90 dX0_countOf_4 (by decide) (by omega) (by rw [c_4]; rfl) (by decide) ?_
    refine g_iload_n C dX0_countOf_90 rfl ?_
    refine g_iconst C dX0_countOf_91 ?_
    refine g_ic_ne C 101 dX0_countOf_92 (by decide) (by omega) (fun c_92 => ?_) (fun c_92 => ?_)
    · refine g_lconst C (0) dX0_countOf_101 (by decide) ?_
      exact g_lret C dX0_countOf_102 (hp _ _ ⟨SAME, by rw [E, if_neg (by omega), if_neg (by omega), if_neg (by omega)]; first | rw [if_pos (by assumption), if_neg (by omega), if_neg (by omega), if_pos (by assumption)] | rw [if_neg (by assumption)]⟩)
    · refine g_ldc2 C (26) q469 dX0_countOf_95 (by decide) ?_
      refine g_goto C 102 dX0_countOf_98 (by decide) ?_
      exact g_lret C dX0_countOf_102 (hp _ _ ⟨SAME, by rw [E, if_neg (by omega), if_neg (by omega), if_neg (by omega)]; first | rw [if_pos (by assumption), if_neg (by omega), if_neg (by omega), if_pos (by assumption)] | rw [if_neg (by assumption)]⟩)
  · refine g_look C (off := 73) 77 dX0_countOf_4 (by decide) (by omega) (by rw [c_4]; rfl) (by decide) ?_
    refine g_iload_n C dX0_countOf_77 rfl ?_
    refine g_iconst C dX0_countOf_78 ?_
    refine g_ic_ne C 88 dX0_countOf_79 (by decide) (by omega) (fun c_79 => ?_) (fun c_79 => ?_)
    · refine g_lconst C (0) dX0_countOf_88 (by decide) ?_
      exact g_lret C dX0_countOf_89 (hp _ _ ⟨SAME, by rw [E, if_neg (by omega), if_neg (by omega), if_neg (by omega)]; first | rw [if_pos (by assumption), if_neg (by omega), if_pos (by assumption)] | rw [if_neg (by assumption)]⟩)
    · refine g_ldc2 C (2) q468 dX0_countOf_82 (by decide) ?_
      refine g_goto C 89 dX0_countOf_85 (by decide) ?_
      exact g_lret C dX0_countOf_89 (hp _ _ ⟨SAME, by rw [E, if_neg (by omega), if_neg (by omega), if_neg (by omega)]; first | rw [if_pos (by assumption), if_neg (by omega), if_pos (by assumption)] | rw [if_neg (by assumption)]⟩)
  · refine g_look C (off := 99) 103 dX0_countOf_4 (by decide) (by omega) (by rw [c_4]; rfl) (by decide) ?_
    refine g_aload_n C dX0_countOf_103 rfl ?_
    refine g_aload_n C dX0_countOf_104 rfl ?_
    refine g_iload_n C dX0_countOf_105 rfl ?_
    refine g_iconst C dX0_countOf_106 ?_
    refine g_isub C dX0_countOf_107 ?_
    refine g_callVl C dX0_countOf_108 v_X0_241 (m_X0_recordsOf (h := 2) (by omega) hI i (sz - 1) M hN hi (by omega) (fun u j u1 u2 hj => hb u j u1 (by omega) hj) (fun _ _ q => q)) ⟨rfl, rfl⟩ rfl rfl (Nat.le_of_ble_eq_true rfl) (by omega) ?_
    rintro z M1 ⟨hs, hz⟩
    exact g_lret C dX0_countOf_111 (hp _ _ ⟨hs, by rw [E, if_pos (by omega)]; exact hz⟩)
theorem m_X0_count (hh : 4 ≤ h) (hI : kInj w) (i sz : Int) (M : KM) (hN : kWF (kXnet M)) (hi : -2147483648 ≤ i ∧ i < 2147483648) (hsz : -2147483648 ≤ sz ∧ sz < 2147483648) (hp : ∀ z M', (¬ kRn (kXnet M) i ∧ z = -1 ∧ M = M') ∨ (kRn (kXnet M) i ∧ ¬ (1 ≤ sz ∧ sz ≤ 12) ∧ z = -2 ∧ M = M') ∨ (kRn (kXnet M) i ∧ (1 ≤ sz ∧ sz ≤ 12) ∧ kCntA (kXnet M) i sz z ∧ ∀ t, t ≠ 6 → t ≠ 28 → M' t = M t) → post z M') : kMet l w yX0_count cX0_count 5 (some .int) 1 h [vR 7 0, vI i, vI sz] M post := by
  obtain ⟨hn, -, -, -, -⟩ := kXwf hN
  have er : kRn (kXnet M) i ↔ (0 ≤ i ∧ i < M 7 0 1) := Iff.rfl
  refine kMet_of [vR 7 0, vI i, vI sz, vN, vN] (by decide) hI rfl rfl (Nat.le_of_ble_eq_true rfl) ?_
  intro p e s m args below meth c C hVok
  have SZ : (0 ≤ i ∧ i < M 7 0 1) → (1 ≤ sz ∧ sz ≤ 12) → ∀ (n : Nat) (v : Int) (x4 : KV) (M1 : KM), 1 ≤ v → v ≤ sz + 1 → sz + 2 ≤ v + n → (∀ t, t ≠ 6 → t ≠ 28 → M1 t = M t) → kTw (kXnet M) (M1 6) v 0 → kG p l e h s m args below meth c w 5 1 post 27 [vR 7 0, vI i, vI sz, vI v, x4] [] (M1) := by
    intro hri hsr n
    induction n with
    | zero => intro v x4 M1 h1 h2 h3; omega
    | succ n ih =>
      intro v x4 M1 v1 v2 v3 hs hW
      have INNER : ∀ (n3 : Nat) (a : Int) (M2 : KM), v ≤ sz → 0 ≤ a → a ≤ M 7 0 1 → M 7 0 1 + 1 ≤ a + n3 → (∀ t, t ≠ 6 → t ≠ 28 → M2 t = M t) → kTw (kXnet M) (M2 6) v a → kG p l e h s m args below meth c w 5 1 post 35 [vR 7 0, vI i, vI sz, vI v, vI a] [] (M2) := by
        intro n3
        induction n3 with
        | zero => intro a M2 h9 h1 h2 h3; omega
        | succ n3 ih3 =>
          intro a M2 hv a1 a2 a3 hs2 hW2
          have e71 : M2 7 0 1 = M 7 0 1 := by rw [hs2 7 (by decide) (by decide)]
          have eN : kXnet M2 = kXnet M := kXnet_eq (hs2 1 (by decide) (by decide)) (hs2 2 (by decide) (by decide)) e71
          refine g_iload C dX0_count_35 rfl ?_
          refine g_aload_n C dX0_count_37 rfl ?_
          refine g_getI C 1 dX0_count_38 f_X0_94 ⟨rfl, rfl⟩ rfl rfl (fun r_38 => ?_)
          refine g_ic_ge C 71 dX0_count_41 (by decide) (by omega) (fun c_41 => ?_) (fun c_41 => ?_)
          · refine g_inc_3 C dX0_count_71 (by decide) rfl ?_
            refine g_goto C 27 dX0_count_74 (by decide) ?_
            exact ih (v + 1) _ M2 (by omega) (by omega) (by omega) hs2 (kTw_row (by rw [kXnet_n, show M 7 0 1 = a by omega]; exact hW2))
          · refine g_aload_n C dX0_count_44 rfl ?_
            refine g_getR C 27 dX0_count_45 f_X0_57 ⟨rfl, rfl⟩ rfl (by decide) ?_
            refine g_iload_n C dX0_count_48 rfl ?_
            refine g_aald C 6 13 dX0_count_49 ⟨rfl, by decide, by decide⟩ (by decide) rfl (by omega) ?_
            refine g_iload C dX0_count_50 rfl ?_
            refine g_aload_n C dX0_count_52 rfl ?_
            refine g_aload_n C dX0_count_53 rfl ?_
            refine g_getR C 8 dX0_count_54 f_X0_11 ⟨rfl, rfl⟩ rfl (by decide) ?_
            refine g_iload C dX0_count_57 rfl ?_
            refine g_aald C 1 60 dX0_count_59 ⟨rfl, by decide, by decide⟩ (by decide) rfl (by omega) ?_
            refine g_iload_n C dX0_count_60 rfl ?_
            refine g_callVl C dX0_count_61 v_X0_251 (m_X0_countOf (h := 3) (by omega) hI a v M2 (by rw [eN]; exact hN) (by omega) (by omega) (by rw [eN]; exact kTw_b hN hW2) (fun _ _ q => q)) ⟨rfl, rfl⟩ rfl rfl (Nat.le_of_ble_eq_true rfl) (by omega) ?_
            rintro z M3 ⟨hs3, hz⟩
            rw [eN] at hz
            refine g_last C 60 dX0_count_64 ⟨rfl, rfl⟩ rfl (by omega) ?_
            refine g_inc_4 C dX0_count_65 (by decide) rfl ?_
            refine g_goto C 35 dX0_count_68 (by decide) ?_
            refine ih3 (a + 1) _ hv (by omega) (by omega) (by omega) (fun t t1 t2 => by rw [kUp_t t1, hs3 t t2]; exact hs2 t t1 t2) (kTw_set hN hW2 (fun v' j h1 _ hj => ?_))
            rw [kUp_if, hz, hs3 6 (by decide)]
      refine g_iload_n C dX0_count_27 rfl ?_
      refine g_iload_n C dX0_count_28 rfl ?_
      refine g_ic_gt C 77 dX0_count_29 (by decide) (by omega) (fun c_29 => ?_) (fun c_29 => ?_)
      · refine g_aload_n C dX0_count_77 rfl ?_
        refine g_getR C 27 dX0_count_78 f_X0_57 ⟨rfl, rfl⟩ rfl (by decide) ?_
        refine g_iload_n C dX0_count_81 rfl ?_
        refine g_aald C 6 13 dX0_count_82 ⟨rfl, by decide, by decide⟩ (by decide) rfl (by omega) ?_
        refine g_iload_n C dX0_count_83 rfl ?_
        refine g_lald C 60 dX0_count_84 ⟨rfl, rfl⟩ rfl (by omega) ?_
        refine g_l2i C dX0_count_85 ?_
        exact g_iret C dX0_count_86 (hp _ _ (Or.inr (Or.inr ⟨hri, hsr, ⟨M1 6, fun q j q1 q2 hj => hW q j q1 hj (Or.inl (by omega)), rfl⟩, hs⟩)))
      · refine g_iconst C dX0_count_32 ?_
        refine g_ist_4 C dX0_count_33 (by decide) rfl ?_
        exact INNER ((M 7 0 1).toNat + 1) 0 M1 (by omega) (by omega) (by omega) (by omega) hs hW
  refine g_aload_n C dX0_count_0 rfl ?_
  refine g_iload_n C dX0_count_1 rfl ?_
  refine g_callVi C dX0_count_2 v_X0_132 (m_X0_isNode (h := 2) (by omega) hI i M (by omega) hn (fun _ _ q => q)) ⟨rfl, rfl⟩ rfl rfl (Nat.le_of_ble_eq_true rfl) (by omega) ?_
  rintro z M' ⟨hz, rfl⟩
  refine g_if_ne C 10 dX0_count_5 (by decide) (by omega) (fun c_5 => ?_) (fun c_5 => ?_)
  · refine g_iload_n C dX0_count_10 rfl ?_
    refine g_i2l C dX0_count_11 (by omega) ?_
    refine g_lconst C (1) dX0_count_12 (by decide) ?_
    refine g_ldc2 C (12) q462 dX0_count_13 (by decide) ?_
    refine g_callSi C dX0_count_16 s_X0_72 (m_X0_isIn (h := 1) hI sz 1 12 M (by omega) (fun _ _ q => q)) rfl rfl (Nat.le_of_ble_eq_true rfl) (by omega) ?_
    rintro z2 M' ⟨hz2, rfl⟩
    refine g_if_ne C 25 dX0_count_19 (by decide) (by omega) (fun c_19 => ?_) (fun c_19 => ?_)
    · refine g_iconst C dX0_count_25 ?_
      refine g_istn_3 C dX0_count_26 (by decide) rfl ?_
      exact SZ (by omega) (by omega) (sz + 2).toNat 1 _ M (by omega) (by omega) (by omega) (fun _ _ _ => rfl) (fun v j h1 hj hb => by have := hj.1; omega)
    · refine g_bipush C dX0_count_22 (by decide) ?_
      exact g_iret C dX0_count_24 (hp _ _ (Or.inr (Or.inl ⟨by rw [er]; omega, by omega, rfl, rfl⟩)))
  · refine g_iconst C dX0_count_8 ?_
    exact g_iret C dX0_count_9 (hp _ _ (Or.inl ⟨by rw [er]; omega, rfl, rfl⟩))
end

