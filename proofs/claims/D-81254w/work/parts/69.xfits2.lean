/-! KindNets: endOf, lackOf -/
set_option maxRecDepth 100000
/-- where the depth is back at that of a -/
def kEn2 (T : Int → Int) (a e : Nat) : Prop := a ≤ e ∧ kD T (e + 1) ≤ kD T a ∧ ∀ j : Nat, a ≤ j → j < e → kD T a < kD T (j + 1)
theorem kD_x {T : Int → Int} {k : Nat} (x : Int) (ex : x = T k) : ((x = 123 ∨ x = 91 ∨ x = 40) → kD T k + 1 = kD T (k + 1)) ∧ ((x = 125 ∨ x = 93 ∨ x = 41) → kD T k - 1 = kD T (k + 1)) ∧ (¬ (x = 123 ∨ x = 91 ∨ x = 40) → ¬ (x = 125 ∨ x = 93 ∨ x = 41) → kD T k = kD T (k + 1)) := by
  rw [ex]
  exact ⟨fun u => (kD_o u).symm, fun u => (kD_c u).symm, fun u1 u2 => (kD_z u1 u2).symm⟩
section
variable {l : Launch} {w : KL} {h : Nat} {post : Int → KM → Prop}
theorem m_X0_endOf (hI : kInj w) (v : Int) (a e0 : Nat) (M : KM) (hv : 0 ≤ v ∧ v < 100) (ha : M 22 0 v = a) (h0 : a ≤ e0) (h1 : e0 < 100) (h2 : kD (M 10 0) (e0 + 1) ≤ kD (M 10 0) a) (hp : ∀ (z : Int) M', (∃ e : Nat, z = e ∧ e ≤ e0 ∧ kEn2 (M 10 0) a e) ∧ M = M' → post z M') : kMet l w yX0_endOf cX0_endOf 5 (some .int) 1 h [vR 7 0, vI v] M post := by
  obtain ⟨T, eT⟩ : ∃ T, T = M 10 0 := ⟨_, rfl⟩
  rw [← eT] at h2 hp
  refine kMet_of [vR 7 0, vI v, vN, vN, vN] (by decide) hI rfl rfl (Nat.le_of_ble_eq_true rfl) ?_
  intro p e s m args below meth c C hVok
  have L : ∀ (g k : Nat) (y : KV) (o : Int), a ≤ k → k ≤ e0 → e0 + 1 ≤ k + g → o = kD T k - kD T a → (0 ≤ o ∧ o ≤ (k : Int)) → (∀ j : Nat, a ≤ j → j < k → kD T a < kD T (j + 1)) → kG p l e h s m args below meth c w 5 1 post 12 [vR 7 0, vI v, vI o, vI k, y] [] (M) := by
    intro g
    induction g with
    | zero => intro k y o k1 k2 k3; omega
    | succ g ih =>
      intro k y o k1 k2 k3 eo ho hall
      obtain ⟨x, ex⟩ : ∃ x, x = T k := ⟨_, rfl⟩
      obtain ⟨d1, d2, d3⟩ := kD_x x ex
      have ek : M 10 0 (k : Int) = x := by rw [ex, eT]
      have J : ∀ b : Int, o + b = kD T (k + 1) - kD T a → (-1 ≤ b ∧ b ≤ 1) → kG p l e h s m args below meth c w 5 1 post 72 [vR 7 0, vI v, vI o, vI k, vI x] [vI b, vI o] (M) := by
        intro b hb hbr
        clear d1 d2 d3
        refine g_iadd C dX0_endOf_72 ?_
        refine g_istn_2 C dX0_endOf_73 (by decide) rfl ?_
        refine g_inc_3 C dX0_endOf_74 (by decide) rfl ?_
        refine g_iload_n C dX0_endOf_77 rfl ?_
        refine g_if_gt C 12 dX0_endOf_78 (by decide) (by omega) (fun c_78 => ?_) (fun c_78 => ?_)
        · rw [hb, show ((k : Int) + 1) = ((k + 1 : Nat) : Int) by omega]
          exact ih (k + 1) _ _ (by omega) (by
            by_cases z : k = e0
            · rw [z] at hb; omega
            · omega) (by omega) rfl (by omega) (fun j j1 j2 => by
            by_cases z : j = k
            · rw [z]; omega
            · exact hall j j1 (by omega))
        · refine g_iload_n C dX0_endOf_81 rfl ?_
          refine g_iconst C dX0_endOf_82 ?_
          refine g_isub C dX0_endOf_83 ?_
          exact g_iret C dX0_endOf_84 (hp _ _ ⟨⟨k, by omega, k2, k1, by omega, hall⟩, rfl⟩)
      refine g_aload_n C dX0_endOf_12 rfl ?_
      refine g_getR C 10 dX0_endOf_13 f_X0_19 ⟨rfl, rfl⟩ rfl (by decide) ?_
      refine g_iload_n C dX0_endOf_16 rfl ?_
      refine g_cald C 100 dX0_endOf_17 ⟨rfl, rfl⟩ rfl (by omega) (fun r_17 => ?_)
      rw [ek] at r_17 ⊢
      refine g_ist_4 C dX0_endOf_18 (by decide) rfl ?_
      refine g_iload_n C dX0_endOf_20 rfl ?_
      refine g_iload C dX0_endOf_21 rfl ?_
      refine g_bipush C dX0_endOf_23 (by decide) ?_
      refine g_ic_eq C 42 dX0_endOf_25 (by decide) (by omega) (fun c_25 => ?_) (fun c_25 => ?_)
      · refine g_iconst C dX0_endOf_42 ?_
        refine g_goto C 72 dX0_endOf_43 (by decide) ?_
        exact J 1 (by omega) (by omega)
      · refine g_iload C dX0_endOf_28 rfl ?_
        refine g_bipush C dX0_endOf_30 (by decide) ?_
        refine g_ic_eq C 42 dX0_endOf_32 (by decide) (by omega) (fun c_32 => ?_) (fun c_32 => ?_)
        · refine g_iconst C dX0_endOf_42 ?_
          refine g_goto C 72 dX0_endOf_43 (by decide) ?_
          exact J 1 (by omega) (by omega)
        · refine g_iload C dX0_endOf_35 rfl ?_
          refine g_bipush C dX0_endOf_37 (by decide) ?_
          refine g_ic_ne C 46 dX0_endOf_39 (by decide) (by omega) (fun c_39 => ?_) (fun c_39 => ?_)
          · refine g_iload C dX0_endOf_46 rfl ?_
            refine g_bipush C dX0_endOf_48 (by decide) ?_
            refine g_ic_eq C 67 dX0_endOf_50 (by decide) (by omega) (fun c_50 => ?_) (fun c_50 => ?_)
            · refine g_iconst C dX0_endOf_67 ?_
              refine g_goto C 72 dX0_endOf_68 (by decide) ?_
              exact J (-1) (by omega) (by omega)
            · refine g_iload C dX0_endOf_53 rfl ?_
              refine g_bipush C dX0_endOf_55 (by decide) ?_
              refine g_ic_eq C 67 dX0_endOf_57 (by decide) (by omega) (fun c_57 => ?_) (fun c_57 => ?_)
              · refine g_iconst C dX0_endOf_67 ?_
                refine g_goto C 72 dX0_endOf_68 (by decide) ?_
                exact J (-1) (by omega) (by omega)
              · refine g_iload C dX0_endOf_60 rfl ?_
                refine g_bipush C dX0_endOf_62 (by decide) ?_
                refine g_ic_ne C 71 dX0_endOf_64 (by decide) (by omega) (fun c_64 => ?_) (fun c_64 => ?_)
                · refine g_iconst C dX0_endOf_71 ?_
                  exact J 0 (by omega) (by omega)
                · refine g_iconst C dX0_endOf_67 ?_
                  refine g_goto C 72 dX0_endOf_68 (by decide) ?_
                  exact J (-1) (by omega) (by omega)
          · refine g_iconst C dX0_endOf_42 ?_
            refine g_goto C 72 dX0_endOf_43 (by decide) ?_
            exact J 1 (by omega) (by omega)
  refine g_iconst C dX0_endOf_0 ?_
  refine g_istn_2 C dX0_endOf_1 (by decide) rfl ?_
  refine g_aload_n C dX0_endOf_2 rfl ?_
  refine g_getR C 21 dX0_endOf_3 f_X0_48 ⟨rfl, rfl⟩ rfl (by decide) ?_
  refine g_getR C 22 dX0_endOf_6 f_X0_195 ⟨rfl, rfl⟩ rfl (by decide) ?_
  refine g_iload_n C dX0_endOf_9 rfl ?_
  refine g_iald C 100 dX0_endOf_10 ⟨rfl, rfl⟩ rfl (by omega) (fun r_10 => ?_)
  rw [ha]
  refine g_istn_3 C dX0_endOf_11 (by decide) rfl ?_
  exact L (e0 + 1) a _ 0 (Nat.le_refl a) h0 (by omega) (by omega) (by omega) (fun j j1 j2 => by omega)
/-- letters seen of members of v below u -/
def kLtB (M : KM) (v u : Int) : Int → Prop := fun k => ∃ c, (v < c ∧ c < u) ∧ M 23 0 c = v ∧ M 24 0 c = k
theorem m_X0_lackOf (hh : 2 ≤ h) (hI : kInj w) (v : Int) (M : KM) (hv : 0 ≤ v ∧ v < M 21 0 4) (hm : M 21 0 4 ≤ 100) (hd : M 26 0 v ≠ -6 → 0 ≤ M 26 0 v ∧ M 26 0 v < 60) (hl : M 26 0 v ≠ -6 → M 1 (M 26 0 v) 0 = 123 → (∀ c, v < c → c < M 21 0 4 → M 23 0 c = v → 0 ≤ M 24 0 c ∧ M 24 0 c < 8) ∧ ∃ a e0 : Nat, M 22 0 v = a ∧ a ≤ e0 ∧ e0 < 100 ∧ kD (M 10 0) (e0 + 1) ≤ kD (M 10 0) a)
    (hp : ∀ (z : Int) M', ((¬ (M 26 0 v ≠ -6 ∧ M 1 (M 26 0 v) 0 = 123 ∧ ∃ k, (0 ≤ k ∧ k < 8) ∧ M 2 (M 26 0 v) k ≠ -6 ∧ ¬ kLtB M v (M 21 0 4) k) ∧ z = -6) ∨ ((M 26 0 v ≠ -6 ∧ M 1 (M 26 0 v) 0 = 123 ∧ ∃ k, (0 ≤ k ∧ k < 8) ∧ M 2 (M 26 0 v) k ≠ -6 ∧ ¬ kLtB M v (M 21 0 4) k) ∧ ∃ a e : Nat, M 22 0 v = a ∧ z = e ∧ e < 100 ∧ kEn2 (M 10 0) a e)) ∧ M = M' → post z M') : kMet l w yX0_lackOf cX0_lackOf 4 (some .int) 1 h [vR 7 0, vI v] M post := by
  obtain ⟨d, ed⟩ : ∃ d, d = M 26 0 v := ⟨_, rfl⟩
  rw [← ed] at hd hl hp
  refine kMet_of [vR 7 0, vI v, vN, vN] (by decide) hI rfl rfl (Nat.le_of_ble_eq_true rfl) ?_
  intro p e s m args below meth c C hVok
  have FIN : d ≠ -6 → M 1 d 0 = 123 → ∀ x : Int, kBs x (kLtB M v (M 21 0 4)) → ∀ (g : Nat) (k : Int), 0 ≤ k → k ≤ 8 → 9 ≤ k + g → (∀ j, 0 ≤ j → j < k → M 2 d j ≠ -6 → kLtB M v (M 21 0 4) j) → kG p l e h s m args below meth c w 4 1 post 89 [vR 7 0, vI v, vI x, vI k] [] (M) := by
    intro d1 d2 x hx g
    have hd' := hd d1
    induction g with
    | zero => intro k k0 k1 k2; omega
    | succ g ih =>
      intro k k0 k1 k2 hall
      obtain ⟨a, e0, e1, e2, e3, e4⟩ := (hl d1 d2).2
      have hxr := hx.1
      have hb : k < 8 → (kAnd (kShr x k) 1 = 0 ∧ ¬ kLtB M v (M 21 0 4) k) ∨ (kAnd (kShr x k) 1 = 1 ∧ kLtB M v (M 21 0 4) k) := fun z => hx.2 k k0 z
      clear hd hl hx
      refine g_iload_n C dX0_lackOf_89 rfl ?_
      refine g_bipush C dX0_lackOf_90 (by decide) ?_
      refine g_ic_ge C 133 dX0_lackOf_92 (by decide) (by omega) (fun c_92 => ?_) (fun c_92 => ?_)
      · refine g_bipush C dX0_lackOf_133 (by decide) ?_
        exact g_iret C dX0_lackOf_135 (hp _ _ ⟨Or.inl ⟨fun ⟨_, _, j, j1, j2, j3⟩ => j3 (hall j j1.1 (by omega) j2), rfl⟩, rfl⟩)
      · refine g_aload_n C dX0_lackOf_95 rfl ?_
        refine g_getR C 8 dX0_lackOf_96 f_X0_11 ⟨rfl, rfl⟩ rfl (by decide) ?_
        refine g_aload_n C dX0_lackOf_99 rfl ?_
        refine g_getR C 26 dX0_lackOf_100 f_X0_52 ⟨rfl, rfl⟩ rfl (by decide) ?_
        refine g_iload_n C dX0_lackOf_103 rfl ?_
        refine g_iald C 100 dX0_lackOf_104 ⟨rfl, rfl⟩ rfl (by omega) (fun r_104 => ?_)
        rw [← ed] at r_104 ⊢
        refine g_aald C 1 60 dX0_lackOf_105 ⟨rfl, by decide, by decide⟩ (by decide) rfl (by omega) ?_
        refine g_iload_n C dX0_lackOf_106 rfl ?_
        refine g_callVi C dX0_lackOf_107 v_X0_148 (m_X2_has (h := 1) hI d k M (by omega) (fun _ _ q => q)) ⟨rfl, rfl⟩ rfl rfl (Nat.le_of_ble_eq_true rfl) (by omega) ?_
        rintro z M' ⟨⟨hz, rfl⟩ | ⟨hz, rfl⟩, rfl⟩
        · refine g_if_eq C 127 dX0_lackOf_110 (by decide) (by omega) (fun c_110 => ?_) (fun c_110 => ?_)
          · omega
          · refine g_iload_n C dX0_lackOf_113 rfl ?_
            refine g_iload_n C dX0_lackOf_114 rfl ?_
            refine g_ishr C dX0_lackOf_115 ?_
            refine g_iconst C dX0_lackOf_116 ?_
            refine g_iand C dX0_lackOf_117 ?_
            refine g_if_ne C 127 dX0_lackOf_118 (by decide) (by omega) (fun c_118 => ?_) (fun c_118 => ?_)
            · refine g_inc_3 C dX0_lackOf_127 (by decide) rfl ?_
              refine g_goto C 89 dX0_lackOf_130 (by decide) ?_
              exact ih (k + 1) (by omega) (by omega) (by omega) (fun j j1 j2 j3 => by
              by_cases y : j = k
              · rw [y]
                rcases hb (by omega) with r | r
                · exact absurd r.1 (by assumption)
                · exact r.2
              · exact hall j j1 (by omega) j3)
            · refine g_aload_n C dX0_lackOf_121 rfl ?_
              refine g_iload_n C dX0_lackOf_122 rfl ?_
              refine g_callVi C dX0_lackOf_123 v_X0_208 (m_X0_endOf (h := 1) hI v a e0 M (by omega) e1 e2 e3 e4 (fun _ _ q => q)) ⟨rfl, rfl⟩ rfl rfl (Nat.le_of_ble_eq_true rfl) (by omega) ?_
              rintro z M' ⟨⟨e, he1, he2, he3⟩, rfl⟩
              exact g_iret C dX0_lackOf_126 (hp _ _ ⟨Or.inr ⟨⟨d1, d2, k, by omega, hz, by
              rcases hb (by omega) with r | r
              · exact r.2
              · have := r.1
                omega⟩, a, e, e1, he1, by omega, he3⟩, rfl⟩)
        · refine g_if_eq C 127 dX0_lackOf_110 (by decide) (by omega) (fun c_110 => ?_) (fun c_110 => ?_)
          · refine g_inc_3 C dX0_lackOf_127 (by decide) rfl ?_
            refine g_goto C 89 dX0_lackOf_130 (by decide) ?_
            exact ih (k + 1) (by omega) (by omega) (by omega) (fun j j1 j2 j3 => by
            by_cases y : j = k
            · rw [y] at j3
              exact absurd hz j3
            · exact hall j j1 (by omega) j3)
          · omega
  have FIN1 : d ≠ -6 → M 1 d 0 = 123 → ∀ x : Int, kBs x (kLtB M v (M 21 0 4)) → ∀ y : KV, kG p l e h s m args below meth c w 4 1 post 87 [vR 7 0, vI v, vI x, y] [] (M) := by
    intro d1 d2 x hx y
    refine g_iconst C dX0_lackOf_87 ?_
    refine g_istn_3 C dX0_lackOf_88 (by decide) rfl ?_
    exact FIN d1 d2 x hx 9 0 (by omega) (by omega) (by omega) (fun j j1 j2 => by omega)
  have L : d ≠ -6 → M 1 d 0 = 123 → ∀ (g : Nat) (u x : Int), v < u → u ≤ M 21 0 4 → M 21 0 4 + 1 ≤ u + g → kBs x (kLtB M v u) → kG p l e h s m args below meth c w 4 1 post 39 [vR 7 0, vI v, vI x, vI u] [] (M) := by
    intro d1 d2 g
    have hlt := (hl d1 d2).1
    have hd' := hd d1
    induction g with
    | zero => intro u x u1 u2 u3; omega
    | succ g ih =>
      intro u x u1 u2 u3 hx
      have hxr := hx.1
      have hlu : u < M 21 0 4 → M 23 0 u = v → 0 ≤ M 24 0 u ∧ M 24 0 u < 8 := fun a b => hlt u u1 a b
      clear hd
      refine g_iload_n C dX0_lackOf_39 rfl ?_
      refine g_aload_n C dX0_lackOf_40 rfl ?_
      refine g_getR C 21 dX0_lackOf_41 f_X0_48 ⟨rfl, rfl⟩ rfl (by decide) ?_
      refine g_getI C 4 dX0_lackOf_44 f_X0_207 ⟨rfl, rfl⟩ rfl rfl (fun r_44 => ?_)
      refine g_ic_ge C 87 dX0_lackOf_47 (by decide) (by omega) (fun c_47 => ?_) (fun c_47 => ?_)
      · rw [show u = M 21 0 4 by omega] at hx
        exact FIN1 d1 d2 x hx _
      · refine g_iload_n C dX0_lackOf_50 rfl ?_
        refine g_aload_n C dX0_lackOf_51 rfl ?_
        refine g_getR C 21 dX0_lackOf_52 f_X0_48 ⟨rfl, rfl⟩ rfl (by decide) ?_
        refine g_getR C 23 dX0_lackOf_55 f_X0_201 ⟨rfl, rfl⟩ rfl (by decide) ?_
        refine g_iload_n C dX0_lackOf_58 rfl ?_
        refine g_iald C 100 dX0_lackOf_59 ⟨rfl, rfl⟩ rfl (by omega) (fun r_59 => ?_)
        refine g_iload_n C dX0_lackOf_60 rfl ?_
        refine g_ic_ne C 78 dX0_lackOf_61 (by decide) (by omega) (fun c_61 => ?_) (fun c_61 => ?_)
        · refine g_iconst C dX0_lackOf_78 ?_
          refine g_ior C dX0_lackOf_79 ?_
          refine g_istn_2 C dX0_lackOf_80 (by decide) rfl ?_
          refine g_inc_3 C dX0_lackOf_81 (by decide) rfl ?_
          refine g_goto C 39 dX0_lackOf_84 (by decide) ?_
          rw [kBs_or0 hx]
          exact ih (u + 1) _ (by omega) (by omega) (by omega) (kBs_iff hx (fun k k0 k1 => ⟨fun ⟨c, c1, c2, c3⟩ => ⟨c, by omega, c2, c3⟩, fun ⟨c, c1, c2, c3⟩ => by
          by_cases y : c = u
          · rw [y] at c2
            exact absurd c2 (by assumption)
          · exact ⟨c, by omega, c2, c3⟩⟩))
        · refine g_iconst C dX0_lackOf_64 ?_
          refine g_aload_n C dX0_lackOf_65 rfl ?_
          refine g_getR C 21 dX0_lackOf_66 f_X0_48 ⟨rfl, rfl⟩ rfl (by decide) ?_
          refine g_getR C 24 dX0_lackOf_69 f_X0_204 ⟨rfl, rfl⟩ rfl (by decide) ?_
          refine g_iload_n C dX0_lackOf_72 rfl ?_
          refine g_iald C 100 dX0_lackOf_73 ⟨rfl, rfl⟩ rfl (by omega) (fun r_73 => ?_)
          refine g_ishl C dX0_lackOf_74 ?_
          refine g_goto C 79 dX0_lackOf_75 (by decide) ?_
          refine g_ior C dX0_lackOf_79 ?_
          refine g_istn_2 C dX0_lackOf_80 (by decide) rfl ?_
          refine g_inc_3 C dX0_lackOf_81 (by decide) rfl ?_
          refine g_goto C 39 dX0_lackOf_84 (by decide) ?_
          exact ih (u + 1) _ (by omega) (by omega) (by omega) (kBs_iff (kBs_or hx (hlu (by omega) (by assumption))) (fun k k0 k1 => ⟨fun t => by
          rcases t with ⟨c, c1, c2, c3⟩ | t
          · exact ⟨c, by omega, c2, c3⟩
          · exact ⟨u, by omega, by assumption, t.symm⟩, fun ⟨c, c1, c2, c3⟩ => by
          by_cases y : c = u
          · exact Or.inr (by rw [← c3, y])
          · exact Or.inl ⟨c, by omega, c2, c3⟩⟩))
  refine g_aload_n C dX0_lackOf_0 rfl ?_
  refine g_getR C 26 dX0_lackOf_1 f_X0_52 ⟨rfl, rfl⟩ rfl (by decide) ?_
  refine g_iload_n C dX0_lackOf_4 rfl ?_
  refine g_iald C 100 dX0_lackOf_5 ⟨rfl, rfl⟩ rfl (by omega) (fun r_5 => ?_)
  rw [← ed] at r_5 ⊢
  refine g_bipush C dX0_lackOf_6 (by decide) ?_
  refine g_ic_eq C 30 dX0_lackOf_8 (by decide) (by omega) (fun c_8 => ?_) (fun c_8 => ?_)
  · refine g_bipush C dX0_lackOf_30 (by decide) ?_
    exact g_iret C dX0_lackOf_32 (hp _ _ ⟨Or.inl ⟨fun u => u.1 (by assumption), rfl⟩, rfl⟩)
  · refine g_aload_n C dX0_lackOf_11 rfl ?_
    refine g_getR C 8 dX0_lackOf_12 f_X0_11 ⟨rfl, rfl⟩ rfl (by decide) ?_
    refine g_aload_n C dX0_lackOf_15 rfl ?_
    refine g_getR C 26 dX0_lackOf_16 f_X0_52 ⟨rfl, rfl⟩ rfl (by decide) ?_
    refine g_iload_n C dX0_lackOf_19 rfl ?_
    refine g_iald C 100 dX0_lackOf_20 ⟨rfl, rfl⟩ rfl (by omega) (fun r_20 => ?_)
    rw [← ed] at r_20 ⊢
    have hd' := hd (by assumption)
    refine g_aald C 1 60 dX0_lackOf_21 ⟨rfl, by decide, by decide⟩ (by decide) rfl (by omega) ?_
    refine g_getI C 0 dX0_lackOf_22 f_X0_101 ⟨rfl, rfl⟩ rfl rfl (fun r_22 => ?_)
    refine g_bipush C dX0_lackOf_25 (by decide) ?_
    refine g_ic_eq C 33 dX0_lackOf_27 (by decide) (by omega) (fun c_27 => ?_) (fun c_27 => ?_)
    · refine g_iconst C dX0_lackOf_33 ?_
      refine g_istn_2 C dX0_lackOf_34 (by decide) rfl ?_
      refine g_iload_n C dX0_lackOf_35 rfl ?_
      refine g_iconst C dX0_lackOf_36 ?_
      refine g_iadd C dX0_lackOf_37 ?_
      refine g_istn_3 C dX0_lackOf_38 (by decide) rfl ?_
      exact L (by assumption) (by assumption) (M 21 0 4 + 1).toNat (v + 1) 0 (by omega) (by omega) (by omega) (kBs_iff kBs_0 (fun k k0 k1 => ⟨False.elim, fun ⟨c, c1, _, _⟩ => by omega⟩))
    · refine g_bipush C dX0_lackOf_30 (by decide) ?_
      exact g_iret C dX0_lackOf_32 (hp _ _ ⟨Or.inl ⟨fun u => absurd u.2.1 (by assumption), rfl⟩, rfl⟩)
end

