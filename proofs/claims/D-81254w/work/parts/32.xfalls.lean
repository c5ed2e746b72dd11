/-! KindNets: falls, findFalls, stands, may, areAlike, alike -/
set_option maxRecDepth 100000
theorem kSum_b1 {g : Int → Int} (h : ∀ k, g k ≤ 1) : ∀ n : Nat, kSum g n ≤ n
  | 0 => Int.le_refl _
  | n + 1 => by
    have := kSum_b1 h n
    have := h n
    show kSum g n + g n ≤ ((n + 1 : Nat) : Int)
    omega
theorem kSum_b60 {g : Int → Int} (h : ∀ k, g k ≤ 60) : ∀ n : Nat, kSum g n ≤ 60 * n
  | 0 => Int.le_refl _
  | n + 1 => by
    have := kSum_b60 h n
    have := h n
    show kSum g n + g n ≤ 60 * ((n + 1 : Nat) : Int)
    omega
theorem kMu_le (F : Int → Int → Int) {n : Int} (hn : 0 ≤ n ∧ n ≤ 60) : kMu F n ≤ 3600 := by
  unfold kMu
  have a := kSum_b60 (g := fun i => kSum (fun k => if F i k = -6 then 1 else 0) n.toNat) (fun i => by
    have := kSum_b1 (g := fun k => if F i k = -6 then 1 else 0) (fun k => by split <;> omega) n.toNat
    omega) n.toNat
  omega
/-- the pairs ahead of (a, b) hold what they are at the start -/
def kI0 (N : KN) (F : Int → Int → Int) (a b : Int) : Prop := ∀ i k, kIn2 N i k → (i < a ∨ (i = a ∧ k < b)) → kRA N 0 i k (F i k)
theorem kI0_0 {N : KN} {F : Int → Int → Int} : kI0 N F 0 0 := fun i k hik hb => by obtain ⟨⟨h1, -⟩, h3, -⟩ := hik; omega
theorem kI0_row {N : KN} {F : Int → Int → Int} {a : Int} (h : kI0 N F a N.1) : kI0 N F (a + 1) 0 := fun i k hik hb => h i k hik (by obtain ⟨_, _, _⟩ := hik; omega)
theorem kI0_set {N : KN} {F G : Int → Int → Int} {a b v : Int} (h : kI0 N F a b) (hv : kRA N 0 a b v) (hG : ∀ i k, kIn2 N i k → G i k = if i = a ∧ k = b then v else F i k) : kI0 N G a (b + 1) := by
  intro i k hik hb
  rw [hG i k hik]
  by_cases q : i = a ∧ k = b
  · obtain ⟨rfl, rfl⟩ := q
    rw [if_pos ⟨rfl, rfl⟩]
    exact hv
  · rw [if_neg q]
    exact h i k hik (by omega)
theorem kUp_if {M : KM} {t : Nat} {a b v i k : Int} : kUp M t a b v t i k = if i = a ∧ k = b then v else M t i k := by
  simp [kUp]
/-- what findFalls leaves -/
def kFF (M M' : KM) : Prop := (∀ t, t ≠ 5 → t ≠ 7 → M' t = M t) ∧ (∀ i k, k ≠ 8 → M' 7 i k = M 7 i k) ∧ M' 7 0 8 = 1 ∧ ∀ i k, kIn2 (kXnet M) i k → kFN (kXnet M) i k (M' 5 i k)
/-- what isKnown says -/
def kKn (M : KM) : Prop := M 7 0 8 = 0 ∨ (M 7 0 8 = 1 ∧ ∀ i k, kIn2 (kXnet M) i k → kFN (kXnet M) i k (M 5 i k))
theorem kFF.net {M M' : KM} (h : kFF M M') : kXnet M' = kXnet M := kXnet_eq (h.1 1 (by decide) (by decide)) (h.1 2 (by decide) (by decide)) (h.2.1 0 1 (by decide))
theorem kFF.kn {M M' : KM} (h : kFF M M') : kKn M' := Or.inr ⟨h.2.2.1, by rw [h.net]; exact h.2.2.2⟩
theorem kFF.trans {M M1 M2 : KM} (h : kFF M M1) (g : kFF M1 M2) : kFF M M2 := by
  obtain ⟨a, b, d, e⟩ := g
  rw [h.net] at e
  exact ⟨fun t h1 h2 => (a t h1 h2).trans (h.1 t h1 h2), fun i k h1 => (b i k h1).trans (h.2.1 i k h1), d, e⟩
theorem kFF.many {M M' : KM} (h : kFF M M') : M' 7 0 1 = M 7 0 1 := h.2.1 0 1 (by decide)
section
variable {l : Launch} {w : KL} {h : Nat} {post : Int → KM → Prop}
theorem m_X0_falls (hh : 3 ≤ h) (hI : kInj w) (i k r : Int) (M : KM) (hN : kWF (kXnet M)) (hi : 0 ≤ i ∧ i < M 7 0 1) (hk : 0 ≤ k ∧ k < M 7 0 1) (hr : 1 ≤ r ∧ r ≤ 4000)
    (hp : ∀ z M', (((∃ c, (0 ≤ c ∧ c < 11) ∧ (kStep (kXnet M) i k c).1 ≠ -6 ∧ 0 ≤ M 5 (kStep (kXnet M) i k c).1 (kStep (kXnet M) i k c).2 ∧ M 5 (kStep (kXnet M) i k c).1 (kStep (kXnet M) i k c).2 ≤ r - 1) ∧ z = 1) ∨ ((∀ c, 0 ≤ c → c < 11 → (kStep (kXnet M) i k c).1 ≠ -6 → ¬ (0 ≤ M 5 (kStep (kXnet M) i k c).1 (kStep (kXnet M) i k c).2 ∧ M 5 (kStep (kXnet M) i k c).1 (kStep (kXnet M) i k c).2 ≤ r - 1)) ∧ z = 0)) ∧ M = M' → post z M') : kMet l w yX0_falls cX0_falls 6 (some .boolean) 1 h [vR 7 0, vI i, vI k, vI r] M post := by
  obtain ⟨hn, -, -, -, -⟩ := kXwf hN
  refine kMet_of [vR 7 0, vI i, vI k, vI r, vN, vN] (by decide) hI rfl rfl (Nat.le_of_ble_eq_true rfl) ?_
  intro p e s m args below meth c C hVok
  have L : ∀ (n : Nat) (c0 : Int) (x5 : KV), 0 ≤ c0 → c0 ≤ 11 → 12 ≤ c0 + n → (∀ c, 0 ≤ c → c < c0 → (kStep (kXnet M) i k c).1 ≠ -6 → ¬ (0 ≤ M 5 (kStep (kXnet M) i k c).1 (kStep (kXnet M) i k c).2 ∧ M 5 (kStep (kXnet M) i k c).1 (kStep (kXnet M) i k c).2 ≤ r - 1)) → kG p l e h s m args below meth c w 6 1 post 3 [vR 7 0, vI i, vI k, vI r, vI c0, x5] [] (M) := by
    intro n
    induction n with
    | zero => intro c0 x5 h1 h2 h3; omega
    | succ n ih =>
      intro c0 x5 h1 h2 h3 h4
      refine g_iload C dX0_falls_3 rfl ?_
      refine g_bipush C dX0_falls_5 (by decide) ?_
      refine g_ic_gt C 61 dX0_falls_7 (by decide) (by omega) (fun c_7 => ?_) (fun c_7 => ?_)
      · refine g_iconst C dX0_falls_61 ?_
        exact g_zret C dX0_falls_62 (by omega) (hp _ _ ⟨Or.inr ⟨by rw [show c0 = 11 by omega] at h4; exact h4, rfl⟩, rfl⟩)
      · refine g_aload_n C dX0_falls_10 rfl ?_
        refine g_iload_n C dX0_falls_11 rfl ?_
        refine g_iload_n C dX0_falls_12 rfl ?_
        refine g_iload C dX0_falls_13 rfl ?_
        refine g_callVi C dX0_falls_15 v_X0_151 (m_X0_stepTo (h := 2) (by omega) hI i k c0 M hN hi hk (by omega) (fun _ _ q => q)) ⟨rfl, rfl⟩ rfl rfl (Nat.le_of_ble_eq_true rfl) (by omega) ?_
        rintro z M' ⟨⟨e, rfl⟩ | ⟨x, y, e, hx, hy, rfl⟩, rfl⟩
        · refine g_ist_5 C dX0_falls_18 (by decide) rfl ?_
          refine g_iload C dX0_falls_20 rfl ?_
          refine g_if_lt C 55 dX0_falls_22 (by decide) (by omega) (fun c_22 => ?_) (fun c_22 => ?_)
          · refine g_inc_4 C dX0_falls_55 (by decide) rfl ?_
            refine g_goto C 3 dX0_falls_58 (by decide) ?_
            refine ih (c0 + 1) _ (by omega) (by omega) (by omega) (fun c hc1 hc2 hc3 => ?_)
            by_cases hq : c = c0
            · subst hq
              rw [e] at hc3 ⊢
              dsimp only at hc3 ⊢
              omega
            · exact h4 c hc1 (by omega) hc3
          · omega
        · refine g_ist_5 C dX0_falls_18 (by decide) rfl ?_
          refine g_iload C dX0_falls_20 rfl ?_
          refine g_if_lt C 55 dX0_falls_22 (by decide) (by omega) (fun c_22 => ?_) (fun c_22 => ?_)
          · omega
          · refine g_aload_n C dX0_falls_25 rfl ?_
            refine g_getR C 18 dX0_falls_26 f_X0_35 ⟨rfl, rfl⟩ rfl (by decide) ?_
            refine g_iload C dX0_falls_29 rfl ?_
            refine g_bipush C dX0_falls_31 (by decide) ?_
            refine g_idiv C dX0_falls_33 (by omega) ?_
            rw [show (100 * x + y) / 100 = x by omega]
            refine g_aald C 5 60 dX0_falls_34 ⟨rfl, by decide, by decide⟩ (by decide) rfl (by omega) ?_
            refine g_iload C dX0_falls_35 rfl ?_
            refine g_bipush C dX0_falls_37 (by decide) ?_
            refine g_irem C dX0_falls_39 (by omega) ?_
            rw [show (100 * x + y) % 100 = y by omega]
            refine g_iald C 60 dX0_falls_40 ⟨rfl, rfl⟩ rfl (by omega) (fun r_40 => ?_)
            refine g_i2l C dX0_falls_41 (by omega) ?_
            refine g_lconst C (0) dX0_falls_42 (by decide) ?_
            refine g_iload_n C dX0_falls_43 rfl ?_
            refine g_i2l C dX0_falls_44 (by omega) ?_
            refine g_lconst C (1) dX0_falls_45 (by decide) ?_
            refine g_lsub C dX0_falls_46 ?_
            refine g_callSi C dX0_falls_47 s_X0_72 (m_X0_isIn (h := 1) hI (M 5 x y) 0 (r - 1) M (by omega) (fun _ _ q => q)) rfl rfl (Nat.le_of_ble_eq_true rfl) (by omega) ?_
            rintro z2 M' ⟨hz2, rfl⟩
            refine g_if_eq C 55 dX0_falls_50 (by decide) (by omega) (fun c_50 => ?_) (fun c_50 => ?_)
            · refine g_inc_4 C dX0_falls_55 (by decide) rfl ?_
              refine g_goto C 3 dX0_falls_58 (by decide) ?_
              refine ih (c0 + 1) _ (by omega) (by omega) (by omega) (fun c hc1 hc2 hc3 => ?_)
              by_cases hq : c = c0
              · subst hq
                rw [e] at hc3 ⊢
                dsimp only at hc3 ⊢
                omega
              · exact h4 c hc1 (by omega) hc3
            · refine g_iconst C dX0_falls_53 ?_
              exact g_zret C dX0_falls_54 (by omega) (hp _ _ ⟨Or.inl ⟨⟨c0, by omega, by rw [e]; dsimp only; omega⟩, rfl⟩, rfl⟩)
  refine g_iconst C dX0_falls_0 ?_
  refine g_ist_4 C dX0_falls_1 (by decide) rfl ?_
  exact L 12 0 _ (by omega) (by omega) (by omega) (fun c h1 h2 => by omega)
theorem m_X0_findFalls (hh : 4 ≤ h) (hI : kInj w) (M : KM) (hN : kWF (kXnet M)) (hK : kKn M) (hp : ∀ z M', kFF M M' → post z M') : kMet l w yX0_findFalls cX0_findFalls 5 none 0 h [vR 7 0] M post := by
  obtain ⟨hn, -, -, -, -⟩ := kXwf hN
  refine kMet_of [vR 7 0, vN, vN, vN, vN] (by decide) hI rfl rfl (Nat.le_of_ble_eq_true rfl) ?_
  intro p e s m args below meth c C hVok
  -- the end
  have X : ∀ (r : Int) (x3 x4 : KV) (M1 : KM), (∀ t, t ≠ 5 → M1 t = M t) → (∀ i k, kIn2 (kXnet M) i k → kFN (kXnet M) i k (M1 5 i k)) → kG p l e h s m args below meth c w 5 0 post 77 [vR 7 0, vI 0, vI r, x3, x4] [] (M1) := by
    intro r x3 x4 M1 hs hF
    refine g_iload_n C dX0_findFalls_77 rfl ?_
    refine g_if_eq C 160 dX0_findFalls_78 (by decide) (by omega) (fun c_78 => ?_) (fun c_78 => ?_)
    · refine g_aload_n C dX0_findFalls_160 rfl ?_
      refine g_iconst C dX0_findFalls_161 ?_
      refine g_putZ C 8 dX0_findFalls_162 f_X0_126 ⟨rfl, rfl⟩ rfl rfl (by omega) ?_
      exact g_vret C dX0_findFalls_165 (hp _ _ ⟨fun t h5 h7 => by rw [kUp_t h7]; exact hs t h5, fun i k h8 => by rw [kUp_nk h8, hs 7 (by decide)], kUp_eq, fun i k hik => by rw [kUp_ne (by decide)]; exact hF i k hik⟩)
    · omega
  -- the rounds
  have L2 : ∀ (n : Nat) (q : Int) (x3 x4 : KV) (M0 : KM), 0 ≤ q → q + kMu (M0 5) (M 7 0 1) ≤ 3600 → kMu (M0 5) (M 7 0 1) < n → (∀ t, t ≠ 5 → M0 t = M t) → (∀ i k, kIn2 (kXnet M) i k → kRA (kXnet M) q i k (M0 5 i k)) → kG p l e h s m args below meth c w 5 0 post 77 [vR 7 0, vI 1, vI (q + 1), x3, x4] [] (M0) := by
    intro n
    induction n with
    | zero =>
      intro q x3 x4 M0 h1 h2 h3
      have := kMu_pos (M0 5) (M 7 0 1)
      omega
    | succ n ihr =>
      intro q x3 x4 M0 hq0 hq1 hq2 hs0 h0
      have hmu := kMu_pos (M0 5) (M 7 0 1)
      have R1 : ∀ (n2 : Nat) (a mr : Int) (x4 : KV) (M1 : KM), 0 ≤ a → a ≤ M 7 0 1 → M 7 0 1 + 1 ≤ a + n2 → (∀ t, t ≠ 5 → M1 t = M t) → kSW (kXnet M) q (M0 5) (M1 5) a 0 mr → kG p l e h s m args below meth c w 5 0 post 85 [vR 7 0, vI mr, vI (q + 1), vI a, x4] [] (M1) := by
        intro n2
        induction n2 with
        | zero => intro a mr x4 M1 h1 h2 h3; omega
        | succ n2 ih =>
          intro a mr x4 M1 ha1 ha2 ha3 hs hW
          have inner : ∀ (n3 : Nat) (b mr : Int) (M2 : KM), a < M 7 0 1 → 0 ≤ b → b ≤ M 7 0 1 → M 7 0 1 + 1 ≤ b + n3 → (∀ t, t ≠ 5 → M2 t = M t) → kSW (kXnet M) q (M0 5) (M2 5) a b mr → kG p l e h s m args below meth c w 5 0 post 96 [vR 7 0, vI mr, vI (q + 1), vI a, vI b] [] (M2) := by
            intro n3
            induction n3 with
            | zero => intro b mr M2 h0 h1 h2 h3; omega
            | succ n3 ih3 =>
              intro b mr M2 hab hb1 hb2 hb3 hs2 hW2
              have hm2 : M2 7 0 1 = M 7 0 1 := by rw [hs2 7 (by decide)]
              have eN : kXnet M2 = kXnet M := kXnet_eq (hs2 1 (by decide)) (hs2 2 (by decide)) hm2
              refine g_iload C dX0_findFalls_96 rfl ?_
              refine g_aload_n C dX0_findFalls_98 rfl ?_
              refine g_getI C 1 dX0_findFalls_99 f_X0_94 ⟨rfl, rfl⟩ rfl rfl (fun r_99 => ?_)
              refine g_ic_ge C 148 dX0_findFalls_102 (by decide) (by omega) (fun c_102 => ?_) (fun c_102 => ?_)
              · refine g_inc_3 C dX0_findFalls_148 (by decide) rfl ?_
                refine g_goto C 85 dX0_findFalls_151 (by decide) ?_
                exact ih (a + 1) mr _ M2 (by omega) (by omega) (by omega) hs2 (kSW_row (by rw [kXnet_n, show M 7 0 1 = b by omega]; exact hW2))
              · refine g_aload_n C dX0_findFalls_105 rfl ?_
                refine g_getR C 18 dX0_findFalls_106 f_X0_35 ⟨rfl, rfl⟩ rfl (by decide) ?_
                refine g_iload_n C dX0_findFalls_109 rfl ?_
                refine g_aald C 5 60 dX0_findFalls_110 ⟨rfl, by decide, by decide⟩ (by decide) rfl (by omega) ?_
                refine g_iload C dX0_findFalls_111 rfl ?_
                refine g_iald C 60 dX0_findFalls_113 ⟨rfl, rfl⟩ rfl (by omega) (fun r_113 => ?_)
                refine g_bipush C dX0_findFalls_114 (by decide) ?_
                refine g_ic_ne C 142 dX0_findFalls_116 (by decide) (by omega) (fun c_116 => ?_) (fun c_116 => ?_)
                · refine g_inc_4 C dX0_findFalls_142 (by decide) rfl ?_
                  refine g_goto C 96 dX0_findFalls_145 (by decide) ?_
                  exact ih3 (b + 1) mr M2 hab (by omega) (by omega) (by omega) hs2 (kSW_skip hW2 (fun hik => kRA_keep (hW2.2.1 a b hik (by omega)) c_116))
                · refine g_aload_n C dX0_findFalls_119 rfl ?_
                  refine g_iload_n C dX0_findFalls_120 rfl ?_
                  refine g_iload C dX0_findFalls_121 rfl ?_
                  refine g_iload_n C dX0_findFalls_123 rfl ?_
                  refine g_callVi C dX0_findFalls_124 v_X0_159 (m_X0_falls (h := 3) (by omega) hI a b (q + 1) M2 (by rw [eN]; exact hN) (by omega) (by omega) (by omega) (fun _ _ q => q)) ⟨rfl, rfl⟩ rfl rfl (Nat.le_of_ble_eq_true rfl) (by omega) ?_
                  rintro z M' ⟨⟨⟨c, hc, hc1, hc2⟩, rfl⟩ | ⟨hz, rfl⟩, rfl⟩
                  · refine g_if_eq C 142 dX0_findFalls_127 (by decide) (by omega) (fun c_127 => ?_) (fun c_127 => ?_)
                    · omega
                    · refine g_aload_n C dX0_findFalls_130 rfl ?_
                      refine g_getR C 18 dX0_findFalls_131 f_X0_35 ⟨rfl, rfl⟩ rfl (by decide) ?_
                      refine g_iload_n C dX0_findFalls_134 rfl ?_
                      refine g_aald C 5 60 dX0_findFalls_135 ⟨rfl, by decide, by decide⟩ (by decide) rfl (by omega) ?_
                      refine g_iload C dX0_findFalls_136 rfl ?_
                      refine g_iload_n C dX0_findFalls_138 rfl ?_
                      refine g_iast C 60 dX0_findFalls_139 ⟨rfl, rfl⟩ rfl (by omega) (by omega) ?_
                      refine g_iconst C dX0_findFalls_140 ?_
                      refine g_istn_1 C dX0_findFalls_141 (by decide) rfl ?_
                      refine g_inc_4 C dX0_findFalls_142 (by decide) rfl ?_
                      refine g_goto C 96 dX0_findFalls_145 (by decide) ?_
                      rw [eN] at hc1 hc2
                      have hik : kIn2 (kXnet M) a b := ⟨⟨ha1, hab⟩, hb1, by rw [kXnet_n]; omega⟩
                      have hst : kIn2 (kXnet M) (kStep (kXnet M) a b c).1 (kStep (kXnet M) a b c).2 := by
                        rcases kStep_in hN hik hc with z | z
                        · rw [z] at hc1; exact absurd rfl hc1
                        · exact z.2
                      have hf : kFell (kXnet M) q.toNat _ _ := (kRA_iff hq0 (kSW_any hW2 hst)).mp ⟨hc2.1, by omega⟩
                      have h6 := hW2.2.1 a b hik (by omega)
                      rw [c_116] at h6
                      have hnew := kRA_new hq0 h6 hc hc1 hf
                      exact ih3 (b + 1) 1 _ hab (by omega) (by omega) (by omega) (fun t ht => by rw [kUp_t ht]; exact hs2 t ht) (kSW_set hq0 hW2 hik c_116 hnew (fun i k _ => kUp_if))
                  · refine g_if_eq C 142 dX0_findFalls_127 (by decide) (by omega) (fun c_127 => ?_) (fun c_127 => ?_)
                    · refine g_inc_4 C dX0_findFalls_142 (by decide) rfl ?_
                      refine g_goto C 96 dX0_findFalls_145 (by decide) ?_
                      rw [eN] at hz
                      have hik : kIn2 (kXnet M) a b := ⟨⟨ha1, hab⟩, hb1, by rw [kXnet_n]; omega⟩
                      have h6 := hW2.2.1 a b hik (by omega)
                      rw [c_116] at h6
                      refine ih3 (b + 1) mr M2 hab (by omega) (by omega) (by omega) hs2 (kSW_skip hW2 (fun _ => ?_))
                      rw [c_116]
                      refine kRA_not hq0 h6 (fun c hc1 hc2 hc3 hf => ?_)
                      have hst : kIn2 (kXnet M) (kStep (kXnet M) a b c).1 (kStep (kXnet M) a b c).2 := by
                        rcases kStep_in hN hik ⟨hc1, hc2⟩ with z | z
                        · rw [z] at hc3; exact absurd rfl hc3
                        · exact z.2
                      have := (kRA_iff hq0 (kSW_any hW2 hst)).mpr hf
                      exact hz c hc1 hc2 hc3 ⟨this.1, by omega⟩
                    · omega
          have hm1 : M1 7 0 1 = M 7 0 1 := by rw [hs 7 (by decide)]
          refine g_iload_n C dX0_findFalls_85 rfl ?_
          refine g_aload_n C dX0_findFalls_86 rfl ?_
          refine g_getI C 1 dX0_findFalls_87 f_X0_94 ⟨rfl, rfl⟩ rfl rfl (fun r_87 => ?_)
          refine g_ic_ge C 154 dX0_findFalls_90 (by decide) (by omega) (fun c_90 => ?_) (fun c_90 => ?_)
          · refine g_inc_2 C dX0_findFalls_154 (by decide) rfl ?_
            refine g_goto C 77 dX0_findFalls_157 (by decide) ?_
            have hE := kSW_end hN hq0 h0 (by rw [kXnet_n, show M 7 0 1 = a by omega]; exact hW)
            rcases hE.2 with ⟨rfl, hF⟩ | ⟨rfl, hlt⟩
            · exact X _ _ _ M1 hs hF
            · rw [kXnet_n] at hlt
              exact ihr (q + 1) _ _ M1 (by omega) (by omega) (by omega) hs hE.1
          · refine g_iconst C dX0_findFalls_93 ?_
            refine g_ist_4 C dX0_findFalls_94 (by decide) rfl ?_
            exact inner ((M 7 0 1).toNat + 1) 0 mr M1 (by omega) (by omega) (by omega) (by omega) hs hW
      refine g_iload_n C dX0_findFalls_77 rfl ?_
      refine g_if_eq C 160 dX0_findFalls_78 (by decide) (by omega) (fun c_78 => ?_) (fun c_78 => ?_)
      · omega
      · refine g_iconst C dX0_findFalls_81 ?_
        refine g_istn_1 C dX0_findFalls_82 (by decide) rfl ?_
        refine g_iconst C dX0_findFalls_83 ?_
        refine g_istn_3 C dX0_findFalls_84 (by decide) rfl ?_
        exact R1 ((M 7 0 1).toNat + 1) 0 0 _ M0 (by omega) (by omega) (by omega) hs0 (kSW_0 h0)
  -- the start
  have R0 : ∀ (n2 : Nat) (a : Int) (x2 : KV) (M1 : KM), 0 ≤ a → a ≤ M 7 0 1 → M 7 0 1 + 1 ≤ a + n2 → (∀ t, t ≠ 5 → M1 t = M t) → kI0 (kXnet M) (M1 5) a 0 → kG p l e h s m args below meth c w 5 0 post 10 [vR 7 0, vI a, x2, vN, vN] [] (M1) := by
    intro n2
    induction n2 with
    | zero => intro a x2 M1 h1 h2 h3; omega
    | succ n2 ih =>
      intro a x2 M1 ha1 ha2 ha3 hs hW
      have inner : ∀ (n3 : Nat) (b : Int) (M2 : KM), a < M 7 0 1 → 0 ≤ b → b ≤ M 7 0 1 → M 7 0 1 + 1 ≤ b + n3 → (∀ t, t ≠ 5 → M2 t = M t) → kI0 (kXnet M) (M2 5) a b → kG p l e h s m args below meth c w 5 0 post 20 [vR 7 0, vI a, vI b, vN, vN] [] (M2) := by
        intro n3
        induction n3 with
        | zero => intro b M2 h0 h1 h2 h3; omega
        | succ n3 ih3 =>
          intro b M2 hab hb1 hb2 hb3 hs2 hW2
          have hm2 : M2 7 0 1 = M 7 0 1 := by rw [hs2 7 (by decide)]
          have eN : kXnet M2 = kXnet M := kXnet_eq (hs2 1 (by decide)) (hs2 2 (by decide)) hm2
          refine g_iload_n C dX0_findFalls_20 rfl ?_
          refine g_aload_n C dX0_findFalls_21 rfl ?_
          refine g_getI C 1 dX0_findFalls_22 f_X0_94 ⟨rfl, rfl⟩ rfl rfl (fun r_22 => ?_)
          refine g_ic_ge C 67 dX0_findFalls_25 (by decide) (by omega) (fun c_25 => ?_) (fun c_25 => ?_)
          · refine g_inc_1 C dX0_findFalls_67 (by decide) rfl ?_
            refine g_goto C 10 dX0_findFalls_70 (by decide) ?_
            exact ih (a + 1) _ M2 (by omega) (by omega) (by omega) hs2 (kI0_row (by rw [kXnet_n, show M 7 0 1 = b by omega]; exact hW2))
          · refine g_aload_n C dX0_findFalls_28 rfl ?_
            refine g_getR C 18 dX0_findFalls_29 f_X0_35 ⟨rfl, rfl⟩ rfl (by decide) ?_
            refine g_iload_n C dX0_findFalls_32 rfl ?_
            refine g_aald C 5 60 dX0_findFalls_33 ⟨rfl, by decide, by decide⟩ (by decide) rfl (by omega) ?_
            refine g_iload_n C dX0_findFalls_34 rfl ?_
            refine g_aload_n C dX0_findFalls_35 rfl ?_
            refine g_aload_n C dX0_findFalls_36 rfl ?_
            refine g_getR C 8 dX0_findFalls_37 f_X0_11 ⟨rfl, rfl⟩ rfl (by decide) ?_
            refine g_iload_n C dX0_findFalls_40 rfl ?_
            refine g_aald C 1 60 dX0_findFalls_41 ⟨rfl, by decide, by decide⟩ (by decide) rfl (by omega) ?_
            refine g_aload_n C dX0_findFalls_42 rfl ?_
            refine g_getR C 8 dX0_findFalls_43 f_X0_11 ⟨rfl, rfl⟩ rfl (by decide) ?_
            refine g_iload_n C dX0_findFalls_46 rfl ?_
            refine g_aald C 1 60 dX0_findFalls_47 ⟨rfl, by decide, by decide⟩ (by decide) rfl (by omega) ?_
            refine g_callVi C dX0_findFalls_48 v_X0_155 (m_X0_isUnlike (h := 3) (by omega) hI a b M2 (by omega) (by omega) (fun _ _ q => q)) ⟨rfl, rfl⟩ rfl rfl (Nat.le_of_ble_eq_true rfl) (by omega) ?_
            rintro z M' ⟨⟨hz, rfl⟩ | ⟨hz, rfl⟩, rfl⟩
            · refine g_if_eq C 58 dX0_findFalls_51 (by decide) (by omega) (fun c_51 => ?_) (fun c_51 => ?_)
              · omega
              · refine g_iconst C dX0_findFalls_54 ?_
                refine g_goto C 60 dX0_findFalls_55 (by decide) ?_
                refine g_iast C 60 dX0_findFalls_60 ⟨rfl, rfl⟩ rfl (by omega) (by omega) ?_
                refine g_inc_2 C dX0_findFalls_61 (by decide) rfl ?_
                refine g_goto C 20 dX0_findFalls_64 (by decide) ?_
                rw [eN] at hz
                exact ih3 (b + 1) _ hab (by omega) (by omega) (by omega) (fun t ht => by rw [kUp_t ht]; exact hs2 t ht) (kI0_set hW2 (kRA_0.1 hz) (fun i k _ => kUp_if))
            · refine g_if_eq C 58 dX0_findFalls_51 (by decide) (by omega) (fun c_51 => ?_) (fun c_51 => ?_)
              · refine g_bipush C dX0_findFalls_58 (by decide) ?_
                refine g_iast C 60 dX0_findFalls_60 ⟨rfl, rfl⟩ rfl (by omega) (by omega) ?_
                refine g_inc_2 C dX0_findFalls_61 (by decide) rfl ?_
                refine g_goto C 20 dX0_findFalls_64 (by decide) ?_
                rw [eN] at hz
                exact ih3 (b + 1) _ hab (by omega) (by omega) (by omega) (fun t ht => by rw [kUp_t ht]; exact hs2 t ht) (kI0_set hW2 (kRA_0.2 hz) (fun i k _ => kUp_if))
              · omega
      have hm1 : M1 7 0 1 = M 7 0 1 := by rw [hs 7 (by decide)]
      refine g_iload_n C dX0_findFalls_10 rfl ?_
      refine g_aload_n C dX0_findFalls_11 rfl ?_
      refine g_getI C 1 dX0_findFalls_12 f_X0_94 ⟨rfl, rfl⟩ rfl rfl (fun r_12 => ?_)
      refine g_ic_ge C 73 dX0_findFalls_15 (by decide) (by omega) (fun c_15 => ?_) (fun c_15 => ?_)
      · refine g_iconst C dX0_findFalls_73 ?_
        refine g_istn_1 C dX0_findFalls_74 (by decide) rfl ?_
        refine g_iconst C dX0_findFalls_75 ?_
        refine g_istn_2 C dX0_findFalls_76 (by decide) rfl ?_
        have := kMu_le (M1 5) hn
        exact L2 3601 0 _ _ M1 (by omega) (by omega) (by omega) hs (fun i k hik => hW i k hik (Or.inl (by have := hik.1.2; rw [kXnet_n] at this; omega)))
      · refine g_iconst C dX0_findFalls_18 ?_
        refine g_istn_2 C dX0_findFalls_19 (by decide) rfl ?_
        exact inner ((M 7 0 1).toNat + 1) 0 M1 (by omega) (by omega) (by omega) (by omega) hs hW
  have h7 : M 7 0 8 ≠ 0 → kFF M M := by
    intro hne
    rcases hK with q | ⟨q, hF⟩
    · exact absurd q hne
    · exact ⟨fun _ _ _ => rfl, fun _ _ _ => rfl, q, hF⟩
  refine g_aload_n C dX0_findFalls_0 rfl ?_
  refine g_getI C 8 dX0_findFalls_1 f_X0_126 ⟨rfl, rfl⟩ rfl rfl (fun r_1 => ?_)
  refine g_if_eq C 8 dX0_findFalls_4 (by decide) (by omega) (fun c_4 => ?_) (fun c_4 => ?_)
  · refine g_iconst C dX0_findFalls_8 ?_
    refine g_istn_1 C dX0_findFalls_9 (by decide) rfl ?_
    exact R0 ((M 7 0 1).toNat + 1) 0 _ M (by omega) (by omega) (by omega) (fun _ _ => rfl) kI0_0
  · exact g_vret C dX0_findFalls_7 (hp _ _ (h7 c_4))
theorem m_X0_stands (hh : 5 ≤ h) (hI : kInj w) (i k : Int) (M : KM) (hN : kWF (kXnet M)) (hK : kKn M) (hi : 0 ≤ i ∧ i < M 7 0 1) (hk : 0 ≤ k ∧ k < M 7 0 1) (hp : ∀ z M', kFF M M' ∧ ((M' 5 i k = -6 ∧ z = 1) ∨ (M' 5 i k ≠ -6 ∧ z = 0)) → post z M') : kMet l w yX0_stands cX0_stands 3 (some .boolean) 1 h [vR 7 0, vI i, vI k] M post := by
  obtain ⟨hn, -, -, -, -⟩ := kXwf hN
  refine kMet_of [vR 7 0, vI i, vI k] (by decide) hI rfl rfl (Nat.le_of_ble_eq_true rfl) ?_
  intro p e s m args below meth c C hVok
  refine g_aload_n C dX0_stands_0 rfl ?_
  refine g_callVv C dX0_stands_1 v_X0_163 (m_X0_findFalls (h := 4) (by omega) hI M hN hK (fun _ _ q => q)) ⟨rfl, rfl⟩ rfl rfl (Nat.le_of_ble_eq_true rfl) (by omega) ?_
  rintro z M1 hF
  refine g_aload_n C dX0_stands_4 rfl ?_
  refine g_getR C 18 dX0_stands_5 f_X0_35 ⟨rfl, rfl⟩ rfl (by decide) ?_
  refine g_iload_n C dX0_stands_8 rfl ?_
  refine g_aald C 5 60 dX0_stands_9 ⟨rfl, by decide, by decide⟩ (by decide) rfl (by omega) ?_
  refine g_iload_n C dX0_stands_10 rfl ?_
  refine g_iald C 60 dX0_stands_11 ⟨rfl, rfl⟩ rfl (by omega) (fun r_11 => ?_)
  refine g_bipush C dX0_stands_12 (by decide) ?_
  refine g_ic_ne C 21 dX0_stands_14 (by decide) (by omega) (fun c_14 => ?_) (fun c_14 => ?_)
  · refine g_iconst C dX0_stands_21 ?_
    exact g_zret C dX0_stands_22 (by omega) (hp _ _ ⟨hF, by omega⟩)
  · refine g_iconst C dX0_stands_17 ?_
    refine g_goto C 22 dX0_stands_18 (by decide) ?_
    exact g_zret C dX0_stands_22 (by omega) (hp _ _ ⟨hF, by omega⟩)
theorem m_X0_may (hh : 6 ≤ h) (hI : kInj w) (i k : Int) (M : KM) (hN : kWF (kXnet M)) (hK : kKn M) (hi : -2147483648 ≤ i ∧ i < 2147483648) (hk : -2147483648 ≤ k ∧ k < 2147483648) (hp : ∀ z M', (¬ kIn2 (kXnet M) i k ∧ z = -1 ∧ M = M') ∨ (kIn2 (kXnet M) i k ∧ kFF M M' ∧ ((M' 5 i k = -6 ∧ z = 1) ∨ (M' 5 i k ≠ -6 ∧ z = 0))) → post z M') : kMet l w yX0_may cX0_may 3 (some .int) 1 h [vR 7 0, vI i, vI k] M post := by
  obtain ⟨hn, -, -, -, -⟩ := kXwf hN
  simp only [kIn2, kXnet_n] at hp
  refine kMet_of [vR 7 0, vI i, vI k] (by decide) hI rfl rfl (Nat.le_of_ble_eq_true rfl) ?_
  intro p e s m args below meth c C hVok
  refine g_aload_n C dX0_may_0 rfl ?_
  refine g_iload_n C dX0_may_1 rfl ?_
  refine g_callVi C dX0_may_2 v_X0_132 (m_X0_isNode (h := 2) (by omega) hI i M (by omega) hn (fun _ _ q => q)) ⟨rfl, rfl⟩ rfl rfl (Nat.le_of_ble_eq_true rfl) (by omega) ?_
  rintro z M' ⟨hz, rfl⟩
  refine g_if_eq C 33 dX0_may_5 (by decide) (by omega) (fun c_5 => ?_) (fun c_5 => ?_)
  · refine g_iconst C dX0_may_33 ?_
    exact g_iret C dX0_may_34 (hp _ _ (by first | exact Or.inl ⟨by omega, rfl, rfl⟩ | exact Or.inr ⟨by omega, hF, by omega⟩))
  · refine g_aload_n C dX0_may_8 rfl ?_
    refine g_iload_n C dX0_may_9 rfl ?_
    refine g_callVi C dX0_may_10 v_X0_132 (m_X0_isNode (h := 2) (by omega) hI k M (by omega) hn (fun _ _ q => q)) ⟨rfl, rfl⟩ rfl rfl (Nat.le_of_ble_eq_true rfl) (by omega) ?_
    rintro z2 M' ⟨hz2, rfl⟩
    refine g_if_eq C 33 dX0_may_13 (by decide) (by omega) (fun c_13 => ?_) (fun c_13 => ?_)
    · refine g_iconst C dX0_may_33 ?_
      exact g_iret C dX0_may_34 (hp _ _ (by first | exact Or.inl ⟨by omega, rfl, rfl⟩ | exact Or.inr ⟨by omega, hF, by omega⟩))
    · refine g_aload_n C dX0_may_16 rfl ?_
      refine g_iload_n C dX0_may_17 rfl ?_
      refine g_iload_n C dX0_may_18 rfl ?_
      refine g_callVi C dX0_may_19 v_X0_166 (m_X0_stands (h := 5) (by omega) hI i k M hN hK (by omega) (by omega) (fun _ _ q => q)) ⟨rfl, rfl⟩ rfl rfl (Nat.le_of_ble_eq_true rfl) (by omega) ?_
      rintro z3 M1 ⟨hF, hz3⟩
      refine g_if_eq C 29 dX0_may_22 (by decide) (by omega) (fun c_22 => ?_) (fun c_22 => ?_)
      · refine g_iconst C dX0_may_29 ?_
        refine g_goto C 34 dX0_may_30 (by decide) ?_
        exact g_iret C dX0_may_34 (hp _ _ (by first | exact Or.inl ⟨by omega, rfl, rfl⟩ | exact Or.inr ⟨by omega, hF, by omega⟩))
      · refine g_iconst C dX0_may_25 ?_
        refine g_goto C 34 dX0_may_26 (by decide) ?_
        exact g_iret C dX0_may_34 (hp _ _ (by first | exact Or.inl ⟨by omega, rfl, rfl⟩ | exact Or.inr ⟨by omega, hF, by omega⟩))
theorem m_X0_areAlike (hh : 6 ≤ h) (hI : kInj w) (i k : Int) (M : KM) (hN : kWF (kXnet M)) (hK : kKn M) (hi : 0 ≤ i ∧ i < M 7 0 1) (hk : 0 ≤ k ∧ k < M 7 0 1) (hp : ∀ z M', kFF M M' ∧ (((M' 5 i k = -6 ∧ M' 5 k i = -6) ∧ z = 1) ∨ ((M' 5 i k ≠ -6 ∨ M' 5 k i ≠ -6) ∧ z = 0)) → post z M') : kMet l w yX0_areAlike cX0_areAlike 3 (some .boolean) 1 h [vR 7 0, vI i, vI k] M post := by
  obtain ⟨hn, -, -, -, -⟩ := kXwf hN
  refine kMet_of [vR 7 0, vI i, vI k] (by decide) hI rfl rfl (Nat.le_of_ble_eq_true rfl) ?_
  intro p e s m args below meth c C hVok
  refine g_aload_n C dX0_areAlike_0 rfl ?_
  refine g_iload_n C dX0_areAlike_1 rfl ?_
  refine g_iload_n C dX0_areAlike_2 rfl ?_
  refine g_callVi C dX0_areAlike_3 v_X0_166 (m_X0_stands (h := 5) (by omega) hI i k M hN hK (by omega) (by omega) (fun _ _ q => q)) ⟨rfl, rfl⟩ rfl rfl (Nat.le_of_ble_eq_true rfl) (by omega) ?_
  rintro z M1 ⟨hF, hz⟩
  have hm1 := hF.many
  refine g_if_eq C 22 dX0_areAlike_6 (by decide) (by omega) (fun c_6 => ?_) (fun c_6 => ?_)
  · refine g_iconst C dX0_areAlike_22 ?_
    exact g_zret C dX0_areAlike_23 (by omega) (hp _ _ ⟨hF, by omega⟩)
  · refine g_aload_n C dX0_areAlike_9 rfl ?_
    refine g_iload_n C dX0_areAlike_10 rfl ?_
    refine g_iload_n C dX0_areAlike_11 rfl ?_
    refine g_callVi C dX0_areAlike_12 v_X0_166 (m_X0_stands (h := 5) (by omega) hI k i M1 (by rw [hF.net]; exact hN) hF.kn (by omega) (by omega) (fun _ _ q => q)) ⟨rfl, rfl⟩ rfl rfl (Nat.le_of_ble_eq_true rfl) (by omega) ?_
    rintro z2 M2 ⟨hF2, hz2⟩
    have e1 : M2 5 i k = M1 5 i k := by
      have a := hF2.2.2.2 i k ⟨by rw [kXnet_n]; omega, by rw [kXnet_n]; omega⟩
      have b := hF.2.2.2 i k ⟨by rw [kXnet_n]; omega, by rw [kXnet_n]; omega⟩
      rw [hF.net] at a
      exact kFN_uniq a b
    have hF := hF.trans hF2
    refine g_if_eq C 22 dX0_areAlike_15 (by decide) (by omega) (fun c_15 => ?_) (fun c_15 => ?_)
    · refine g_iconst C dX0_areAlike_22 ?_
      exact g_zret C dX0_areAlike_23 (by omega) (hp _ _ ⟨hF, by omega⟩)
    · refine g_iconst C dX0_areAlike_18 ?_
      refine g_goto C 23 dX0_areAlike_19 (by decide) ?_
      exact g_zret C dX0_areAlike_23 (by omega) (hp _ _ ⟨hF, by omega⟩)
theorem m_X0_alike (hh : 7 ≤ h) (hI : kInj w) (i k : Int) (M : KM) (hN : kWF (kXnet M)) (hK : kKn M) (hi : -2147483648 ≤ i ∧ i < 2147483648) (hk : -2147483648 ≤ k ∧ k < 2147483648) (hp : ∀ z M', (¬ kIn2 (kXnet M) i k ∧ z = -1 ∧ M = M') ∨ (kIn2 (kXnet M) i k ∧ kFF M M' ∧ (((M' 5 i k = -6 ∧ M' 5 k i = -6) ∧ z = 1) ∨ ((M' 5 i k ≠ -6 ∨ M' 5 k i ≠ -6) ∧ z = 0))) → post z M') : kMet l w yX0_alike cX0_alike 3 (some .int) 1 h [vR 7 0, vI i, vI k] M post := by
  obtain ⟨hn, -, -, -, -⟩ := kXwf hN
  simp only [kIn2, kXnet_n] at hp
  refine kMet_of [vR 7 0, vI i, vI k] (by decide) hI rfl rfl (Nat.le_of_ble_eq_true rfl) ?_
  intro p e s m args below meth c C hVok
  refine g_aload_n C dX0_alike_0 rfl ?_
  refine g_iload_n C dX0_alike_1 rfl ?_
  refine g_callVi C dX0_alike_2 v_X0_132 (m_X0_isNode (h := 2) (by omega) hI i M (by omega) hn (fun _ _ q => q)) ⟨rfl, rfl⟩ rfl rfl (Nat.le_of_ble_eq_true rfl) (by omega) ?_
  rintro z M' ⟨hz, rfl⟩
  refine g_if_eq C 33 dX0_alike_5 (by decide) (by omega) (fun c_5 => ?_) (fun c_5 => ?_)
  · refine g_iconst C dX0_alike_33 ?_
    exact g_iret C dX0_alike_34 (hp _ _ (by first | exact Or.inl ⟨by omega, rfl, rfl⟩ | exact Or.inr ⟨by omega, hF, by omega⟩))
  · refine g_aload_n C dX0_alike_8 rfl ?_
    refine g_iload_n C dX0_alike_9 rfl ?_
    refine g_callVi C dX0_alike_10 v_X0_132 (m_X0_isNode (h := 2) (by omega) hI k M (by omega) hn (fun _ _ q => q)) ⟨rfl, rfl⟩ rfl rfl (Nat.le_of_ble_eq_true rfl) (by omega) ?_
    rintro z2 M' ⟨hz2, rfl⟩
    refine g_if_eq C 33 dX0_alike_13 (by decide) (by omega) (fun c_13 => ?_) (fun c_13 => ?_)
    · refine g_iconst C dX0_alike_33 ?_
      exact g_iret C dX0_alike_34 (hp _ _ (by first | exact Or.inl ⟨by omega, rfl, rfl⟩ | exact Or.inr ⟨by omega, hF, by omega⟩))
    · refine g_aload_n C dX0_alike_16 rfl ?_
      refine g_iload_n C dX0_alike_17 rfl ?_
      refine g_iload_n C dX0_alike_18 rfl ?_
      refine g_callVi C dX0_alike_19 v_X0_174 (m_X0_areAlike (h := 6) (by omega) hI i k M hN hK (by omega) (by omega) (fun _ _ q => q)) ⟨rfl, rfl⟩ rfl rfl (Nat.le_of_ble_eq_true rfl) (by omega) ?_
      rintro z3 M1 ⟨hF, hz3⟩
      refine g_if_eq C 29 dX0_alike_22 (by decide) (by omega) (fun c_22 => ?_) (fun c_22 => ?_)
      · refine g_iconst C dX0_alike_29 ?_
        refine g_goto C 34 dX0_alike_30 (by decide) ?_
        exact g_iret C dX0_alike_34 (hp _ _ (by first | exact Or.inl ⟨by omega, rfl, rfl⟩ | exact Or.inr ⟨by omega, hF, by omega⟩))
      · refine g_iconst C dX0_alike_25 ?_
        refine g_goto C 34 dX0_alike_26 (by decide) ?_
        exact g_iret C dX0_alike_34 (hp _ _ (by first | exact Or.inl ⟨by omega, rfl, rfl⟩ | exact Or.inr ⟨by omega, hF, by omega⟩))
end

