/-! KindNetsModel: layLeast, least -/
set_option maxRecDepth 100000
theorem kLsum_le {N : KN} (hN : kWF N) {g : Int → Int} (h : ∀ i, kRn N i → 0 ≤ g i ∧ g i ≤ 100000) {i : Int} (hi : kRn N i) : ∀ n : Nat, n ≤ 8 → kLsum N g i n ≤ 100000 * n
  | 0, _ => Int.le_refl _
  | n + 1, hn => by
    have ih := kLsum_le hN h hi n (by omega)
    unfold kLsum at ih ⊢
    show kSum _ n + (if N.2.2 i n = -6 then 0 else g (N.2.2 i n)) ≤ 100000 * ((n + 1 : Nat) : Int)
    split
    · omega
    · have := h (N.2.2 i n) (by have := hN.2.2.1 i n hi.1 hi.2 (by omega) (by omega); unfold kRn; omega)
      omega
def kLG (M M' : KM) : Prop := (∀ t, t ≠ 54 → M' t = M t) ∧ kLst (kMnet M) (fun i => min 41 (M' 54 0 i))
theorem kLG.net {M M' : KM} (h : kLG M M') : kMnet M' = kMnet M := kMnet_eq (h.1 32 (by decide)) (h.1 33 (by decide)) (by rw [h.1 30 (by decide)])
section
variable {l : Launch} {w : KL} {h : Nat} {post : Int → KM → Prop}
theorem m_X4_layLeast (hI : kInj w) (M : KM) (hN : kWF (kMnet M)) (hp : ∀ z M', kLG M M' → post z M') : kMet l w yX4_layLeast cX4_layLeast 8 none 0 h [vR 30 0] M post := by
  obtain ⟨hn, -, hpt, -, -⟩ := kMwf hN
  have NET : ∀ M1 : KM, (∀ t, t ≠ 54 → M1 t = M t) → M1 30 0 2 = M 30 0 2 ∧ M1 32 = M 32 ∧ M1 33 = M 33 := by
    intro M1 hs
    exact ⟨by rw [hs 30 (by decide)], hs 32 (by decide), hs 33 (by decide)⟩
  refine kMet_of [vR 30 0, vN, vN, vN, vN, vN, vN, vN] (by decide) hI rfl rfl (Nat.le_of_ble_eq_true rfl) ?_
  intro p e s m args below meth c C hVok
  have L2 : ∀ (n : Nat) (x2 x3 x4 x5 x6 x7 : KV) (M0 : KM), kSum (M0 54 0) (M 30 0 2).toNat < n → (∀ t, t ≠ 54 → M0 t = M t) → kML (kMnet M) (M0 54 0) → kG p l e h s m args below meth c w 8 0 post 26 [vR 30 0, vI 1, x2, x3, x4, x5, x6, x7] [] (M0) := by
    intro n
    induction n with
    | zero =>
      intro x2 x3 x4 x5 x6 x7 M0 h1 h2 h3
      have := kSum_nn (g := M0 54 0) (n := (M 30 0 2).toNat) (fun k k1 k2 => (h3.1 k ⟨k1, by rw [kMnet_n]; omega⟩).1)
      omega
    | succ n ihr =>
      intro x2 x3 x4 x5 x6 x7 M0 hlt hs0 h0
      have R1 : ∀ (n2 : Nat) (a mr : Int) (x3 x4 x5 x6 x7 : KV) (M1 : KM), 0 ≤ a → a ≤ M 30 0 2 → M 30 0 2 + 1 ≤ a + n2 → (∀ t, t ≠ 54 → M1 t = M t) → kMLs (kMnet M) (M0 54 0) (M1 54 0) a mr → (mr = 0 ∨ mr = 1) → kG p l e h s m args below meth c w 8 0 post 34 [vR 30 0, vI mr, vI a, x3, x4, x5, x6, x7] [] (M1) := by
        intro n2
        induction n2 with
        | zero => intro a mr x3 x4 x5 x6 x7 M1 h1 h2 h3; omega
        | succ n2 ih =>
          intro a mr x3 x4 x5 x6 x7 M1 ha1 ha2 ha3 hs hW hmr
          obtain ⟨hm1, e32, e33⟩ := NET M1 hs
          have hG := hW.1.1
          have TAIL : ∀ (v : Int) (x3 x4 x5 x6 x7 : KV), a < M 30 0 2 → v = kLv (kMnet M) 100000 (M1 54 0) a → (-2147483648 ≤ v ∧ v < 2147483648) → kG p l e h s m args below meth c w 8 0 post 194 [vR 30 0, vI mr, vI a, x3, x4, x5, vI v, x7] [] (M1) := by
            intro v x3 x4 x5 x6 x7 hlt2 hv hvr
            have hra := hG a ⟨ha1, hlt2⟩
            have hmr' : ∀ u : Unit, mr = 0 ∨ mr = 1 := fun _ => hmr
            clear hmr
            refine g_iload C dX4_layLeast_194 rfl ?_
            refine g_aload_n C dX4_layLeast_196 rfl ?_
            refine g_getR C 54 dX4_layLeast_197 f_X4_81 ⟨rfl, rfl⟩ rfl (by decide) ?_
            refine g_iload_n C dX4_layLeast_200 rfl ?_
            refine g_iald C 60 dX4_layLeast_201 ⟨rfl, rfl⟩ rfl (by omega) (fun r_201 => ?_)
            refine g_ic_ge C 215 dX4_layLeast_202 (by decide) (by omega) (fun c_202 => ?_) (fun c_202 => ?_)
            · refine g_inc_2 C dX4_layLeast_215 (by decide) rfl ?_
              refine g_goto C 34 dX4_layLeast_218 (by decide) ?_
              exact ih (a + 1) mr _ _ _ _ _ M1 (by omega) (by omega) (by omega) hs (kMLs_skip hN hW (fun _ => by rw [← hv]; omega)) (hmr' ())
            · refine g_aload_n C dX4_layLeast_205 rfl ?_
              refine g_getR C 54 dX4_layLeast_206 f_X4_81 ⟨rfl, rfl⟩ rfl (by decide) ?_
              refine g_iload_n C dX4_layLeast_209 rfl ?_
              refine g_iload C dX4_layLeast_210 rfl ?_
              refine g_iast C 60 dX4_layLeast_212 ⟨rfl, rfl⟩ rfl (by omega) (by omega) ?_
              refine g_iconst C dX4_layLeast_213 ?_
              refine g_istn_1 C dX4_layLeast_214 (by decide) rfl ?_
              refine g_inc_2 C dX4_layLeast_215 (by decide) rfl ?_
              refine g_goto C 34 dX4_layLeast_218 (by decide) ?_
              refine ih (a + 1) 1 _ _ _ _ _ _ (by omega) (by omega) (by omega) (fun t ht => by rw [kUp_t ht]; exact hs t ht) (kMLs_set hN hW ⟨ha1, hlt2⟩ hv (by omega) (fun i _ => ?_)) (Or.inr rfl)
              simp [kUp]
          -- the parts
          have P : ∀ k, a < M 30 0 2 → 0 ≤ k → k < 8 → 0 ≤ M 33 0 (8 * a + k) → (M 33 0 (8 * a + k) < M 30 0 2) ∧ (0 ≤ M1 54 0 (M 33 0 (8 * a + k)) ∧ M1 54 0 (M 33 0 (8 * a + k)) ≤ 100000) := by
            intro k h9 h1 h8 hne
            have q := hpt a k ha1 h9 h1 h8
            have b : 0 ≤ M 33 0 (8 * a + k) ∧ M 33 0 (8 * a + k) < M 30 0 2 := by omega
            exact ⟨b.2, hG _ b⟩
          have P6 : ∀ k, a < M 30 0 2 → 0 ≤ k → k < 8 → M 33 0 (8 * a + k) < 0 → M 33 0 (8 * a + k) = -6 := by
            intro k h9 h1 h8 hne
            have q := hpt a k ha1 h9 h1 h8
            omega
          have BS : ∀ n : Nat, a < M 30 0 2 → n ≤ 8 → 0 ≤ kLsum (kMnet M) (M1 54 0) a n ∧ kLsum (kMnet M) (M1 54 0) a n ≤ 100000 * n := fun n h9 hn => ⟨kLsum_pos hN (fun j hj => (hG j hj).1) ⟨ha1, h9⟩ n hn, kLsum_le hN hG ⟨ha1, h9⟩ n hn⟩
          have BM : ∀ n : Nat, a < M 30 0 2 → n ≤ 8 → 0 ≤ kLmin (kMnet M) 100000 (M1 54 0) a n ∧ kLmin (kMnet M) 100000 (M1 54 0) a n ≤ 100000 := fun n h9 hn => kLmin_pos hN (by omega) (fun j hj => (hG j hj).1) ⟨ha1, h9⟩ n hn
          have E : a < M 30 0 2 → kLv (kMnet M) 100000 (M1 54 0) a = if M 32 0 a = 110 ∨ M 32 0 a = 116 ∨ M 32 0 a = 115 ∨ M 32 0 a = 42 then 1 else if M 32 0 a = 123 then 1 + kLsum (kMnet M) (M1 54 0) a 8 else if M 32 0 a = 91 then kLmin (kMnet M) 100000 (M1 54 0) a 8 + 1 else 100000 := by
            intro h9
            unfold kLv
            rw [kMnet_s ⟨ha1, h9⟩]
          have L : ∀ (n : Nat) (k : Int) (x7 : KV), (-2147483648 ≤ M 32 0 a ∧ M 32 0 a < 2147483648) → a < M 30 0 2 → 0 ≤ k → k ≤ 8 → 9 ≤ k + n → kG p l e h s m args below meth c w 8 0 post 59 [vR 30 0, vI mr, vI a, vI (M 32 0 a), vI (1 + kLsum (kMnet M) (M1 54 0) a k.toNat), vI (kLmin (kMnet M) 100000 (M1 54 0) a k.toNat), vI k, x7] [] (M1) := by
            intro n3
            induction n3 with
            | zero => intro k x7 hsr h9 h1 h2 h3; omega
            | succ n3 ih3 =>
              intro k x7 hsr h9 h1 h2 h3
              have ih := ih3 (k + 1)
              clear ih3
              rw [kLsum_1 h1, kLmin_1 h1] at ih
              have bs := BS k.toNat h9 (by omega)
              have bm := BM k.toNat h9 (by omega)
              have EP : k < 8 → (kMnet M).2.2 a k = M 33 0 (8 * a + k) := fun h8 => kMnet_p ⟨ha1, h9⟩ ⟨h1, h8⟩
              obtain ⟨s1, es⟩ : ∃ s1, s1 = kLsum (kMnet M) (M1 54 0) a k.toNat := ⟨_, rfl⟩
              obtain ⟨b1, eb⟩ : ∃ b1, b1 = kLmin (kMnet M) 100000 (M1 54 0) a k.toNat := ⟨_, rfl⟩
              rw [← es] at bs ih ⊢
              rw [← eb] at bm ih ⊢
              clear hmr
              refine g_iload C dX4_layLeast_59 rfl ?_
              refine g_bipush C dX4_layLeast_61 (by decide) ?_
              refine g_ic_ge C 138 dX4_layLeast_63 (by decide) (by omega) (fun c_63 => ?_) (fun c_63 => ?_)
              · rw [show k.toNat = 8 by omega] at es eb bs
                have E := E h9
                rw [← es, ← eb] at E
                clear ih P P6 EP BS BM
                refine g_iload_n C dX4_layLeast_138 rfl ?_
                refine g_bipush C dX4_layLeast_139 (by decide) ?_
                refine g_ic_eq C 162 dX4_layLeast_141 (by decide) (by omega) (fun c_141 => ?_) (fun c_141 => ?_)
                · refine g_iconst C dX4_layLeast_162 ?_
                  refine g_goto C 192 dX4_layLeast_163 (by decide) ?_
                  refine g_ist_6 C dX4_layLeast_192 (by decide) rfl ?_
                  first
                    | exact TAIL _ _ _ _ (vI 0) _ h9 (by rw [E, if_pos (by omega)]) (by omega)
                    | exact TAIL _ _ _ _ (vI 0) _ h9 (by rw [E, if_neg (by omega), if_pos (by omega)]) (by omega)
                    | exact TAIL _ _ _ _ (vI 0) _ h9 (by rw [E, if_neg (by omega), if_neg (by omega), if_pos (by omega)]) (by omega)
                    | exact TAIL _ _ _ _ (vI 0) _ h9 (by rw [E, if_neg (by omega), if_neg (by omega), if_neg (by omega)]) (by omega)
                · refine g_iload_n C dX4_layLeast_144 rfl ?_
                  refine g_bipush C dX4_layLeast_145 (by decide) ?_
                  refine g_ic_eq C 162 dX4_layLeast_147 (by decide) (by omega) (fun c_147 => ?_) (fun c_147 => ?_)
                  · refine g_iconst C dX4_layLeast_162 ?_
                    refine g_goto C 192 dX4_layLeast_163 (by decide) ?_
                    refine g_ist_6 C dX4_layLeast_192 (by decide) rfl ?_
                    first
                      | exact TAIL _ _ _ _ (vI 0) _ h9 (by rw [E, if_pos (by omega)]) (by omega)
                      | exact TAIL _ _ _ _ (vI 0) _ h9 (by rw [E, if_neg (by omega), if_pos (by omega)]) (by omega)
                      | exact TAIL _ _ _ _ (vI 0) _ h9 (by rw [E, if_neg (by omega), if_neg (by omega), if_pos (by omega)]) (by omega)
                      | exact TAIL _ _ _ _ (vI 0) _ h9 (by rw [E, if_neg (by omega), if_neg (by omega), if_neg (by omega)]) (by omega)
                  · refine g_iload_n C dX4_layLeast_150 rfl ?_
                    refine g_bipush C dX4_layLeast_151 (by decide) ?_
                    refine g_ic_eq C 162 dX4_layLeast_153 (by decide) (by omega) (fun c_153 => ?_) (fun c_153 => ?_)
                    · refine g_iconst C dX4_layLeast_162 ?_
                      refine g_goto C 192 dX4_layLeast_163 (by decide) ?_
                      refine g_ist_6 C dX4_layLeast_192 (by decide) rfl ?_
                      first
                        | exact TAIL _ _ _ _ (vI 0) _ h9 (by rw [E, if_pos (by omega)]) (by omega)
                        | exact TAIL _ _ _ _ (vI 0) _ h9 (by rw [E, if_neg (by omega), if_pos (by omega)]) (by omega)
                        | exact TAIL _ _ _ _ (vI 0) _ h9 (by rw [E, if_neg (by omega), if_neg (by omega), if_pos (by omega)]) (by omega)
                        | exact TAIL _ _ _ _ (vI 0) _ h9 (by rw [E, if_neg (by omega), if_neg (by omega), if_neg (by omega)]) (by omega)
                    · refine g_iload_n C dX4_layLeast_156 rfl ?_
                      refine g_bipush C dX4_layLeast_157 (by decide) ?_
                      refine g_ic_ne C 166 dX4_layLeast_159 (by decide) (by omega) (fun c_159 => ?_) (fun c_159 => ?_)
                      · refine g_iload_n C dX4_layLeast_166 rfl ?_
                        refine g_bipush C dX4_layLeast_167 (by decide) ?_
                        refine g_ic_ne C 177 dX4_layLeast_169 (by decide) (by omega) (fun c_169 => ?_) (fun c_169 => ?_)
                        · refine g_iload_n C dX4_layLeast_177 rfl ?_
                          refine g_bipush C dX4_layLeast_178 (by decide) ?_
                          refine g_ic_ne C 190 dX4_layLeast_180 (by decide) (by omega) (fun c_180 => ?_) (fun c_180 => ?_)
                          · refine g_ldc C (100000) q683 dX4_layLeast_190 (by decide) ?_
                            refine g_ist_6 C dX4_layLeast_192 (by decide) rfl ?_
                            first
                              | exact TAIL _ _ _ _ (vI 0) _ h9 (by rw [E, if_pos (by omega)]) (by omega)
                              | exact TAIL _ _ _ _ (vI 0) _ h9 (by rw [E, if_neg (by omega), if_pos (by omega)]) (by omega)
                              | exact TAIL _ _ _ _ (vI 0) _ h9 (by rw [E, if_neg (by omega), if_neg (by omega), if_pos (by omega)]) (by omega)
                              | exact TAIL _ _ _ _ (vI 0) _ h9 (by rw [E, if_neg (by omega), if_neg (by omega), if_neg (by omega)]) (by omega)
                          · refine g_iload C dX4_layLeast_183 rfl ?_
                            refine g_iconst C dX4_layLeast_185 ?_
                            refine g_iadd C dX4_layLeast_186 ?_
                            refine g_goto C 192 dX4_layLeast_187 (by decide) ?_
                            refine g_ist_6 C dX4_layLeast_192 (by decide) rfl ?_
                            first
                              | exact TAIL _ _ _ _ (vI 0) _ h9 (by rw [E, if_pos (by omega)]) (by omega)
                              | exact TAIL _ _ _ _ (vI 0) _ h9 (by rw [E, if_neg (by omega), if_pos (by omega)]) (by omega)
                              | exact TAIL _ _ _ _ (vI 0) _ h9 (by rw [E, if_neg (by omega), if_neg (by omega), if_pos (by omega)]) (by omega)
                              | exact TAIL _ _ _ _ (vI 0) _ h9 (by rw [E, if_neg (by omega), if_neg (by omega), if_neg (by omega)]) (by omega)
                        · refine g_iload C dX4_layLeast_172 rfl ?_
                          refine g_goto C 192 dX4_layLeast_174 (by decide) ?_
                          refine g_ist_6 C dX4_layLeast_192 (by decide) rfl ?_
                          first
                            | exact TAIL _ _ _ _ (vI 0) _ h9 (by rw [E, if_pos (by omega)]) (by omega)
                            | exact TAIL _ _ _ _ (vI 0) _ h9 (by rw [E, if_neg (by omega), if_pos (by omega)]) (by omega)
                            | exact TAIL _ _ _ _ (vI 0) _ h9 (by rw [E, if_neg (by omega), if_neg (by omega), if_pos (by omega)]) (by omega)
                            | exact TAIL _ _ _ _ (vI 0) _ h9 (by rw [E, if_neg (by omega), if_neg (by omega), if_neg (by omega)]) (by omega)
                      · refine g_iconst C dX4_layLeast_162 ?_
                        refine g_goto C 192 dX4_layLeast_163 (by decide) ?_
                        refine g_ist_6 C dX4_layLeast_192 (by decide) rfl ?_
                        first
                          | exact TAIL _ _ _ _ (vI 0) _ h9 (by rw [E, if_pos (by omega)]) (by omega)
                          | exact TAIL _ _ _ _ (vI 0) _ h9 (by rw [E, if_neg (by omega), if_pos (by omega)]) (by omega)
                          | exact TAIL _ _ _ _ (vI 0) _ h9 (by rw [E, if_neg (by omega), if_neg (by omega), if_pos (by omega)]) (by omega)
                          | exact TAIL _ _ _ _ (vI 0) _ h9 (by rw [E, if_neg (by omega), if_neg (by omega), if_neg (by omega)]) (by omega)
              · refine g_aload_n C dX4_layLeast_66 rfl ?_
                refine g_getR C 33 dX4_layLeast_67 f_X4_16 ⟨rfl, rfl⟩ rfl (by decide) ?_
                refine g_bipush C dX4_layLeast_70 (by decide) ?_
                refine g_iload_n C dX4_layLeast_72 rfl ?_
                refine g_imul C dX4_layLeast_73 ?_
                refine g_iload C dX4_layLeast_74 rfl ?_
                refine g_iadd C dX4_layLeast_76 ?_
                refine g_iald C 480 dX4_layLeast_77 ⟨rfl, rfl⟩ rfl (by omega) (fun r_77 => ?_)
                rw [e33] at r_77 ⊢
                refine g_ist_7 C dX4_layLeast_78 (by decide) rfl ?_
                refine g_iload C dX4_layLeast_80 rfl ?_
                refine g_iload C dX4_layLeast_82 rfl ?_
                refine g_if_lt C 97 dX4_layLeast_84 (by decide) (by omega) (fun c_84 => ?_) (fun c_84 => ?_)
                · refine g_iconst C dX4_layLeast_97 ?_
                  refine g_iadd C dX4_layLeast_98 ?_
                  refine g_ist_4 C dX4_layLeast_99 (by decide) rfl ?_
                  refine g_iload C dX4_layLeast_101 rfl ?_
                  refine g_if_lt C 128 dX4_layLeast_103 (by decide) (by omega) (fun c_103 => ?_) (fun c_103 => ?_)
                  · refine g_iload C dX4_layLeast_128 rfl ?_
                    refine g_ist_5 C dX4_layLeast_130 (by decide) rfl ?_
                    refine g_inc_6 C dX4_layLeast_132 (by decide) rfl ?_
                    refine g_goto C 59 dX4_layLeast_135 (by decide) ?_
                    first
                      | (have p6 := P6 k h9 h1 (by omega) (by omega)
                         rw [EP (by omega), if_pos p6, if_pos p6, ← Int.add_assoc] at ih
                         exact ih _ hsr h9 (by omega) (by omega) (by omega))
                      | (rw [EP (by omega), if_neg (by omega), if_neg (by omega)] at ih
                         first
                           | (rw [show min b1 (M1 54 0 (M 33 0 (8 * a + k))) = M1 54 0 (M 33 0 (8 * a + k)) by omega, ← Int.add_assoc] at ih
                              exact ih _ hsr h9 (by omega) (by omega) (by omega))
                           | (rw [show min b1 (M1 54 0 (M 33 0 (8 * a + k))) = b1 by omega, ← Int.add_assoc] at ih
                              exact ih _ hsr h9 (by omega) (by omega) (by omega)))
                  · omega
                · obtain ⟨p1, p2⟩ := P k h9 h1 (by omega) (by omega)
                  refine g_aload_n C dX4_layLeast_87 rfl ?_
                  refine g_getR C 54 dX4_layLeast_88 f_X4_81 ⟨rfl, rfl⟩ rfl (by decide) ?_
                  refine g_iload C dX4_layLeast_91 rfl ?_
                  refine g_iald C 60 dX4_layLeast_93 ⟨rfl, rfl⟩ rfl (by omega) (fun r_93 => ?_)
                  refine g_goto C 98 dX4_layLeast_94 (by decide) ?_
                  refine g_iadd C dX4_layLeast_98 ?_
                  refine g_ist_4 C dX4_layLeast_99 (by decide) rfl ?_
                  refine g_iload C dX4_layLeast_101 rfl ?_
                  refine g_if_lt C 128 dX4_layLeast_103 (by decide) (by omega) (fun c_103 => ?_) (fun c_103 => ?_)
                  · omega
                  · refine g_aload_n C dX4_layLeast_106 rfl ?_
                    refine g_getR C 54 dX4_layLeast_107 f_X4_81 ⟨rfl, rfl⟩ rfl (by decide) ?_
                    refine g_iload C dX4_layLeast_110 rfl ?_
                    refine g_iald C 60 dX4_layLeast_112 ⟨rfl, rfl⟩ rfl (by omega) (fun r_112 => ?_)
                    refine g_iload C dX4_layLeast_113 rfl ?_
                    refine g_ic_ge C 128 dX4_layLeast_115 (by decide) (by omega) (fun c_115 => ?_) (fun c_115 => ?_)
                    · refine g_iload C dX4_layLeast_128 rfl ?_
                      refine g_ist_5 C dX4_layLeast_130 (by decide) rfl ?_
                      refine g_inc_6 C dX4_layLeast_132 (by decide) rfl ?_
                      refine g_goto C 59 dX4_layLeast_135 (by decide) ?_
                      first
                        | (have p6 := P6 k h9 h1 (by omega) (by omega)
                           rw [EP (by omega), if_pos p6, if_pos p6, ← Int.add_assoc] at ih
                           exact ih _ hsr h9 (by omega) (by omega) (by omega))
                        | (rw [EP (by omega), if_neg (by omega), if_neg (by omega)] at ih
                           first
                             | (rw [show min b1 (M1 54 0 (M 33 0 (8 * a + k))) = M1 54 0 (M 33 0 (8 * a + k)) by omega, ← Int.add_assoc] at ih
                                exact ih _ hsr h9 (by omega) (by omega) (by omega))
                             | (rw [show min b1 (M1 54 0 (M 33 0 (8 * a + k))) = b1 by omega, ← Int.add_assoc] at ih
                                exact ih _ hsr h9 (by omega) (by omega) (by omega)))
                    · refine g_aload_n C dX4_layLeast_118 rfl ?_
                      refine g_getR C 54 dX4_layLeast_119 f_X4_81 ⟨rfl, rfl⟩ rfl (by decide) ?_
                      refine g_iload C dX4_layLeast_122 rfl ?_
                      refine g_iald C 60 dX4_layLeast_124 ⟨rfl, rfl⟩ rfl (by omega) (fun r_124 => ?_)
                      refine g_goto C 130 dX4_layLeast_125 (by decide) ?_
                      refine g_ist_5 C dX4_layLeast_130 (by decide) rfl ?_
                      refine g_inc_6 C dX4_layLeast_132 (by decide) rfl ?_
                      refine g_goto C 59 dX4_layLeast_135 (by decide) ?_
                      first
                        | (have p6 := P6 k h9 h1 (by omega) (by omega)
                           rw [EP (by omega), if_pos p6, if_pos p6, ← Int.add_assoc] at ih
                           exact ih _ hsr h9 (by omega) (by omega) (by omega))
                        | (rw [EP (by omega), if_neg (by omega), if_neg (by omega)] at ih
                           first
                             | (rw [show min b1 (M1 54 0 (M 33 0 (8 * a + k))) = M1 54 0 (M 33 0 (8 * a + k)) by omega, ← Int.add_assoc] at ih
                                exact ih _ hsr h9 (by omega) (by omega) (by omega))
                             | (rw [show min b1 (M1 54 0 (M 33 0 (8 * a + k))) = b1 by omega, ← Int.add_assoc] at ih
                                exact ih _ hsr h9 (by omega) (by omega) (by omega)))
          clear P P6 BS BM E
          have hmr' : ∀ u : Unit, mr = 0 ∨ mr = 1 := fun _ => hmr
          clear hmr
          refine g_iload_n C dX4_layLeast_34 rfl ?_
          refine g_aload_n C dX4_layLeast_35 rfl ?_
          refine g_getI C 2 dX4_layLeast_36 f_X4_116 ⟨rfl, rfl⟩ rfl rfl (fun r_36 => ?_)
          refine g_ic_ge C 221 dX4_layLeast_39 (by decide) (by omega) (fun c_39 => ?_) (fun c_39 => ?_)
          · refine g_goto C 26 dX4_layLeast_221 (by decide) ?_
            have hE := kMLs_end hN (by rw [kMnet_n, show M 30 0 2 = a by omega]; exact hW)
            rcases hE.2 with ⟨rfl, hF⟩ | ⟨rfl, hl⟩
            · refine g_iload_n C dX4_layLeast_26 rfl ?_
              refine g_if_eq C 224 dX4_layLeast_27 (by decide) (by omega) (fun c_27 => ?_) (fun c_27 => by omega)
              exact g_vret C dX4_layLeast_224 (hp _ _ ⟨hs, hF⟩)
            · rw [kMnet_n] at hl
              exact ihr _ _ _ _ _ _ M1 (by omega) hs hE.1
          · refine g_aload_n C dX4_layLeast_42 rfl ?_
            refine g_getR C 32 dX4_layLeast_43 f_X4_13 ⟨rfl, rfl⟩ rfl (by decide) ?_
            refine g_iload_n C dX4_layLeast_46 rfl ?_
            refine g_iald C 60 dX4_layLeast_47 ⟨rfl, rfl⟩ rfl (by omega) (fun r_47 => ?_)
            rw [e32]
            refine g_istn_3 C dX4_layLeast_48 (by decide) rfl ?_
            refine g_iconst C dX4_layLeast_49 ?_
            refine g_ist_4 C dX4_layLeast_50 (by decide) rfl ?_
            refine g_ldc C (100000) q683 dX4_layLeast_52 (by decide) ?_
            refine g_ist_5 C dX4_layLeast_54 (by decide) rfl ?_
            refine g_iconst C dX4_layLeast_56 ?_
            refine g_ist_6 C dX4_layLeast_57 (by decide) rfl ?_
            exact L 9 0 _ (by rw [← e32]; exact r_47) (by omega) (by omega) (by omega) (by omega)
      refine g_iload_n C dX4_layLeast_26 rfl ?_
      refine g_if_eq C 224 dX4_layLeast_27 (by decide) (by omega) (fun c_27 => ?_) (fun c_27 => ?_)
      · omega
      · refine g_iconst C dX4_layLeast_30 ?_
        refine g_istn_1 C dX4_layLeast_31 (by decide) rfl ?_
        refine g_iconst C dX4_layLeast_32 ?_
        refine g_istn_2 C dX4_layLeast_33 (by decide) rfl ?_
        exact R1 ((M 30 0 2).toNat + 1) 0 0 _ _ _ _ _ M0 (by omega) (by omega) (by omega) hs0 (kMLs_0 h0) (Or.inl rfl)
  have R0 : ∀ (n2 : Nat) (a : Int) (M1 : KM), 0 ≤ a → a ≤ M 30 0 2 → M 30 0 2 + 1 ≤ a + n2 → (∀ t, t ≠ 54 → M1 t = M t) → (∀ i, 0 ≤ i → i < a → M1 54 0 i = 100000) → kG p l e h s m args below meth c w 8 0 post 2 [vR 30 0, vI a, vN, vN, vN, vN, vN, vN] [] (M1) := by
    intro n2
    induction n2 with
    | zero => intro a M1 h1 h2 h3; omega
    | succ n2 ih =>
      intro a M1 ha1 ha2 ha3 hs hA
      obtain ⟨hm1, -, -⟩ := NET M1 hs
      refine g_iload_n C dX4_layLeast_2 rfl ?_
      refine g_aload_n C dX4_layLeast_3 rfl ?_
      refine g_getI C 2 dX4_layLeast_4 f_X4_116 ⟨rfl, rfl⟩ rfl rfl (fun r_4 => ?_)
      refine g_ic_ge C 24 dX4_layLeast_7 (by decide) (by omega) (fun c_7 => ?_) (fun c_7 => ?_)
      · refine g_iconst C dX4_layLeast_24 ?_
        refine g_istn_1 C dX4_layLeast_25 (by decide) rfl ?_
        exact L2 ((kSum (M1 54 0) (M 30 0 2).toNat).toNat + 1) _ _ _ _ _ _ M1 (by omega) hs (kML_0 (fun i hi => hA i hi.1 (by have := hi.2; rw [kMnet_n] at this; omega)))
      · refine g_aload_n C dX4_layLeast_10 rfl ?_
        refine g_getR C 54 dX4_layLeast_11 f_X4_81 ⟨rfl, rfl⟩ rfl (by decide) ?_
        refine g_iload_n C dX4_layLeast_14 rfl ?_
        refine g_ldc C (100000) q683 dX4_layLeast_15 (by decide) ?_
        refine g_iast C 60 dX4_layLeast_17 ⟨rfl, rfl⟩ rfl (by omega) (by omega) ?_
        refine g_inc_1 C dX4_layLeast_18 (by decide) rfl ?_
        refine g_goto C 2 dX4_layLeast_21 (by decide) ?_
        refine ih (a + 1) _ (by omega) (by omega) (by omega) (fun t ht => by rw [kUp_t ht]; exact hs t ht) (fun i h1 h2 => ?_)
        by_cases q : i = a
        · subst q; exact kUp_eq
        · rw [kUp_nk q]; exact hA i h1 (by omega)
  refine g_iconst C dX4_layLeast_0 ?_
  refine g_istn_1 C dX4_layLeast_1 (by decide) rfl ?_
  exact R0 ((M 30 0 2).toNat + 1) 0 M (by omega) (by omega) (by omega) (fun _ _ => rfl) (fun i h1 h2 => by omega)
theorem m_X4_least (hh : 3 ≤ h) (hI : kInj w) (i : Int) (M : KM) (hN : kWF (kMnet M)) (hi : -2147483648 ≤ i ∧ i < 2147483648) (hp : ∀ z M', (¬ kRn (kMnet M) i ∧ z = -1 ∧ M = M') ∨ (kRn (kMnet M) i ∧ kLG M M' ∧ ((40 < M' 54 0 i ∧ z = -6) ∨ (M' 54 0 i ≤ 40 ∧ z = M' 54 0 i))) → post z M') : kMet l w yX4_least cX4_least 2 (some .int) 1 h [vR 30 0, vI i] M post := by
  obtain ⟨hn, -, -, -, -⟩ := kMwf hN
  have er : kRn (kMnet M) i ↔ (0 ≤ i ∧ i < M 30 0 2) := Iff.rfl
  rw [er] at hp
  refine kMet_of [vR 30 0, vI i] (by decide) hI rfl rfl (Nat.le_of_ble_eq_true rfl) ?_
  intro p e s m args below meth c C hVok
  refine g_aload_n C dX4_least_0 rfl ?_
  refine g_iload_n C dX4_least_1 rfl ?_
  refine g_callVi C dX4_least_2 v_X4_123 (m_X4_isNode (h := 2) (by omega) hI i M (by omega) hn (fun _ _ q => q)) ⟨rfl, rfl⟩ rfl rfl (Nat.le_of_ble_eq_true rfl) (by omega) ?_
  rintro z M' ⟨hz, rfl⟩
  refine g_if_ne C 10 dX4_least_5 (by decide) (by omega) (fun c_5 => ?_) (fun c_5 => ?_)
  · refine g_aload_n C dX4_least_10 rfl ?_
    refine g_callVv C dX4_least_11 v_X4_206 (m_X4_layLeast (h := 2) hI M hN (fun _ _ q => q)) ⟨rfl, rfl⟩ rfl rfl (Nat.le_of_ble_eq_true rfl) (by omega) ?_
    rintro z2 M1 hF
    refine g_aload_n C dX4_least_14 rfl ?_
    refine g_getR C 54 dX4_least_15 f_X4_81 ⟨rfl, rfl⟩ rfl (by decide) ?_
    refine g_iload_n C dX4_least_18 rfl ?_
    refine g_iald C 60 dX4_least_19 ⟨rfl, rfl⟩ rfl (by omega) (fun r_19 => ?_)
    refine g_bipush C dX4_least_20 (by decide) ?_
    refine g_ic_le C 30 dX4_least_22 (by decide) (by omega) (fun c_22 => ?_) (fun c_22 => ?_)
    · refine g_aload_n C dX4_least_30 rfl ?_
      refine g_getR C 54 dX4_least_31 f_X4_81 ⟨rfl, rfl⟩ rfl (by decide) ?_
      refine g_iload_n C dX4_least_34 rfl ?_
      refine g_iald C 60 dX4_least_35 ⟨rfl, rfl⟩ rfl (by omega) (fun r_35 => ?_)
      exact g_iret C dX4_least_36 (hp _ _ (Or.inr ⟨by omega, hF, by omega⟩))
    · refine g_bipush C dX4_least_25 (by decide) ?_
      refine g_goto C 36 dX4_least_27 (by decide) ?_
      exact g_iret C dX4_least_36 (hp _ _ (Or.inr ⟨by omega, hF, by omega⟩))
  · refine g_iconst C dX4_least_8 ?_
    exact g_iret C dX4_least_9 (hp _ _ (Or.inl ⟨by omega, rfl, rfl⟩))
end

