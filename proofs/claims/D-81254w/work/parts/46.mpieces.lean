/-! KindNetsModel: pieces -/
set_option maxRecDepth 100000
section
variable {l : Launch} {w : KL} {h : Nat} {post : Int → KM → Prop}
theorem m_X4_pieces (hh : 4 ≤ h) (hI : kInj w) (i : Int) (M : KM) (hN : kWF (kMnet M)) (hK : kLd2 M) (hi0 : -2147483648 ≤ i ∧ i < 2147483648) (hp : ∀ z M', (¬ kRn (kMnet M) i ∧ z = -1 ∧ M = M') ∨ (kRn (kMnet M) i ∧ (∃ M1, kLL M M1 ∧ ∀ t, t ≠ 43 → M' t = M1 t) ∧ z = kPc (kMnet M) i (kMnet M).1.toNat) → post z M') : kMet l w yX4_pieces cX4_pieces 6 (some .int) 1 h [vR 30 0, vI i] M post := by
  obtain ⟨hn, -, hpt, -, -⟩ := kMwf hN
  have er : kRn (kMnet M) i ↔ (0 ≤ i ∧ i < M 30 0 2) := Iff.rfl
  refine kMet_of [vR 30 0, vI i, vN, vN, vN, vN] (by decide) hI rfl rfl (Nat.le_of_ble_eq_true rfl) ?_
  intro p e s m args below meth c C hVok
  have CNT : ∀ ML : KM, kRn (kMnet M) i → kLL M ML → ∀ M1 : KM, (∀ t, t ≠ 43 → M1 t = ML t) → kHis (kMnet M) i (M1 43 0) → ∀ (n2 : Nat) (a : Int) (x4 x5 : KV), 0 ≤ a → a ≤ M 30 0 2 → M 30 0 2 + 1 ≤ a + n2 → kG p l e h s m args below meth c w 6 1 post 140 [vR 30 0, vI i, vI (kPc (kMnet M) i a.toNat), vI a, x4, x5] [] (M1) := by
    intro ML hri hL M1 hs hH n2
    have e30 : M1 30 0 2 = M 30 0 2 := by rw [hs 30 (by decide)]; exact hL.many
    have e41 : M1 41 = ML 41 := hs 41 (by decide)
    induction n2 with
    | zero => intro a x4 x5 h1 h2 h3; omega
    | succ n2 ih =>
      intro a x4 x5 ha1 ha2 ha3
      have TAIL : ∀ (f : Int) (x5 : KV), a < M 30 0 2 → f = kIf (kFrs (kMnet M) i a a) 1 0 → (f = 0 ∨ f = 1) → kG p l e h s m args below meth c w 6 1 post 203 [vR 30 0, vI i, vI (kPc (kMnet M) i a.toNat), vI a, vI f, x5] [] (M1) := by
        intro f x5 hlt hf hf01
        have := ih (a + 1) (vI f) x5 (by omega) (by omega) (by omega)
        rw [kPc_1 ha1, ← hf] at this
        have hr : -2147483648 ≤ f ∧ f < 2147483648 := by omega
        refine g_iload_n C dX4_pieces_203 rfl ?_
        refine g_iload C dX4_pieces_204 rfl ?_
        refine g_if_eq C 213 dX4_pieces_206 (by decide) (by omega) (fun c_206 => ?_) (fun c_206 => ?_)
        · refine g_iconst C dX4_pieces_213 ?_
          refine g_iadd C dX4_pieces_214 ?_
          refine g_istn_2 C dX4_pieces_215 (by decide) rfl ?_
          refine g_inc_3 C dX4_pieces_216 (by decide) rfl ?_
          refine g_goto C 140 dX4_pieces_219 (by decide) ?_
          first
          | (rw [show f = 0 by omega] at this ⊢; exact this)
          | (rw [show f = 1 by omega] at this ⊢; exact this)
        · refine g_iconst C dX4_pieces_209 ?_
          refine g_goto C 214 dX4_pieces_210 (by decide) ?_
          refine g_iadd C dX4_pieces_214 ?_
          refine g_istn_2 C dX4_pieces_215 (by decide) rfl ?_
          refine g_inc_3 C dX4_pieces_216 (by decide) rfl ?_
          refine g_goto C 140 dX4_pieces_219 (by decide) ?_
          first
          | (rw [show f = 0 by omega] at this ⊢; exact this)
          | (rw [show f = 1 by omega] at this ⊢; exact this)
      have INNER : ∀ (n3 : Nat) (b f : Int), a < M 30 0 2 → 0 ≤ b → b ≤ a → a + 1 ≤ b + n3 → ((f = 1 ∧ kFrs (kMnet M) i a b) ∨ (f = 0 ∧ ¬ kFrs (kMnet M) i a a)) → kG p l e h s m args below meth c w 6 1 post 159 [vR 30 0, vI i, vI (kPc (kMnet M) i a.toNat), vI a, vI f, vI b] [] (M1) := by
        intro n3
        induction n3 with
        | zero => intro b f h9 h0 h1 h2; omega
        | succ n3 ih3 =>
          intro b f hab hb1 hb2 hb3 hf
          have hf01 : f = 0 ∨ f = 1 := by
            rcases hf with ⟨q, _⟩ | ⟨q, _⟩
            · exact Or.inr q
            · exact Or.inl q
          have NEXT : f = 1 → b < a → ¬ (kReach (kMnet M) i b ∧ kAl (kMnet M) b a) → kG p l e h s m args below meth c w 6 1 post 159 [vR 30 0, vI i, vI (kPc (kMnet M) i a.toNat), vI a, vI 1, vI (b + 1)] [] (M1) := by
            intro hf1 hlt hne
            refine ih3 (b + 1) 1 hab (by omega) (by omega) (by omega) (Or.inl ⟨rfl, ?_⟩)
            rcases hf with ⟨_, q⟩ | ⟨q, _⟩
            · refine ⟨q.1, fun j j1 j2 => ?_⟩
              by_cases e9 : j = b
              · subst e9; exact hne
              · exact q.2 j j1 (by omega)
            · omega
          have NEXT0 : b < a → (kReach (kMnet M) i b ∧ kAl (kMnet M) b a) → kG p l e h s m args below meth c w 6 1 post 159 [vR 30 0, vI i, vI (kPc (kMnet M) i a.toNat), vI a, vI 0, vI (b + 1)] [] (M1) := by
            intro hlt hne
            exact ih3 (b + 1) 0 hab (by omega) (by omega) (by omega) (Or.inr ⟨rfl, fun q => q.2 b hb1 hlt hne⟩)
          have EX : b = a ∨ f = 0 → f = kIf (kFrs (kMnet M) i a a) 1 0 := by
            intro hx
            rcases hf with ⟨q1, q2⟩ | ⟨q1, q2⟩
            · rw [q1, kIf_t]
              rcases hx with z | z
              · rw [z] at q2; exact q2
              · omega
            · rw [q1, kIf_f q2]
          clear hf
          have hHb : b < a → (M1 43 0 b = 1 ∧ kReach (kMnet M) i b) ∨ (M1 43 0 b = 0 ∧ ¬ kReach (kMnet M) i b) := by
            intro q
            exact hH b ⟨hb1, by rw [kMnet_n]; omega⟩
          have AL : b < a → ((M1 41 0 (60 * b + a) ≠ 0 ∧ M1 41 0 (60 * a + b) ≠ 0) → kAl (kMnet M) b a) ∧ ((M1 41 0 (60 * b + a) = 0 ∨ M1 41 0 (60 * a + b) = 0) → ¬ kAl (kMnet M) b a) := by
            intro q
            rw [e41]
            have m1 := hL.may (i := b) (k := a) ⟨⟨hb1, by rw [kMnet_n]; omega⟩, ha1, hab⟩
            have m2 := hL.may (i := a) (k := b) ⟨⟨ha1, hab⟩, hb1, by rw [kMnet_n]; omega⟩
            rcases m1 with ⟨u1, u2⟩ | ⟨u1, u2, u3, u4⟩ <;> rcases m2 with ⟨v1, v2⟩ | ⟨v1, v2, v3, v4⟩
            · exact ⟨fun _ => ⟨u2, v2⟩, fun z => by omega⟩
            · exact ⟨fun z => absurd v1 z.2, fun _ z => by have := kFN_uniq v2 z.2; omega⟩
            · exact ⟨fun z => absurd u1 z.1, fun _ z => by have := kFN_uniq u2 z.1; omega⟩
            · exact ⟨fun z => absurd u1 z.1, fun _ z => by have := kFN_uniq u2 z.1; omega⟩
          have hfr : -2147483648 ≤ f ∧ f < 2147483648 := by omega
          have hf01' : ∀ u : Unit, f = 0 ∨ f = 1 := fun _ => hf01
          clear hf01
          refine g_iload C dX4_pieces_159 rfl ?_
          refine g_iload_n C dX4_pieces_161 rfl ?_
          refine g_ic_ge C 203 dX4_pieces_162 (by decide) (by omega) (fun c_162 => ?_) (fun c_162 => ?_)
          · first
            | exact TAIL f _ hab (EX (Or.inl (by omega))) (hf01' ())
            | exact TAIL f _ hab (EX (Or.inr (by omega))) (hf01' ())
          · refine g_iload C dX4_pieces_165 rfl ?_
            refine g_if_eq C 203 dX4_pieces_167 (by decide) (by omega) (fun c_167 => ?_) (fun c_167 => ?_)
            · first
              | exact TAIL f _ hab (EX (Or.inl (by omega))) (hf01' ())
              | exact TAIL f _ hab (EX (Or.inr (by omega))) (hf01' ())
            · refine g_aload_n C dX4_pieces_170 rfl ?_
              refine g_getR C 43 dX4_pieces_171 f_X4_47 ⟨rfl, rfl⟩ rfl (by decide) ?_
              refine g_iload C dX4_pieces_174 rfl ?_
              refine g_zald C 60 dX4_pieces_176 ⟨rfl, rfl⟩ rfl (by omega) (fun r_176 => ?_)
              refine g_if_eq C 190 dX4_pieces_177 (by decide) (by omega) (fun c_177 => ?_) (fun c_177 => ?_)
              · refine g_iconst C dX4_pieces_190 ?_
                refine g_goto C 195 dX4_pieces_191 (by decide) ?_
                refine g_ist_4 C dX4_pieces_195 (by decide) rfl ?_
                refine g_inc_5 C dX4_pieces_197 (by decide) rfl ?_
                refine g_goto C 159 dX4_pieces_200 (by decide) ?_
                refine NEXT (by have := hf01' (); omega) (by omega) (fun q => ?_)
                rcases hHb (by omega) with r | r
                · have := r.1; omega
                · exact r.2 q.1
              · refine g_aload_n C dX4_pieces_180 rfl ?_
                refine g_iload C dX4_pieces_181 rfl ?_
                refine g_iload_n C dX4_pieces_183 rfl ?_
                refine g_callVi C dX4_pieces_184 v_X4_154 (m_X4_areAlike (h := 1) hI b a M1 (by omega) (by omega) (by omega) (fun _ _ q => q)) ⟨rfl, rfl⟩ rfl rfl (Nat.le_of_ble_eq_true rfl) (by omega) ?_
                rintro z M' ⟨⟨hz, rfl⟩ | ⟨hz, rfl⟩, rfl⟩
                · refine g_if_ne C 194 dX4_pieces_187 (by decide) (by omega) (fun c_187 => ?_) (fun c_187 => ?_)
                  · refine g_iconst C dX4_pieces_194 ?_
                    refine g_ist_4 C dX4_pieces_195 (by decide) rfl ?_
                    refine g_inc_5 C dX4_pieces_197 (by decide) rfl ?_
                    refine g_goto C 159 dX4_pieces_200 (by decide) ?_
                    refine NEXT0 (by omega) ⟨?_, (AL (by omega)).1 hz⟩
                    rcases hHb (by omega) with q | q
                    · exact q.2
                    · exact absurd q.1 c_177
                  · omega
                · refine g_if_ne C 194 dX4_pieces_187 (by decide) (by omega) (fun c_187 => ?_) (fun c_187 => ?_)
                  · omega
                  · refine g_iconst C dX4_pieces_190 ?_
                    refine g_goto C 195 dX4_pieces_191 (by decide) ?_
                    refine g_ist_4 C dX4_pieces_195 (by decide) rfl ?_
                    refine g_inc_5 C dX4_pieces_197 (by decide) rfl ?_
                    refine g_goto C 159 dX4_pieces_200 (by decide) ?_
                    exact NEXT (by have := hf01' (); omega) (by omega) (fun q => (AL (by omega)).2 hz q.2)
      refine g_iload_n C dX4_pieces_140 rfl ?_
      refine g_aload_n C dX4_pieces_141 rfl ?_
      refine g_getI C 2 dX4_pieces_142 f_X4_116 ⟨rfl, rfl⟩ rfl rfl (fun r_142 => ?_)
      refine g_ic_ge C 222 dX4_pieces_145 (by decide) (by omega) (fun c_145 => ?_) (fun c_145 => ?_)
      · refine g_iload_n C dX4_pieces_222 rfl ?_
        exact g_iret C dX4_pieces_223 (hp _ _ (Or.inr ⟨hri, ⟨ML, hL, hs⟩, by rw [show a = M 30 0 2 by omega]; rfl⟩))
      · refine g_aload_n C dX4_pieces_148 rfl ?_
        refine g_getR C 43 dX4_pieces_149 f_X4_47 ⟨rfl, rfl⟩ rfl (by decide) ?_
        refine g_iload_n C dX4_pieces_152 rfl ?_
        refine g_zald C 60 dX4_pieces_153 ⟨rfl, rfl⟩ rfl (by omega) (fun r_153 => ?_)
        refine g_ist_4 C dX4_pieces_154 (by decide) rfl ?_
        refine g_iconst C dX4_pieces_156 ?_
        refine g_ist_5 C dX4_pieces_157 (by decide) rfl ?_
        rcases hH a ⟨ha1, by rw [kMnet_n]; omega⟩ with q | q
        · rw [q.1]
          exact INNER (a + 1).toNat 0 1 (by omega) (by omega) (by omega) (by omega) (Or.inl ⟨rfl, q.2, fun j j1 j2 => by omega⟩)
        · rw [q.1]
          exact INNER (a + 1).toNat 0 0 (by omega) (by omega) (by omega) (by omega) (Or.inr ⟨rfl, fun z => q.2 z.1⟩)
  -- the sweeps
  have SW : ∀ ML : KM, kRn (kMnet M) i → kLL M ML → ∀ (n : Nat) (r : Int) (x3 x4 : KV) (M0 : KM), 0 ≤ r → r ≤ M 30 0 2 → M 30 0 2 + 1 ≤ r + n → (∀ t, t ≠ 43 → M0 t = ML t) → k01 (kMnet M) (M0 43 0) → M0 43 0 i = 1 → (∀ j, kRn (kMnet M) j → M0 43 0 j = 1 → kReach (kMnet M) i j) → (kCl2 (kMnet M) (M0 43 0) ∨ kUnh (kMnet M) (M0 43 0) ≤ M 30 0 2 - 1 - r) → kG p l e h s m args below meth c w 6 1 post 48 [vR 30 0, vI i, vI r, x3, x4, vN] [] (M0) := by
    intro ML hri hL n
    induction n with
    | zero => intro r x3 x4 M0 h1 h2 h3; omega
    | succ n ihr =>
      intro r x3 x4 M0 hr1 hr2 hr3 hs0 h01 hi1 hrc hcl
      have ROW : ∀ (n2 : Nat) (a : Int) (x4 : KV) (M1 : KM), r < M 30 0 2 → 0 ≤ a → a ≤ M 30 0 2 → M 30 0 2 + 1 ≤ a + n2 → (∀ t, t ≠ 43 → M1 t = ML t) → kSp (kMnet M) i (M0 43 0) (M1 43 0) a 0 → kG p l e h s m args below meth c w 6 1 post 58 [vR 30 0, vI i, vI r, vI a, x4, vN] [] (M1) := by
        intro n2
        induction n2 with
        | zero => intro a x4 M1 h9 h1 h2 h3; omega
        | succ n2 ih =>
          intro a x4 M1 hrl ha1 ha2 ha3 hs hW
          have INNER : ∀ (n3 : Nat) (b : Int) (M2 : KM), a < M 30 0 2 → 0 ≤ b → b ≤ 8 → 9 ≤ b + n3 → (∀ t, t ≠ 43 → M2 t = ML t) → kSp (kMnet M) i (M0 43 0) (M2 43 0) a b → kG p l e h s m args below meth c w 6 1 post 69 [vR 30 0, vI i, vI r, vI a, vI b, vN] [] (M2) := by
            intro n3
            induction n3 with
            | zero => intro b M2 h9 h1 h2 h3; omega
            | succ n3 ih3 =>
              intro b M2 hab hb1 hb2 hb3 hs2 hW2
              have e33 : M2 33 = M 33 := by rw [hs2 33 (by decide), hL.1 33 (by decide) (by decide) (by decide)]
              have EP : b < 8 → (kMnet M).2.2 a b = M 33 0 (8 * a + b) := fun h8 => kMnet_p ⟨ha1, hab⟩ ⟨hb1, h8⟩
              have EXIT : (b = 8 ∨ M2 43 0 a = 0) → kG p l e h s m args below meth c w 6 1 post 124 [vR 30 0, vI i, vI r, vI a, vI b, vN] [] (M2) := by
                intro hx
                have := ih (a + 1) (vI b) M2 hrl (by omega) (by omega) (by omega) hs2 (kSp_row hW2 (fun _ => hx))
                clear hx
                refine g_inc_3 C dX4_pieces_124 (by decide) rfl ?_
                refine g_goto C 58 dX4_pieces_127 (by decide) ?_
                exact this
              have P : b < 8 → (M 33 0 (8 * a + b) = -6 ∨ (0 ≤ M 33 0 (8 * a + b) ∧ M 33 0 (8 * a + b) < M 30 0 2)) := fun h8 => hpt a b ha1 hab hb1 h8
              refine g_iload C dX4_pieces_69 rfl ?_
              refine g_bipush C dX4_pieces_71 (by decide) ?_
              refine g_ic_ge C 124 dX4_pieces_73 (by decide) (by omega) (fun c_73 => ?_) (fun c_73 => ?_)
              · first
                | exact EXIT (Or.inl (by omega))
                | exact EXIT (Or.inr (by assumption))
              · refine g_aload_n C dX4_pieces_76 rfl ?_
                refine g_getR C 43 dX4_pieces_77 f_X4_47 ⟨rfl, rfl⟩ rfl (by decide) ?_
                refine g_iload_n C dX4_pieces_80 rfl ?_
                refine g_zald C 60 dX4_pieces_81 ⟨rfl, rfl⟩ rfl (by omega) (fun r_81 => ?_)
                refine g_if_eq C 124 dX4_pieces_82 (by decide) (by omega) (fun c_82 => ?_) (fun c_82 => ?_)
                · first
                  | exact EXIT (Or.inl (by omega))
                  | exact EXIT (Or.inr (by assumption))
                · refine g_aload_n C dX4_pieces_85 rfl ?_
                  refine g_getR C 33 dX4_pieces_86 f_X4_16 ⟨rfl, rfl⟩ rfl (by decide) ?_
                  refine g_bipush C dX4_pieces_89 (by decide) ?_
                  refine g_iload_n C dX4_pieces_91 rfl ?_
                  refine g_imul C dX4_pieces_92 ?_
                  refine g_iload C dX4_pieces_93 rfl ?_
                  refine g_iadd C dX4_pieces_95 ?_
                  refine g_iald C 480 dX4_pieces_96 ⟨rfl, rfl⟩ rfl (by omega) (fun r_96 => ?_)
                  rw [e33] at r_96 ⊢
                  refine g_if_lt C 118 dX4_pieces_97 (by decide) (by omega) (fun c_97 => ?_) (fun c_97 => ?_)
                  · refine g_inc_4 C dX4_pieces_118 (by decide) rfl ?_
                    refine g_goto C 69 dX4_pieces_121 (by decide) ?_
                    refine ih3 (b + 1) M2 hab (by omega) (by omega) (by omega) hs2 (kSp_skip hW2 ?_)
                    have p := P (by omega)
                    rw [EP (by omega)]
                    omega
                  · have p := P (by omega)
                    have p2 : M 33 0 (8 * a + b) < M 30 0 2 := by omega
                    clear p
                    refine g_aload_n C dX4_pieces_100 rfl ?_
                    refine g_getR C 43 dX4_pieces_101 f_X4_47 ⟨rfl, rfl⟩ rfl (by decide) ?_
                    refine g_aload_n C dX4_pieces_104 rfl ?_
                    refine g_getR C 33 dX4_pieces_105 f_X4_16 ⟨rfl, rfl⟩ rfl (by decide) ?_
                    refine g_bipush C dX4_pieces_108 (by decide) ?_
                    refine g_iload_n C dX4_pieces_110 rfl ?_
                    refine g_imul C dX4_pieces_111 ?_
                    refine g_iload C dX4_pieces_112 rfl ?_
                    refine g_iadd C dX4_pieces_114 ?_
                    refine g_iald C 480 dX4_pieces_115 ⟨rfl, rfl⟩ rfl (by omega) (fun r_115 => ?_)
                    rw [e33] at r_115 ⊢
                    refine g_iconst C dX4_pieces_116 ?_
                    refine g_zast C 60 dX4_pieces_117 ⟨rfl, rfl⟩ rfl (by omega) (by omega) ?_
                    refine g_inc_4 C dX4_pieces_118 (by decide) rfl ?_
                    refine g_goto C 69 dX4_pieces_121 (by decide) ?_
                    refine ih3 (b + 1) _ hab (by omega) (by omega) (by omega) (fun t ht => by rw [kUp_t ht]; exact hs2 t ht) (kSp_set hN hW2 ⟨ha1, hab⟩ ⟨hb1, by omega⟩ ?_ (by rw [EP (by omega)]; omega) (fun j _ => ?_))
                    · rcases hW2.1 a ⟨ha1, hab⟩ with q | q
                      · exact absurd q c_82
                      · exact q
                    · rw [EP (by omega)]
                      simp [kUp]
          have e30 : M1 30 0 2 = M 30 0 2 := by rw [hs 30 (by decide)]; exact hL.many
          have hcl' : ∀ u : Unit, (kCl2 (kMnet M) (M0 43 0) ∨ kUnh (kMnet M) (M0 43 0) ≤ M 30 0 2 - 1 - r) := fun _ => hcl
          refine g_iload_n C dX4_pieces_58 rfl ?_
          refine g_aload_n C dX4_pieces_59 rfl ?_
          refine g_getI C 2 dX4_pieces_60 f_X4_116 ⟨rfl, rfl⟩ rfl rfl (fun r_60 => ?_)
          refine g_ic_ge C 130 dX4_pieces_63 (by decide) (by omega) (fun c_63 => ?_) (fun c_63 => ?_)
          · refine g_inc_2 C dX4_pieces_130 (by decide) rfl ?_
            refine g_goto C 48 dX4_pieces_133 (by decide) ?_
            have hW9 : kSp (kMnet M) i (M0 43 0) (M1 43 0) (kMnet M).1 0 := by rw [kMnet_n, show M 30 0 2 = a by omega]; exact hW
            refine ihr (r + 1) _ _ M1 (by omega) (by omega) (by omega) hs hW9.1 (hW9.2.1 i hri hi1) hW9.2.2.2.1 ?_
            rcases hcl with q | q
            · left
              intro j l hj l1 l2 q1 q2
              have hpr : kRn (kMnet M) ((kMnet M).2.2 j l) := by
                have := hN.2.2.1 j l hj.1 hj.2 l1 l2
                unfold kRn
                omega
              rw [hW9.2.2.2.2 q _ hpr]
              exact q j l hj l1 l2 (by rw [← hW9.2.2.2.2 q j hj]; exact q1) q2
            · rcases kSp_end hW9 h01 hN with z | z
              · exact Or.inl z
              · right; omega
          · refine g_iconst C dX4_pieces_66 ?_
            refine g_ist_4 C dX4_pieces_67 (by decide) rfl ?_
            exact INNER 9 0 M1 (by omega) (by omega) (by omega) (by omega) hs hW
      have e30 : M0 30 0 2 = M 30 0 2 := by rw [hs0 30 (by decide)]; exact hL.many
      refine g_iload_n C dX4_pieces_48 rfl ?_
      refine g_aload_n C dX4_pieces_49 rfl ?_
      refine g_getI C 2 dX4_pieces_50 f_X4_116 ⟨rfl, rfl⟩ rfl rfl (fun r_50 => ?_)
      refine g_ic_ge C 136 dX4_pieces_53 (by decide) (by omega) (fun c_53 => ?_) (fun c_53 => ?_)
      · refine g_iconst C dX4_pieces_136 ?_
        refine g_istn_2 C dX4_pieces_137 (by decide) rfl ?_
        refine g_iconst C dX4_pieces_138 ?_
        refine g_istn_3 C dX4_pieces_139 (by decide) rfl ?_
        have hc : kCl2 (kMnet M) (M0 43 0) := by
          rcases hcl with q | q
          · exact q
          · have := kUnh_nn (N := kMnet M) (H := M0 43 0); omega
        exact CNT ML hri hL M0 hs0 (kHis_of hN hri h01 hi1 hc hrc) ((M 30 0 2).toNat + 1) 0 _ _ (by omega) (by omega) (by omega)
      · refine g_iconst C dX4_pieces_56 ?_
        refine g_istn_3 C dX4_pieces_57 (by decide) rfl ?_
        exact ROW ((M 30 0 2).toNat + 1) 0 _ M0 (by omega) (by omega) (by omega) (by omega) hs0 (kSp_0 h01 hrc)
  have INI : ∀ ML : KM, kRn (kMnet M) i → kLL M ML → ∀ (n2 : Nat) (a : Int) (M1 : KM), 0 ≤ a → a ≤ M 30 0 2 → M 30 0 2 + 1 ≤ a + n2 → (∀ t, t ≠ 43 → M1 t = ML t) → (∀ j, 0 ≤ j → j < a → M1 43 0 j = if j = i then 1 else 0) → kG p l e h s m args below meth c w 6 1 post 16 [vR 30 0, vI i, vI a, vN, vN, vN] [] (M1) := by
    intro ML hri hL n2
    induction n2 with
    | zero => intro a M1 h1 h2 h3; omega
    | succ n2 ih =>
      intro a M1 ha1 ha2 ha3 hs hA
      have e30 : M1 30 0 2 = M 30 0 2 := by rw [hs 30 (by decide)]; exact hL.many
      have nxt : ∀ v, a < M 30 0 2 → v = (if a = i then 1 else 0) → kG p l e h s m args below meth c w 6 1 post 16 [vR 30 0, vI i, vI (a + 1), vN, vN, vN] [] (kUp M1 43 0 a v) := by
        intro v hlt hv
        refine ih (a + 1) _ (by omega) (by omega) (by omega) (fun t ht => by rw [kUp_t ht]; exact hs t ht) (fun j h1 h2 => ?_)
        by_cases q : j = a
        · subst q; rw [kUp_eq]; exact hv
        · rw [kUp_nk q]; exact hA j h1 (by omega)
      refine g_iload_n C dX4_pieces_16 rfl ?_
      refine g_aload_n C dX4_pieces_17 rfl ?_
      refine g_getI C 2 dX4_pieces_18 f_X4_116 ⟨rfl, rfl⟩ rfl rfl (fun r_18 => ?_)
      refine g_ic_ge C 46 dX4_pieces_21 (by decide) (by omega) (fun c_21 => ?_) (fun c_21 => ?_)
      · refine g_iconst C dX4_pieces_46 ?_
        refine g_istn_2 C dX4_pieces_47 (by decide) rfl ?_
        have hz : ∀ j, kRn (kMnet M) j → M1 43 0 j = if j = i then 1 else 0 := fun j hj => hA j hj.1 (by have := hj.2; rw [kMnet_n] at this; omega)
        have h01 : k01 (kMnet M) (M1 43 0) := by
          intro j hj
          rw [hz j hj]
          split
          · exact Or.inr rfl
          · exact Or.inl rfl
        refine SW ML hri hL ((M 30 0 2).toNat + 1) 0 _ _ M1 (by omega) (by omega) (by omega) hs h01 (by rw [hz i hri, if_pos rfl]) (fun j hj q => ?_) (Or.inr ?_)
        · rw [hz j hj] at q
          by_cases e9 : j = i
          · rw [e9]; exact kReach_self
          · rw [if_neg e9] at q; omega
        · have u1 := kUnh_le (N := kMnet M) (H := fun _ => 0) (by rw [kMnet_n]; omega)
          have u2 := kUnh_lt (N := kMnet M) (H := fun _ => 0) (G := M1 43 0) (fun j _ q => by omega) (fun _ _ => Or.inl rfl) hri rfl (by rw [hz i hri, if_pos rfl])
          rw [kMnet_n] at u1
          omega
      · refine g_aload_n C dX4_pieces_24 rfl ?_
        refine g_getR C 43 dX4_pieces_25 f_X4_47 ⟨rfl, rfl⟩ rfl (by decide) ?_
        refine g_iload_n C dX4_pieces_28 rfl ?_
        refine g_iload_n C dX4_pieces_29 rfl ?_
        refine g_iload_n C dX4_pieces_30 rfl ?_
        refine g_ic_ne C 38 dX4_pieces_31 (by decide) (by omega) (fun c_31 => ?_) (fun c_31 => ?_)
        · refine g_iconst C dX4_pieces_38 ?_
          refine g_zast C 60 dX4_pieces_39 ⟨rfl, rfl⟩ rfl (by omega) (by omega) ?_
          refine g_inc_2 C dX4_pieces_40 (by decide) rfl ?_
          refine g_goto C 16 dX4_pieces_43 (by decide) ?_
          first
          | exact nxt 1 (by omega) (by rw [if_pos (by assumption)])
          | exact nxt 0 (by omega) (by rw [if_neg (by assumption)])
        · refine g_iconst C dX4_pieces_34 ?_
          refine g_goto C 39 dX4_pieces_35 (by decide) ?_
          refine g_zast C 60 dX4_pieces_39 ⟨rfl, rfl⟩ rfl (by omega) (by omega) ?_
          refine g_inc_2 C dX4_pieces_40 (by decide) rfl ?_
          refine g_goto C 16 dX4_pieces_43 (by decide) ?_
          first
          | exact nxt 1 (by omega) (by rw [if_pos (by assumption)])
          | exact nxt 0 (by omega) (by rw [if_neg (by assumption)])
  refine g_aload_n C dX4_pieces_0 rfl ?_
  refine g_iload_n C dX4_pieces_1 rfl ?_
  refine g_callVi C dX4_pieces_2 v_X4_123 (m_X4_isNode (h := 2) (by omega) hI i M (by omega) hn (fun _ _ q => q)) ⟨rfl, rfl⟩ rfl rfl (Nat.le_of_ble_eq_true rfl) (by omega) ?_
  rintro z M' ⟨hz, rfl⟩
  refine g_if_ne C 10 dX4_pieces_5 (by decide) (by omega) (fun c_5 => ?_) (fun c_5 => ?_)
  · refine g_aload_n C dX4_pieces_10 rfl ?_
    refine g_callVv C dX4_pieces_11 v_X4_145 (m_X4_lay (h := 3) (by omega) hI M hN hK (fun _ _ q => q)) ⟨rfl, rfl⟩ rfl rfl (Nat.le_of_ble_eq_true rfl) (by omega) ?_
    rintro z2 ML hL
    refine g_iconst C dX4_pieces_14 ?_
    refine g_istn_2 C dX4_pieces_15 (by decide) rfl ?_
    exact INI ML (by rw [er]; omega) hL ((M 30 0 2).toNat + 1) 0 ML (by omega) (by omega) (by omega) (fun _ _ => rfl) (fun j h1 h2 => by omega)
  · refine g_iconst C dX4_pieces_8 ?_
    exact g_iret C dX4_pieces_9 (hp _ _ (Or.inl ⟨by rw [er]; omega, rfl, rfl⟩))
end

