/-! KindNetsModel: stepTo -/
set_option maxRecDepth 100000
section
variable {l : Launch} {w : KL} {h : Nat} {post : Int → KM → Prop}
theorem m_X4_stepTo (hh : 2 ≤ h) (hI : kInj w) (i k c0 : Int) (M : KM) (hN : kWF (kMnet M)) (hi : 0 ≤ i ∧ i < M 30 0 2) (hk : 0 ≤ k ∧ k < M 30 0 2) (hc : 0 ≤ c0 ∧ c0 < 11) (hg0 : M 32 0 i = 33 ∨ M 32 0 k = 46 ∨ M 32 0 i = M 32 0 k) (hp : ∀ z M', kSR (M 30 0 2) 60 (kStep (kMnet M) i k c0) z ∧ M = M' → post z M') : kMet l w yX4_stepTo cX4_stepTo 6 (some .int) 1 h [vR 30 0, vI i, vI k, vI c0] M post := by
  obtain ⟨hn, hs, hpt, hl, hf⟩ := kMwf hN
  have hg : ∀ u : Unit, M 32 0 i = 33 ∨ M 32 0 k = 46 ∨ M 32 0 i = M 32 0 k := fun _ => hg0
  clear hg0
  refine kMet_of [vR 30 0, vI i, vI k, vI c0, vN, vN] (by decide) hI rfl rfl (Nat.le_of_ble_eq_true rfl) ?_
  intro p e s m args below meth c C hVok
  have J1 : c0 < 8 → M 32 0 i ≠ 33 → M 32 0 k ≠ 46 → (M 32 0 i = 123 ∨ M 32 0 i = 91) → 0 ≤ M 33 0 (8 * i + c0) → 0 ≤ M 33 0 (8 * k + c0) → kG p l e h s m args below meth c w 6 1 post 76 [vR 30 0, vI i, vI k, vI c0, vI (M 32 0 i), vN] [vI 1] (M) := by
    intro h8 g1 g2 g3 g4 g5
    have g6 : M 32 0 i = M 32 0 k := by have := hg (); omega
    have e := kMs_lt hi hk (c := c0) (by omega) ⟨hc.1, h8⟩
    rw [if_pos ⟨g3, by omega, by omega⟩] at e
    have pc := hpt i c0 hi.1 hi.2 (by omega) (by omega)
    have qc := hpt k c0 hk.1 hk.2 (by omega) (by omega)
    have p2 : M 33 0 (8 * i + c0) < M 30 0 2 := by clear qc g3; omega
    have q2 : M 33 0 (8 * k + c0) < M 30 0 2 := by clear pc g3; omega
    clear pc qc g3
    refine g_ist_5 C dX4_stepTo_76 (by decide) rfl ?_
    refine g_iload C dX4_stepTo_78 rfl ?_
    refine g_if_eq C 112 dX4_stepTo_80 (by decide) (by omega) (fun c_80 => ?_) (fun c_80 => ?_)
    · omega
    · refine g_bipush C dX4_stepTo_83 (by decide) ?_
      refine g_aload_n C dX4_stepTo_85 rfl ?_
      refine g_getR C 33 dX4_stepTo_86 f_X4_16 ⟨rfl, rfl⟩ rfl (by decide) ?_
      refine g_bipush C dX4_stepTo_89 (by decide) ?_
      refine g_iload_n C dX4_stepTo_91 rfl ?_
      refine g_imul C dX4_stepTo_92 ?_
      refine g_iload_n C dX4_stepTo_93 rfl ?_
      refine g_iadd C dX4_stepTo_94 ?_
      refine g_iald C 480 dX4_stepTo_95 ⟨rfl, rfl⟩ rfl (by omega) (fun r_95 => ?_)
      refine g_imul C dX4_stepTo_96 ?_
      refine g_aload_n C dX4_stepTo_97 rfl ?_
      refine g_getR C 33 dX4_stepTo_98 f_X4_16 ⟨rfl, rfl⟩ rfl (by decide) ?_
      refine g_bipush C dX4_stepTo_101 (by decide) ?_
      refine g_iload_n C dX4_stepTo_103 rfl ?_
      refine g_imul C dX4_stepTo_104 ?_
      refine g_iload_n C dX4_stepTo_105 rfl ?_
      refine g_iadd C dX4_stepTo_106 ?_
      refine g_iald C 480 dX4_stepTo_107 ⟨rfl, rfl⟩ rfl (by omega) (fun r_107 => ?_)
      refine g_iadd C dX4_stepTo_108 ?_
      refine g_goto C 114 dX4_stepTo_109 (by decide) ?_
      exact g_iret C dX4_stepTo_114 (hp _ _ ⟨Or.inr ⟨_, _, e, ⟨g4, p2⟩, ⟨g5, q2⟩, rfl⟩, rfl⟩)
  have J0 : c0 < 8 → M 32 0 i ≠ 33 → M 32 0 k ≠ 46 → ((M 32 0 i ≠ 123 ∧ M 32 0 i ≠ 91) ∨ M 33 0 (8 * i + c0) < 0 ∨ M 33 0 (8 * k + c0) < 0) → kG p l e h s m args below meth c w 6 1 post 76 [vR 30 0, vI i, vI k, vI c0, vI (M 32 0 i), vN] [vI 0] (M) := by
    intro h8 g1 g2 g3
    have g6 : M 32 0 i = M 32 0 k := by have := hg (); omega
    have e := kMs_lt hi hk (c := c0) (by omega) ⟨hc.1, h8⟩
    have pc := hpt i c0 hi.1 hi.2 (by omega) (by omega)
    have qc := hpt k c0 hk.1 hk.2 (by omega) (by omega)
    rw [if_neg (by omega)] at e
    clear pc qc g3
    refine g_ist_5 C dX4_stepTo_76 (by decide) rfl ?_
    refine g_iload C dX4_stepTo_78 rfl ?_
    refine g_if_eq C 112 dX4_stepTo_80 (by decide) (by omega) (fun c_80 => ?_) (fun c_80 => ?_)
    · refine g_bipush C dX4_stepTo_112 (by decide) ?_
      exact g_iret C dX4_stepTo_114 (hp _ _ ⟨Or.inl ⟨e, rfl⟩, rfl⟩)
    · omega
  refine g_aload_n C dX4_stepTo_0 rfl ?_
  refine g_getR C 32 dX4_stepTo_1 f_X4_13 ⟨rfl, rfl⟩ rfl (by decide) ?_
  refine g_iload_n C dX4_stepTo_4 rfl ?_
  refine g_iald C 60 dX4_stepTo_5 ⟨rfl, rfl⟩ rfl (by omega) (fun r_5 => ?_)
  refine g_ist_4 C dX4_stepTo_6 (by decide) rfl ?_
  refine g_iload C dX4_stepTo_8 rfl ?_
  refine g_bipush C dX4_stepTo_10 (by decide) ?_
  refine g_ic_eq C 26 dX4_stepTo_12 (by decide) (by omega) (fun c_12 => ?_) (fun c_12 => ?_)
  · refine g_bipush C dX4_stepTo_26 (by decide) ?_
    exact g_iret C dX4_stepTo_28 (hp _ _ ⟨Or.inl ⟨kMs_bad hi hk (by omega), rfl⟩, rfl⟩)
  · refine g_aload_n C dX4_stepTo_15 rfl ?_
    refine g_getR C 32 dX4_stepTo_16 f_X4_13 ⟨rfl, rfl⟩ rfl (by decide) ?_
    refine g_iload_n C dX4_stepTo_19 rfl ?_
    refine g_iald C 60 dX4_stepTo_20 ⟨rfl, rfl⟩ rfl (by omega) (fun r_20 => ?_)
    refine g_bipush C dX4_stepTo_21 (by decide) ?_
    refine g_ic_ne C 29 dX4_stepTo_23 (by decide) (by omega) (fun c_23 => ?_) (fun c_23 => ?_)
    · refine g_iload_n C dX4_stepTo_29 rfl ?_
      refine g_bipush C dX4_stepTo_30 (by decide) ?_
      refine g_ic_ge C 115 dX4_stepTo_32 (by decide) (by omega) (fun c_32 => ?_) (fun c_32 => ?_)
      · refine g_iload_n C dX4_stepTo_115 rfl ?_
        refine g_bipush C dX4_stepTo_116 (by decide) ?_
        refine g_ic_ne C 156 dX4_stepTo_118 (by decide) (by omega) (fun c_118 => ?_) (fun c_118 => ?_)
        · refine g_iload C dX4_stepTo_156 rfl ?_
          refine g_bipush C dX4_stepTo_158 (by decide) ?_
          refine g_ic_eq C 166 dX4_stepTo_160 (by decide) (by omega) (fun c_160 => ?_) (fun c_160 => ?_)
          · refine g_iload_n C dX4_stepTo_166 rfl ?_
            refine g_bipush C dX4_stepTo_167 (by decide) ?_
            refine g_ic_ne C 197 dX4_stepTo_169 (by decide) (by omega) (fun c_169 => ?_) (fun c_169 => ?_)
            · have e : c0 = 10 := by omega
              subst e
              have g6 : M 32 0 i = M 32 0 k := by have := hg (); omega
              have e := kMs_10 hi hk (by omega)
              rw [if_pos (by assumption)] at e
              refine g_bipush C dX4_stepTo_197 (by decide) ?_
              refine g_aload_n C dX4_stepTo_199 rfl ?_
              refine g_getR C 33 dX4_stepTo_200 f_X4_16 ⟨rfl, rfl⟩ rfl (by decide) ?_
              refine g_bipush C dX4_stepTo_203 (by decide) ?_
              refine g_iload_n C dX4_stepTo_205 rfl ?_
              refine g_imul C dX4_stepTo_206 ?_
              refine g_iconst C dX4_stepTo_207 ?_
              refine g_iadd C dX4_stepTo_208 ?_
              refine g_iald C 480 dX4_stepTo_209 ⟨rfl, rfl⟩ rfl (by omega) (fun r_209 => ?_)
              refine g_imul C dX4_stepTo_210 ?_
              refine g_aload_n C dX4_stepTo_211 rfl ?_
              refine g_getR C 33 dX4_stepTo_212 f_X4_16 ⟨rfl, rfl⟩ rfl (by decide) ?_
              refine g_bipush C dX4_stepTo_215 (by decide) ?_
              refine g_iload_n C dX4_stepTo_217 rfl ?_
              refine g_imul C dX4_stepTo_218 ?_
              refine g_iconst C dX4_stepTo_219 ?_
              refine g_iadd C dX4_stepTo_220 ?_
              refine g_iald C 480 dX4_stepTo_221 ⟨rfl, rfl⟩ rfl (by omega) (fun r_221 => ?_)
              refine g_iadd C dX4_stepTo_222 ?_
              have p0 := hpt i 0 hi.1 hi.2 (by omega) (by omega)
              have q0 := hpt k 0 hk.1 hk.2 (by omega) (by omega)
              have p1 := hpt i 1 hi.1 hi.2 (by omega) (by omega)
              have q1 := hpt k 1 hk.1 hk.2 (by omega) (by omega)
              rw [Int.add_zero] at p0 q0
              have a := (hf i hi.1 hi.2 (by assumption)).1
              have b := (hf k hk.1 hk.2 (by omega)).1
              exact g_iret C dX4_stepTo_223 (hp _ _ ⟨Or.inr ⟨_, _, e, by omega, by omega, by omega⟩, rfl⟩)
            · subst c_169
              have g6 : M 32 0 i = M 32 0 k := by have := hg (); omega
              have e := kMs_9 hi hk (by omega)
              rw [if_pos (by assumption)] at e
              refine g_bipush C dX4_stepTo_172 (by decide) ?_
              refine g_aload_n C dX4_stepTo_174 rfl ?_
              refine g_getR C 33 dX4_stepTo_175 f_X4_16 ⟨rfl, rfl⟩ rfl (by decide) ?_
              refine g_bipush C dX4_stepTo_178 (by decide) ?_
              refine g_iload_n C dX4_stepTo_180 rfl ?_
              refine g_imul C dX4_stepTo_181 ?_
              refine g_iald C 480 dX4_stepTo_182 ⟨rfl, rfl⟩ rfl (by omega) (fun r_182 => ?_)
              refine g_imul C dX4_stepTo_183 ?_
              refine g_aload_n C dX4_stepTo_184 rfl ?_
              refine g_getR C 33 dX4_stepTo_185 f_X4_16 ⟨rfl, rfl⟩ rfl (by decide) ?_
              refine g_bipush C dX4_stepTo_188 (by decide) ?_
              refine g_iload_n C dX4_stepTo_190 rfl ?_
              refine g_imul C dX4_stepTo_191 ?_
              refine g_iald C 480 dX4_stepTo_192 ⟨rfl, rfl⟩ rfl (by omega) (fun r_192 => ?_)
              refine g_iadd C dX4_stepTo_193 ?_
              refine g_goto C 223 dX4_stepTo_194 (by decide) ?_
              have p0 := hpt i 0 hi.1 hi.2 (by omega) (by omega)
              have q0 := hpt k 0 hk.1 hk.2 (by omega) (by omega)
              have p1 := hpt i 1 hi.1 hi.2 (by omega) (by omega)
              have q1 := hpt k 1 hk.1 hk.2 (by omega) (by omega)
              rw [Int.add_zero] at p0 q0
              have a := (hf i hi.1 hi.2 (by assumption)).1
              have b := (hf k hk.1 hk.2 (by omega)).1
              exact g_iret C dX4_stepTo_223 (hp _ _ ⟨Or.inr ⟨_, _, e, by omega, by omega, by omega⟩, rfl⟩)
          · refine g_bipush C dX4_stepTo_163 (by decide) ?_
            have e : kStep (kMnet M) i k c0 = (-6, -6) := by
              have g6 : M 32 0 i = M 32 0 k := by have := hg (); omega
              rcases (show c0 = 9 ∨ c0 = 10 by omega) with q | q
              · subst q
                have e := kMs_9 hi hk (by omega)
                rw [if_neg (by assumption)] at e
                exact e
              · subst q
                have e := kMs_10 hi hk (by omega)
                rw [if_neg (by assumption)] at e
                exact e
            exact g_iret C dX4_stepTo_165 (hp _ _ ⟨Or.inl ⟨e, rfl⟩, rfl⟩)
        · refine g_iload C dX4_stepTo_121 rfl ?_
          refine g_bipush C dX4_stepTo_123 (by decide) ?_
          refine g_ic_ne C 153 dX4_stepTo_125 (by decide) (by omega) (fun c_125 => ?_) (fun c_125 => ?_)
          · refine g_bipush C dX4_stepTo_153 (by decide) ?_
            have e : c0 = 8 := by omega
            subst e
            have g6 : M 32 0 i = M 32 0 k := by have := hg (); omega
            have e := kMs_8 hi hk (by omega)
            have p0 := hpt i 0 hi.1 hi.2 (by omega) (by omega)
            have q0 := hpt k 0 hk.1 hk.2 (by omega) (by omega)
            rw [Int.add_zero] at p0 q0
            exact g_iret C dX4_stepTo_155 (hp _ _ ⟨by first | (rw [if_neg (by assumption)] at e; exact Or.inl ⟨e, rfl⟩) | (rw [if_pos (by assumption)] at e; have a := (hl i hi.1 hi.2 (by assumption)).1; have b := (hl k hk.1 hk.2 (by omega)).1; exact Or.inr ⟨_, _, e, by omega, by omega, by omega⟩), rfl⟩)
          · refine g_bipush C dX4_stepTo_128 (by decide) ?_
            refine g_aload_n C dX4_stepTo_130 rfl ?_
            refine g_getR C 33 dX4_stepTo_131 f_X4_16 ⟨rfl, rfl⟩ rfl (by decide) ?_
            refine g_bipush C dX4_stepTo_134 (by decide) ?_
            refine g_iload_n C dX4_stepTo_136 rfl ?_
            refine g_imul C dX4_stepTo_137 ?_
            refine g_iald C 480 dX4_stepTo_138 ⟨rfl, rfl⟩ rfl (by omega) (fun r_138 => ?_)
            refine g_imul C dX4_stepTo_139 ?_
            refine g_aload_n C dX4_stepTo_140 rfl ?_
            refine g_getR C 33 dX4_stepTo_141 f_X4_16 ⟨rfl, rfl⟩ rfl (by decide) ?_
            refine g_bipush C dX4_stepTo_144 (by decide) ?_
            refine g_iload_n C dX4_stepTo_146 rfl ?_
            refine g_imul C dX4_stepTo_147 ?_
            refine g_iald C 480 dX4_stepTo_148 ⟨rfl, rfl⟩ rfl (by omega) (fun r_148 => ?_)
            refine g_iadd C dX4_stepTo_149 ?_
            refine g_goto C 155 dX4_stepTo_150 (by decide) ?_
            have e : c0 = 8 := by omega
            subst e
            have g6 : M 32 0 i = M 32 0 k := by have := hg (); omega
            have e := kMs_8 hi hk (by omega)
            have p0 := hpt i 0 hi.1 hi.2 (by omega) (by omega)
            have q0 := hpt k 0 hk.1 hk.2 (by omega) (by omega)
            rw [Int.add_zero] at p0 q0
            exact g_iret C dX4_stepTo_155 (hp _ _ ⟨by first | (rw [if_neg (by assumption)] at e; exact Or.inl ⟨e, rfl⟩) | (rw [if_pos (by assumption)] at e; have a := (hl i hi.1 hi.2 (by assumption)).1; have b := (hl k hk.1 hk.2 (by omega)).1; exact Or.inr ⟨_, _, e, by omega, by omega, by omega⟩), rfl⟩)
      · refine g_iload C dX4_stepTo_35 rfl ?_
        refine g_callSi C dX4_stepTo_37 s_X4_130 (m_X4_isBoth (h := 1) hI (M 32 0 i) M (by omega) (fun _ _ q => q)) rfl rfl (Nat.le_of_ble_eq_true rfl) (by omega) ?_
        rintro z1 M' ⟨⟨hz1, rfl⟩ | ⟨hz1, rfl⟩, rfl⟩
        · refine g_if_eq C 75 dX4_stepTo_40 (by decide) (by omega) (fun c_40 => ?_) (fun c_40 => ?_)
          · omega
          · refine g_aload_n C dX4_stepTo_43 rfl ?_
            refine g_getR C 33 dX4_stepTo_44 f_X4_16 ⟨rfl, rfl⟩ rfl (by decide) ?_
            refine g_bipush C dX4_stepTo_47 (by decide) ?_
            refine g_iload_n C dX4_stepTo_49 rfl ?_
            refine g_imul C dX4_stepTo_50 ?_
            refine g_iload_n C dX4_stepTo_51 rfl ?_
            refine g_iadd C dX4_stepTo_52 ?_
            refine g_iald C 480 dX4_stepTo_53 ⟨rfl, rfl⟩ rfl (by omega) (fun r_53 => ?_)
            refine g_if_lt C 75 dX4_stepTo_54 (by decide) (by omega) (fun c_54 => ?_) (fun c_54 => ?_)
            · refine g_iconst C dX4_stepTo_75 ?_
              first
              | exact J1 (by assumption) (by assumption) (by assumption) hz1 (by assumption) (by assumption)
              | exact J0 (by assumption) (by assumption) (by assumption) (Or.inl hz1)
              | exact J0 (by assumption) (by assumption) (by assumption) (Or.inr (Or.inl (by assumption)))
              | exact J0 (by assumption) (by assumption) (by assumption) (Or.inr (Or.inr (by assumption)))
            · refine g_aload_n C dX4_stepTo_57 rfl ?_
              refine g_getR C 33 dX4_stepTo_58 f_X4_16 ⟨rfl, rfl⟩ rfl (by decide) ?_
              refine g_bipush C dX4_stepTo_61 (by decide) ?_
              refine g_iload_n C dX4_stepTo_63 rfl ?_
              refine g_imul C dX4_stepTo_64 ?_
              refine g_iload_n C dX4_stepTo_65 rfl ?_
              refine g_iadd C dX4_stepTo_66 ?_
              refine g_iald C 480 dX4_stepTo_67 ⟨rfl, rfl⟩ rfl (by omega) (fun r_67 => ?_)
              refine g_if_lt C 75 dX4_stepTo_68 (by decide) (by omega) (fun c_68 => ?_) (fun c_68 => ?_)
              · refine g_iconst C dX4_stepTo_75 ?_
                first
                | exact J1 (by assumption) (by assumption) (by assumption) hz1 (by assumption) (by assumption)
                | exact J0 (by assumption) (by assumption) (by assumption) (Or.inl hz1)
                | exact J0 (by assumption) (by assumption) (by assumption) (Or.inr (Or.inl (by assumption)))
                | exact J0 (by assumption) (by assumption) (by assumption) (Or.inr (Or.inr (by assumption)))
              · refine g_iconst C dX4_stepTo_71 ?_
                refine g_goto C 76 dX4_stepTo_72 (by decide) ?_
                first
                | exact J1 (by assumption) (by assumption) (by assumption) hz1 (by assumption) (by assumption)
                | exact J0 (by assumption) (by assumption) (by assumption) (Or.inl hz1)
                | exact J0 (by assumption) (by assumption) (by assumption) (Or.inr (Or.inl (by assumption)))
                | exact J0 (by assumption) (by assumption) (by assumption) (Or.inr (Or.inr (by assumption)))
        · refine g_if_eq C 75 dX4_stepTo_40 (by decide) (by omega) (fun c_40 => ?_) (fun c_40 => ?_)
          · refine g_iconst C dX4_stepTo_75 ?_
            first
            | exact J1 (by assumption) (by assumption) (by assumption) hz1 (by assumption) (by assumption)
            | exact J0 (by assumption) (by assumption) (by assumption) (Or.inl hz1)
            | exact J0 (by assumption) (by assumption) (by assumption) (Or.inr (Or.inl (by assumption)))
            | exact J0 (by assumption) (by assumption) (by assumption) (Or.inr (Or.inr (by assumption)))
          · omega
    · refine g_bipush C dX4_stepTo_26 (by decide) ?_
      exact g_iret C dX4_stepTo_28 (hp _ _ ⟨Or.inl ⟨kMs_bad hi hk (by omega), rfl⟩, rfl⟩)
end

