/-! told, both sides -/
set_option maxRecDepth 100000
noncomputable def kIf (p : Prop) (a b : Int) : Int := @ite Int p (Classical.propDecidable p) a b
theorem kIf_t {p : Prop} {a b : Int} (h : p) : kIf p a b = a := by unfold kIf; exact if_pos h
theorem kIf_f {p : Prop} {a b : Int} (h : ¬ p) : kIf p a b = b := by unfold kIf; exact if_neg h
noncomputable def kPr (N : KN) (i k : Int) : Int := kIf (i ≠ k ∧ kFN N i k (-6)) 1 0
noncomputable def kPairs (N : KN) : Int := kSum (fun i => kSum (kPr N i) N.1.toNat) N.1.toNat
def kBig (g : Int → Int) (n : Nat) : Int := kSum (fun i => if 40 < g i then 1 else 0) n
def kNms (f : Int → Int) (n : Nat) : Int := kSum (fun i => if 0 ≤ f i then 1 else 0) n
/-- the answer of told: pads' signs pm, names nm -/
def kToldA (N : KN) (pm : Int) (nm : Int → Int) (x z : Int) : Prop := (x = 0 ∧ z = pm) ∨ (x = 1 ∧ z = N.1) ∨ (x = 2 ∧ z = kNms nm 8) ∨ (x = 3 ∧ ∃ g, kLst N g ∧ z = kBig g N.1.toNat) ∨ (x = 4 ∧ z = kPairs N) ∨ ((x < 0 ∨ 4 < x) ∧ z = -2)
theorem kSum_congr {g f : Int → Int} {n : Nat} (h : ∀ k : Int, 0 ≤ k → k < n → g k = f k) : kSum g n = kSum f n :=
  Int.le_antisymm (kSum_mono (fun k h1 h2 => Int.le_of_eq (h k h1 h2))) (kSum_mono (fun k h1 h2 => Int.le_of_eq (h k h1 h2).symm))
theorem kToldA_uniq {N : KN} {pm : Int} {nm mm : Int → Int} {x z u : Int} (hnm : ∀ i, 0 ≤ i → i < 8 → nm i = mm i) (h1 : kToldA N pm nm x z) (h2 : kToldA N pm mm x u) : z = u := by
  have e : kNms nm 8 = kNms mm 8 := kSum_congr (fun k h1 h2 => by rw [hnm k h1 (by omega)])
  have G : ∀ g f, kLst N g → kLst N f → kBig g N.1.toNat = kBig f N.1.toNat := by
    intro g f hg hf
    refine kSum_congr (fun k h1 h2 => ?_)
    rw [kLst_uniq hg hf ⟨h1, by omega⟩]
  rcases h1 with ⟨x1, z1⟩ | ⟨x1, z1⟩ | ⟨x1, z1⟩ | ⟨x1, g, hg, z1⟩ | ⟨x1, z1⟩ | ⟨x1, z1⟩ <;> rcases h2 with ⟨x2, z2⟩ | ⟨x2, z2⟩ | ⟨x2, z2⟩ | ⟨x2, f, hf, z2⟩ | ⟨x2, z2⟩ | ⟨x2, z2⟩
  all_goals first | omega | skip
  have := G g f hg hf
  omega
theorem kBig_1 {g : Int → Int} {k : Int} (hk : 0 ≤ k) : kBig g (k + 1).toNat = kBig g k.toNat + (if 40 < g k then 1 else 0) := kSum_1 _ hk
theorem kNms_1 {g : Int → Int} {k : Int} (hk : 0 ≤ k) : kNms g (k + 1).toNat = kNms g k.toNat + (if 0 ≤ g k then 1 else 0) := kSum_1 _ hk
/-- falls may have been found meanwhile -/
def kFq (M M' : KM) : Prop := (∀ t, t ≠ 5 → t ≠ 7 → M' t = M t) ∧ (∀ i k, k ≠ 8 → M' 7 i k = M 7 i k) ∧ kKn M'
theorem kFq.rf {M : KM} (h : kKn M) : kFq M M := ⟨fun _ _ _ => rfl, fun _ _ _ => rfl, h⟩
theorem kFq.ff {M M1 M2 : KM} (h : kFq M M1) (g : kFF M1 M2) : kFq M M2 := ⟨fun t h1 h2 => (g.1 t h1 h2).trans (h.1 t h1 h2), fun i k h1 => (g.2.1 i k h1).trans (h.2.1 i k h1), g.kn⟩
theorem kFq.net {M M' : KM} (h : kFq M M') : kXnet M' = kXnet M := kXnet_eq (h.1 1 (by decide) (by decide)) (h.1 2 (by decide) (by decide)) (h.2.1 0 1 (by decide))
def kTx (M M' : KM) : Prop := (∀ t, t ≠ 5 → t ≠ 7 → t ≠ 29 → M' t = M t) ∧ (∀ i k, k ≠ 8 → M' 7 i k = M 7 i k) ∧ kKn M'
def kTm (M M' : KM) : Prop := (∀ t, t ≠ 41 → t ≠ 42 → t ≠ 54 → t ≠ 30 → M' t = M t) ∧ (∀ i k, k ≠ 15 → M' 30 i k = M 30 i k) ∧ kLd2 M'
section
variable {l : Launch} {w : KL} {h : Nat} {post : Int → KM → Prop}
theorem m_X0_told (hh : 6 ≤ h) (hI : kInj w) (x : Int) (M : KM) (hN : kWF (kXnet M)) (hK : kKn M) (hx : -2147483648 ≤ x ∧ x < 2147483648) (hp : ∀ z M', kTx M M' ∧ kToldA (kXnet M) (M 7 0 4) (M 9 0) x z → post z M') : kMet l w yX0_told cX0_told 6 (some .int) 1 h [vR 7 0, vI x] M post := by
  obtain ⟨hn, -, -, -, -⟩ := kXwf hN
  refine kMet_of [vR 7 0, vI x, vN, vN, vN, vN] (by decide) hI rfl rfl (Nat.le_of_ble_eq_true rfl) ?_
  intro p e s m args below meth c C hVok
  have REST : ∀ M0 : KM, kLF M M0 → kKn M0 → ∀ M1 : KM, kFq M0 M1 → ∀ (pr : Int), (x = 4 → pr = kPairs (kXnet M)) → ∀ (x4 x5 : KV), kG p l e h s m args below meth c w 6 1 post 95 [vR 7 0, vI x, vI (kBig (M0 29 0) (M 7 0 1).toNat), vI pr, x4, x5] [] (M1) := by
    intro M0 hL hK0 M1 hq pr hpr x4 x5
    have e9 : M1 9 = M 9 := by rw [hq.1 9 (by decide) (by decide), hL.1 9 (by decide)]
    have e71 : M1 7 0 1 = M 7 0 1 := by rw [hq.2.1 0 1 (by decide), hL.1 7 (by decide)]
    have e74 : M1 7 0 4 = M 7 0 4 := by rw [hq.2.1 0 4 (by decide), hL.1 7 (by decide)]
    have hT : kTx M M1 := ⟨fun t h1 h2 h3 => by rw [hq.1 t h1 h2, hL.1 t h3], fun i k h1 => by rw [hq.2.1 i k h1, hL.1 7 (by decide)], hq.2.2⟩
    have L : ∀ (n : Nat) (k : Int), 0 ≤ k → k ≤ 8 → 9 ≤ k + n → kG p l e h s m args below meth c w 6 1 post 101 [vR 7 0, vI x, vI (kBig (M0 29 0) (M 7 0 1).toNat), vI pr, vI (kNms (M 9 0) k.toNat), vI k] [] (M1) := by
      intro n
      induction n with
      | zero => intro k h1 h2 h3; omega
      | succ n ih =>
        intro k h1 h2 h3
        have ih := ih (k + 1) (by omega)
        rw [kNms_1 h1] at ih
        refine g_iload C dX0_told_101 rfl ?_
        refine g_bipush C dX0_told_103 (by decide) ?_
        refine g_ic_ge C 134 dX0_told_105 (by decide) (by omega) (fun c_105 => ?_) (fun c_105 => ?_)
        · refine g_iload_n C dX0_told_134 rfl ?_
          rw [show k = 8 by omega]
          clear ih
          have sw_135 : (x < 0 ∨ 4 < x) ∨ (x = 0) ∨ (x = 1) ∨ (x = 2) ∨ (x = 3) ∨ (x = 4) := by omega
          rcases sw_135 with c_135 | c_135 | c_135 | c_135 | c_135 | c_135
          · refine g_tblOut C 185 dX0_told_135 (by omega) c_135 (by decide) ?_
            refine g_bipush C dX0_told_185 (by decide) ?_
            exact g_iret C dX0_told_187 (hp _ _ ⟨hT, Or.inr (Or.inr (Or.inr (Or.inr (Or.inr ⟨c_135, rfl⟩))))⟩)
          · refine g_tblIn C (off := 33) 168 dX0_told_135 (by omega) (by omega) (by rw [c_135]; rfl) (by decide) ?_
            refine g_aload_n C dX0_told_168 rfl ?_
            refine g_getI C 4 dX0_told_169 f_X0_76 ⟨rfl, rfl⟩ rfl rfl (fun r_169 => ?_)
            rw [e74]
            exact g_iret C dX0_told_172 (hp _ _ ⟨hT, Or.inl ⟨c_135, rfl⟩⟩)
          · refine g_tblIn C (off := 38) 173 dX0_told_135 (by omega) (by omega) (by rw [c_135]; rfl) (by decide) ?_
            refine g_aload_n C dX0_told_173 rfl ?_
            refine g_getI C 1 dX0_told_174 f_X0_94 ⟨rfl, rfl⟩ rfl rfl (fun r_174 => ?_)
            rw [e71]
            exact g_iret C dX0_told_177 (hp _ _ ⟨hT, Or.inr (Or.inl ⟨c_135, rfl⟩)⟩)
          · refine g_tblIn C (off := 43) 178 dX0_told_135 (by omega) (by omega) (by rw [c_135]; rfl) (by decide) ?_
            refine g_iload C dX0_told_178 rfl ?_
            exact g_iret C dX0_told_180 (hp _ _ ⟨hT, Or.inr (Or.inr (Or.inl ⟨c_135, rfl⟩))⟩)
          · refine g_tblIn C (off := 46) 181 dX0_told_135 (by omega) (by omega) (by rw [c_135]; rfl) (by decide) ?_
            refine g_iload_n C dX0_told_181 rfl ?_
            exact g_iret C dX0_told_182 (hp _ _ ⟨hT, Or.inr (Or.inr (Or.inr (Or.inl ⟨c_135, _, hL.2, rfl⟩)))⟩)
          · refine g_tblIn C (off := 48) 183 dX0_told_135 (by omega) (by omega) (by rw [c_135]; rfl) (by decide) ?_
            refine g_iload_n C dX0_told_183 rfl ?_
            exact g_iret C dX0_told_184 (hp _ _ ⟨hT, Or.inr (Or.inr (Or.inr (Or.inr (Or.inl ⟨c_135, hpr c_135⟩))))⟩)
        · refine g_iload C dX0_told_108 rfl ?_
          refine g_aload_n C dX0_told_110 rfl ?_
          refine g_getR C 9 dX0_told_111 f_X0_15 ⟨rfl, rfl⟩ rfl (by decide) ?_
          refine g_iload C dX0_told_114 rfl ?_
          refine g_iald C 8 dX0_told_116 ⟨rfl, rfl⟩ rfl (by omega) (fun r_116 => ?_)
          rw [e9] at r_116 ⊢
          refine g_if_lt C 124 dX0_told_117 (by decide) (by omega) (fun c_117 => ?_) (fun c_117 => ?_)
          · refine g_iconst C dX0_told_124 ?_
            refine g_iadd C dX0_told_125 ?_
            refine g_ist_4 C dX0_told_126 (by decide) rfl ?_
            refine g_inc_5 C dX0_told_128 (by decide) rfl ?_
            refine g_goto C 101 dX0_told_131 (by decide) ?_
            first
            | (rw [if_pos (by assumption)] at ih; exact ih (by omega) (by omega))
            | (rw [if_neg (by omega)] at ih; exact ih (by omega) (by omega))
          · refine g_iconst C dX0_told_120 ?_
            refine g_goto C 125 dX0_told_121 (by decide) ?_
            refine g_iadd C dX0_told_125 ?_
            refine g_ist_4 C dX0_told_126 (by decide) rfl ?_
            refine g_inc_5 C dX0_told_128 (by decide) rfl ?_
            refine g_goto C 101 dX0_told_131 (by decide) ?_
            first
            | (rw [if_pos (by assumption)] at ih; exact ih (by omega) (by omega))
            | (rw [if_neg (by omega)] at ih; exact ih (by omega) (by omega))
    refine g_iconst C dX0_told_95 ?_
    refine g_ist_4 C dX0_told_96 (by decide) rfl ?_
    refine g_iconst C dX0_told_98 ?_
    refine g_ist_5 C dX0_told_99 (by decide) rfl ?_
    exact L 9 0 (by omega) (by omega) (by omega)
  have ROWS : ∀ M0 : KM, kLF M M0 → kKn M0 → ∀ (n2 : Nat) (a pr : Int) (x5 : KV) (M1 : KM), 0 ≤ a → a ≤ M 7 0 1 → M 7 0 1 + 1 ≤ a + n2 → kFq M0 M1 → (x = 4 → pr = kSum (fun i => kSum (kPr (kXnet M) i) (M 7 0 1).toNat) a.toNat) → kG p l e h s m args below meth c w 6 1 post 11 [vR 7 0, vI x, vI (kBig (M0 29 0) a.toNat), vI pr, vI a, x5] [] (M1) := by
    intro M0 hL hK0 n2
    induction n2 with
    | zero => intro a pr x5 M1 h1 h2 h3; omega
    | succ n2 ih =>
      intro a pr x5 M1 ha1 ha2 ha3 hq hpr
      have eN0 : kXnet M0 = kXnet M := hL.net
      have e71 : M1 7 0 1 = M 7 0 1 := by rw [hq.2.1 0 1 (by decide), hL.1 7 (by decide)]
      have e29 : M1 29 = M0 29 := hq.1 29 (by decide) (by decide)
      have INNER : ∀ (n3 : Nat) (b pr1 em : Int) (M2 : KM), em = kBig (M0 29 0) (a + 1).toNat → a < M 7 0 1 → 0 ≤ b → b ≤ M 7 0 1 → M 7 0 1 + 1 ≤ b + n3 → kFq M0 M2 → (x = 4 → pr1 = kSum (fun i => kSum (kPr (kXnet M) i) (M 7 0 1).toNat) a.toNat + kSum (kPr (kXnet M) a) b.toNat) → (x ≠ 4 → b = 0) → kG p l e h s m args below meth c w 6 1 post 43 [vR 7 0, vI x, vI em, vI pr1, vI a, vI b] [] (M2) := by
        intro n3
        induction n3 with
        | zero => intro b pr1 em M2 h9 h0 h1 h2 h3; omega
        | succ n3 ih3 =>
          intro b pr1 em M2 hem hab hb1 hb2 hb3 hq2 hpr1 hb0
          have f71 : M2 7 0 1 = M 7 0 1 := by rw [hq2.2.1 0 1 (by decide), hL.1 7 (by decide)]
          have eN2 : kXnet M2 = kXnet M := by rw [hq2.net, eN0]
          have EXIT : b = M 7 0 1 ∨ x ≠ 4 → ∀ x5 : KV, kG p l e h s m args below meth c w 6 1 post 89 [vR 7 0, vI x, vI em, vI pr1, vI a, x5] [] (M2) := by
            intro hex x5
            refine g_inc_4 C dX0_told_89 (by decide) rfl ?_
            refine g_goto C 11 dX0_told_92 (by decide) ?_
            rw [hem]
            refine ih (a + 1) pr1 _ M2 (by omega) (by omega) (by omega) hq2 (fun q => ?_)
            rw [kSum_1 _ ha1, hpr1 q, show b = M 7 0 1 by omega]
          have NEXT : ∀ v M3, x = 4 → b < M 7 0 1 → kFq M0 M3 → v = kPr (kXnet M) a b → kG p l e h s m args below meth c w 6 1 post 43 [vR 7 0, vI x, vI em, vI (pr1 + v), vI a, vI (b + 1)] [] (M3) := by
            intro v M3 hx4 hlt hq3 hv
            refine ih3 (b + 1) _ em M3 hem hab (by omega) (by omega) (by omega) hq3 (fun q => ?_) (fun q => absurd hx4 q)
            rw [kSum_1 _ hb1, hpr1 q, hv, Int.add_assoc]
          refine g_iload C dX0_told_43 rfl ?_
          refine g_aload_n C dX0_told_45 rfl ?_
          refine g_getI C 1 dX0_told_46 f_X0_94 ⟨rfl, rfl⟩ rfl rfl (fun r_46 => ?_)
          refine g_ic_ge C 89 dX0_told_49 (by decide) (by omega) (fun c_49 => ?_) (fun c_49 => ?_)
          · exact EXIT (by omega) _
          · refine g_iload_n C dX0_told_52 rfl ?_
            refine g_iconst C dX0_told_53 ?_
            refine g_ic_ne C 89 dX0_told_54 (by decide) (by omega) (fun c_54 => ?_) (fun c_54 => ?_)
            · exact EXIT (by omega) _
            · refine g_iload_n C dX0_told_57 rfl ?_
              refine g_iload C dX0_told_58 rfl ?_
              refine g_iload C dX0_told_60 rfl ?_
              refine g_ic_eq C 80 dX0_told_62 (by decide) (by omega) (fun c_62 => ?_) (fun c_62 => ?_)
              · refine g_iconst C dX0_told_80 ?_
                refine g_iadd C dX0_told_81 ?_
                refine g_istn_3 C dX0_told_82 (by decide) rfl ?_
                refine g_inc_5 C dX0_told_83 (by decide) rfl ?_
                refine g_goto C 43 dX0_told_86 (by decide) ?_
                exact NEXT 0 M2 c_54 (by omega) hq2 (by rw [kPr, kIf_f (fun q => q.1 c_62)])
              · refine g_aload_n C dX0_told_65 rfl ?_
                refine g_iload C dX0_told_66 rfl ?_
                refine g_iload C dX0_told_68 rfl ?_
                refine g_callVi C dX0_told_70 v_X0_166 (m_X0_stands (h := 5) (by omega) hI a b M2 (by rw [eN2]; exact hN) hq2.2.2 (by omega) (by omega) (fun _ _ q => q)) ⟨rfl, rfl⟩ rfl rfl (Nat.le_of_ble_eq_true rfl) (by omega) ?_
                rintro z M3 ⟨hF, ⟨hz5, rfl⟩ | ⟨hz5, rfl⟩⟩
                all_goals have hfn := hF.2.2.2 a b ⟨by rw [kXnet_n]; omega, by rw [kXnet_n]; omega⟩
                all_goals rw [eN2] at hfn
                · refine g_if_eq C 80 dX0_told_73 (by decide) (by omega) (fun c_73 => ?_) (fun c_73 => ?_)
                  · omega
                  · refine g_iconst C dX0_told_76 ?_
                    refine g_goto C 81 dX0_told_77 (by decide) ?_
                    refine g_iadd C dX0_told_81 ?_
                    refine g_istn_3 C dX0_told_82 (by decide) rfl ?_
                    refine g_inc_5 C dX0_told_83 (by decide) rfl ?_
                    refine g_goto C 43 dX0_told_86 (by decide) ?_
                    exact NEXT 1 M3 c_54 (by omega) (hq2.ff hF) (by rw [kPr, kIf_t ⟨c_62, by rw [hz5] at hfn; exact hfn⟩])
                · refine g_if_eq C 80 dX0_told_73 (by decide) (by omega) (fun c_73 => ?_) (fun c_73 => ?_)
                  · refine g_iconst C dX0_told_80 ?_
                    refine g_iadd C dX0_told_81 ?_
                    refine g_istn_3 C dX0_told_82 (by decide) rfl ?_
                    refine g_inc_5 C dX0_told_83 (by decide) rfl ?_
                    refine g_goto C 43 dX0_told_86 (by decide) ?_
                    exact NEXT 0 M3 c_54 (by omega) (hq2.ff hF) (by rw [kPr, kIf_f (fun q => hz5 (kFN_uniq hfn q.2))])
                  · omega
      refine g_iload C dX0_told_11 rfl ?_
      refine g_aload_n C dX0_told_13 rfl ?_
      refine g_getI C 1 dX0_told_14 f_X0_94 ⟨rfl, rfl⟩ rfl rfl (fun r_14 => ?_)
      refine g_ic_ge C 95 dX0_told_17 (by decide) (by omega) (fun c_17 => ?_) (fun c_17 => ?_)
      · rw [show a = M 7 0 1 by omega]
        exact REST M0 hL hK0 M1 hq pr (fun q => by rw [hpr q, show a = M 7 0 1 by omega]; rfl) _ _
      · refine g_iload_n C dX0_told_20 rfl ?_
        refine g_aload_n C dX0_told_21 rfl ?_
        refine g_getR C 29 dX0_told_22 f_X0_64 ⟨rfl, rfl⟩ rfl (by decide) ?_
        refine g_iload C dX0_told_25 rfl ?_
        refine g_iald C 60 dX0_told_27 ⟨rfl, rfl⟩ rfl (by omega) (fun r_27 => ?_)
        rw [e29] at r_27 ⊢
        refine g_bipush C dX0_told_28 (by decide) ?_
        refine g_ic_le C 37 dX0_told_30 (by decide) (by omega) (fun c_30 => ?_) (fun c_30 => ?_)
        · refine g_iconst C dX0_told_37 ?_
          refine g_iadd C dX0_told_38 ?_
          refine g_istn_2 C dX0_told_39 (by decide) rfl ?_
          refine g_iconst C dX0_told_40 ?_
          refine g_ist_5 C dX0_told_41 (by decide) rfl ?_
          first
          | exact INNER ((M 7 0 1).toNat + 1) 0 pr _ M1 (by rw [kBig_1 ha1, if_pos (by omega)]) (by omega) (by omega) (by omega) (by omega) hq (fun q => by rw [hpr q]; exact (Int.add_zero _).symm) (fun _ => rfl)
          | exact INNER ((M 7 0 1).toNat + 1) 0 pr _ M1 (by rw [kBig_1 ha1, if_neg (by omega)]) (by omega) (by omega) (by omega) (by omega) hq (fun q => by rw [hpr q]; exact (Int.add_zero _).symm) (fun _ => rfl)
        · refine g_iconst C dX0_told_33 ?_
          refine g_goto C 38 dX0_told_34 (by decide) ?_
          refine g_iadd C dX0_told_38 ?_
          refine g_istn_2 C dX0_told_39 (by decide) rfl ?_
          refine g_iconst C dX0_told_40 ?_
          refine g_ist_5 C dX0_told_41 (by decide) rfl ?_
          first
          | exact INNER ((M 7 0 1).toNat + 1) 0 pr _ M1 (by rw [kBig_1 ha1, if_pos (by omega)]) (by omega) (by omega) (by omega) (by omega) hq (fun q => by rw [hpr q]; exact (Int.add_zero _).symm) (fun _ => rfl)
          | exact INNER ((M 7 0 1).toNat + 1) 0 pr _ M1 (by rw [kBig_1 ha1, if_neg (by omega)]) (by omega) (by omega) (by omega) (by omega) hq (fun q => by rw [hpr q]; exact (Int.add_zero _).symm) (fun _ => rfl)
  refine g_aload_n C dX0_told_0 rfl ?_
  refine g_callVv C dX0_told_1 v_X0_260 (m_X0_findLeasts (h := 4) (by omega) hI M hN (fun _ _ q => q)) ⟨rfl, rfl⟩ rfl rfl (Nat.le_of_ble_eq_true rfl) (by omega) ?_
  rintro z0 M0 hL
  have hK0 : kKn M0 := by
    unfold kKn
    rw [hL.net, hL.1 7 (by decide), hL.1 5 (by decide)]
    exact hK
  refine g_iconst C dX0_told_4 ?_
  refine g_istn_2 C dX0_told_5 (by decide) rfl ?_
  refine g_iconst C dX0_told_6 ?_
  refine g_istn_3 C dX0_told_7 (by decide) rfl ?_
  refine g_iconst C dX0_told_8 ?_
  refine g_ist_4 C dX0_told_9 (by decide) rfl ?_
  exact ROWS M0 hL hK0 ((M 7 0 1).toNat + 1) 0 0 _ M0 (by omega) (by omega) (by omega) (kFq.rf hK0) (fun _ => rfl)
theorem m_X4_told (hh : 4 ≤ h) (hI : kInj w) (x : Int) (M : KM) (hN : kWF (kMnet M)) (hK : kLd2 M) (hx : -2147483648 ≤ x ∧ x < 2147483648) (hp : ∀ z M', kTm M M' ∧ kToldA (kMnet M) (M 30 0 0) (M 34 0) x z → post z M') : kMet l w yX4_told cX4_told 5 (some .int) 1 h [vR 30 0, vI x] M post := by
  obtain ⟨hn, -, -, -, -⟩ := kMwf hN
  have hT0 : kTm M M := ⟨fun _ _ _ _ _ => rfl, fun _ _ _ => rfl, hK⟩
  refine kMet_of [vR 30 0, vI x, vN, vN, vN] (by decide) hI rfl rfl (Nat.le_of_ble_eq_true rfl) ?_
  intro p e s m args below meth c C hVok
  have L2 : x = 2 → ∀ (n : Nat) (k : Int), 0 ≤ k → k ≤ 8 → 9 ≤ k + n → kG p l e h s m args below meth c w 5 1 post 48 [vR 30 0, vI x, vI (kNms (M 34 0) k.toNat), vI k, vN] [] (M) := by
    intro hx2 n
    induction n with
    | zero => intro k h1 h2 h3; omega
    | succ n ih =>
      intro k h1 h2 h3
      have ih := ih (k + 1) (by omega)
      rw [kNms_1 h1] at ih
      refine g_iload_n C dX4_told_48 rfl ?_
      refine g_bipush C dX4_told_49 (by decide) ?_
      refine g_ic_ge C 77 dX4_told_51 (by decide) (by omega) (fun c_51 => ?_) (fun c_51 => ?_)
      · refine g_iload_n C dX4_told_77 rfl ?_
        exact g_iret C dX4_told_78 (hp _ _ ⟨hT0, Or.inr (Or.inr (Or.inl ⟨hx2, by rw [show k = 8 by omega]; rfl⟩))⟩)
      · refine g_iload_n C dX4_told_54 rfl ?_
        refine g_aload_n C dX4_told_55 rfl ?_
        refine g_getR C 34 dX4_told_56 f_X4_19 ⟨rfl, rfl⟩ rfl (by decide) ?_
        refine g_iload_n C dX4_told_59 rfl ?_
        refine g_iald C 8 dX4_told_60 ⟨rfl, rfl⟩ rfl (by omega) (fun r_60 => ?_)
        refine g_if_lt C 68 dX4_told_61 (by decide) (by omega) (fun c_61 => ?_) (fun c_61 => ?_)
        · refine g_iconst C dX4_told_68 ?_
          refine g_iadd C dX4_told_69 ?_
          refine g_istn_2 C dX4_told_70 (by decide) rfl ?_
          refine g_inc_3 C dX4_told_71 (by decide) rfl ?_
          refine g_goto C 48 dX4_told_74 (by decide) ?_
          first
          | (rw [if_pos (by assumption)] at ih; exact ih (by omega) (by omega))
          | (rw [if_neg (by omega)] at ih; exact ih (by omega) (by omega))
        · refine g_iconst C dX4_told_64 ?_
          refine g_goto C 69 dX4_told_65 (by decide) ?_
          refine g_iadd C dX4_told_69 ?_
          refine g_istn_2 C dX4_told_70 (by decide) rfl ?_
          refine g_inc_3 C dX4_told_71 (by decide) rfl ?_
          refine g_goto C 48 dX4_told_74 (by decide) ?_
          first
          | (rw [if_pos (by assumption)] at ih; exact ih (by omega) (by omega))
          | (rw [if_neg (by omega)] at ih; exact ih (by omega) (by omega))
  have L3 : x = 3 → ∀ M1 : KM, kLG M M1 → ∀ (n : Nat) (k : Int), 0 ≤ k → k ≤ M 30 0 2 → M 30 0 2 + 1 ≤ k + n → kG p l e h s m args below meth c w 5 1 post 85 [vR 30 0, vI x, vI (kBig (fun i => min 41 (M1 54 0 i)) k.toNat), vI k, vN] [] (M1) := by
    intro hx3 M1 hL n
    have e30 : M1 30 = M 30 := hL.1 30 (by decide)
    have hT : kTm M M1 := ⟨fun t h1 h2 h3 h4 => hL.1 t h3, fun i k _ => by rw [e30], by
      unfold kLd2
      rw [hL.net, e30, hL.1 41 (by decide), hL.1 42 (by decide)]
      have : kDF M1 = kDF M := by funext i k; simp only [kDF, hL.1 42 (by decide)]
      rw [this]
      exact hK⟩
    induction n with
    | zero => intro k h1 h2 h3; omega
    | succ n ih =>
      intro k h1 h2 h3
      have ih := ih (k + 1) (by omega)
      rw [kBig_1 h1] at ih
      have e2 : M1 30 0 2 = M 30 0 2 := by rw [e30]
      refine g_iload_n C dX4_told_85 rfl ?_
      refine g_aload_n C dX4_told_86 rfl ?_
      refine g_getI C 2 dX4_told_87 f_X4_116 ⟨rfl, rfl⟩ rfl rfl (fun r_87 => ?_)
      refine g_ic_ge C 118 dX4_told_90 (by decide) (by omega) (fun c_90 => ?_) (fun c_90 => ?_)
      · refine g_iload_n C dX4_told_118 rfl ?_
        exact g_iret C dX4_told_119 (hp _ _ ⟨hT, Or.inr (Or.inr (Or.inr (Or.inl ⟨hx3, _, hL.2, by rw [show k = M 30 0 2 by omega]; rfl⟩)))⟩)
      · refine g_iload_n C dX4_told_93 rfl ?_
        refine g_aload_n C dX4_told_94 rfl ?_
        refine g_getR C 54 dX4_told_95 f_X4_81 ⟨rfl, rfl⟩ rfl (by decide) ?_
        refine g_iload_n C dX4_told_98 rfl ?_
        refine g_iald C 60 dX4_told_99 ⟨rfl, rfl⟩ rfl (by omega) (fun r_99 => ?_)
        refine g_bipush C dX4_told_100 (by decide) ?_
        refine g_ic_le C 109 dX4_told_102 (by decide) (by omega) (fun c_102 => ?_) (fun c_102 => ?_)
        · refine g_iconst C dX4_told_109 ?_
          refine g_iadd C dX4_told_110 ?_
          refine g_istn_2 C dX4_told_111 (by decide) rfl ?_
          refine g_inc_3 C dX4_told_112 (by decide) rfl ?_
          refine g_goto C 85 dX4_told_115 (by decide) ?_
          first
          | (rw [if_pos (by omega)] at ih; exact ih (by omega) (by omega))
          | (rw [if_neg (by omega)] at ih; exact ih (by omega) (by omega))
        · refine g_iconst C dX4_told_105 ?_
          refine g_goto C 110 dX4_told_106 (by decide) ?_
          refine g_iadd C dX4_told_110 ?_
          refine g_istn_2 C dX4_told_111 (by decide) rfl ?_
          refine g_inc_3 C dX4_told_112 (by decide) rfl ?_
          refine g_goto C 85 dX4_told_115 (by decide) ?_
          first
          | (rw [if_pos (by omega)] at ih; exact ih (by omega) (by omega))
          | (rw [if_neg (by omega)] at ih; exact ih (by omega) (by omega))
  have L4 : x = 4 → ∀ M1 : KM, kLL M M1 → ∀ (n2 : Nat) (a : Int) (x4 : KV), 0 ≤ a → a ≤ M 30 0 2 → M 30 0 2 + 1 ≤ a + n2 → kG p l e h s m args below meth c w 5 1 post 126 [vR 30 0, vI x, vI (kSum (fun i => kSum (kPr (kMnet M) i) (M 30 0 2).toNat) a.toNat), vI a, x4] [] (M1) := by
    intro hx4 M1 hL n2
    have e2 : M1 30 0 2 = M 30 0 2 := hL.many
    have hT : kTm M M1 := ⟨fun t h1 h2 h3 h4 => hL.1 t h1 h2 h4, hL.2.1, hL.ld⟩
    induction n2 with
    | zero => intro a x4 h1 h2 h3; omega
    | succ n2 ih =>
      intro a x4 ha1 ha2 ha3
      have INNER : ∀ (n3 : Nat) (b : Int), a < M 30 0 2 → 0 ≤ b → b ≤ M 30 0 2 → M 30 0 2 + 1 ≤ b + n3 → kG p l e h s m args below meth c w 5 1 post 137 [vR 30 0, vI x, vI (kSum (fun i => kSum (kPr (kMnet M) i) (M 30 0 2).toNat) a.toNat + kSum (kPr (kMnet M) a) b.toNat), vI a, vI b] [] (M1) := by
        intro n3
        induction n3 with
        | zero => intro b h9 h1 h2 h3; omega
        | succ n3 ih3 =>
          intro b hab hb1 hb2 hb3
          have NEXT : ∀ v, b < M 30 0 2 → v = kPr (kMnet M) a b → kG p l e h s m args below meth c w 5 1 post 137 [vR 30 0, vI x, vI (kSum (fun i => kSum (kPr (kMnet M) i) (M 30 0 2).toNat) a.toNat + kSum (kPr (kMnet M) a) b.toNat + v), vI a, vI (b + 1)] [] (M1) := by
            intro v hlt hv
            have := ih3 (b + 1) hab (by omega) (by omega) (by omega)
            rw [kSum_1 _ hb1] at this
            rw [Int.add_assoc, hv]
            exact this
          have hm : b < M 30 0 2 → (M1 41 0 (60 * a + b) = 0 → ¬ kFN (kMnet M) a b (-6)) ∧ (M1 41 0 (60 * a + b) ≠ 0 → kFN (kMnet M) a b (-6)) := by
            intro hlt
            rcases hL.may (i := a) (k := b) ⟨⟨ha1, hab⟩, hb1, hlt⟩ with ⟨m1, m2⟩ | ⟨m1, m2, m3, m4⟩
            · exact ⟨fun q => by omega, fun _ => m2⟩
            · exact ⟨fun _ q => by have := kFN_uniq m2 q; omega, fun q => absurd m1 q⟩
          have h60 : 60 * a + b ≤ 3600 := by omega
          refine g_iload C dX4_told_137 rfl ?_
          refine g_aload_n C dX4_told_139 rfl ?_
          refine g_getI C 2 dX4_told_140 f_X4_116 ⟨rfl, rfl⟩ rfl rfl (fun r_140 => ?_)
          refine g_ic_ge C 181 dX4_told_143 (by decide) (by omega) (fun c_143 => ?_) (fun c_143 => ?_)
          · refine g_inc_3 C dX4_told_181 (by decide) rfl ?_
            refine g_goto C 126 dX4_told_184 (by decide) ?_
            have := ih (a + 1) (vI b) (by omega) (by omega) (by omega)
            rw [kSum_1 _ ha1] at this
            rw [show b = M 30 0 2 by omega] at this ⊢
            exact this
          · refine g_iload_n C dX4_told_146 rfl ?_
            refine g_aload_n C dX4_told_147 rfl ?_
            refine g_getR C 41 dX4_told_148 f_X4_40 ⟨rfl, rfl⟩ rfl (by decide) ?_
            refine g_bipush C dX4_told_151 (by decide) ?_
            refine g_iload_n C dX4_told_153 rfl ?_
            refine g_imul C dX4_told_154 ?_
            refine g_iload C dX4_told_155 rfl ?_
            refine g_iadd C dX4_told_157 ?_
            refine g_zald C 3600 dX4_told_158 ⟨rfl, rfl⟩ rfl (by omega) (fun r_158 => ?_)
            refine g_if_eq C 172 dX4_told_159 (by decide) (by omega) (fun c_159 => ?_) (fun c_159 => ?_)
            · refine g_iconst C dX4_told_172 ?_
              refine g_iadd C dX4_told_173 ?_
              refine g_istn_2 C dX4_told_174 (by decide) rfl ?_
              refine g_inc_4 C dX4_told_175 (by decide) rfl ?_
              refine g_goto C 137 dX4_told_178 (by decide) ?_
              first
              | exact NEXT 1 (by omega) (by rw [kPr, kIf_t ⟨by assumption, (hm (by omega)).2 (by assumption)⟩])
              | exact NEXT 0 (by omega) (by rw [kPr, kIf_f (fun q => q.1 (by assumption))])
              | exact NEXT 0 (by omega) (by rw [kPr, kIf_f (fun q => (hm (by omega)).1 (by assumption) q.2)])
            · refine g_iload_n C dX4_told_162 rfl ?_
              refine g_iload C dX4_told_163 rfl ?_
              refine g_ic_eq C 172 dX4_told_165 (by decide) (by omega) (fun c_165 => ?_) (fun c_165 => ?_)
              · refine g_iconst C dX4_told_172 ?_
                refine g_iadd C dX4_told_173 ?_
                refine g_istn_2 C dX4_told_174 (by decide) rfl ?_
                refine g_inc_4 C dX4_told_175 (by decide) rfl ?_
                refine g_goto C 137 dX4_told_178 (by decide) ?_
                first
                | exact NEXT 1 (by omega) (by rw [kPr, kIf_t ⟨by assumption, (hm (by omega)).2 (by assumption)⟩])
                | exact NEXT 0 (by omega) (by rw [kPr, kIf_f (fun q => q.1 (by assumption))])
                | exact NEXT 0 (by omega) (by rw [kPr, kIf_f (fun q => (hm (by omega)).1 (by assumption) q.2)])
              · refine g_iconst C dX4_told_168 ?_
                refine g_goto C 173 dX4_told_169 (by decide) ?_
                refine g_iadd C dX4_told_173 ?_
                refine g_istn_2 C dX4_told_174 (by decide) rfl ?_
                refine g_inc_4 C dX4_told_175 (by decide) rfl ?_
                refine g_goto C 137 dX4_told_178 (by decide) ?_
                first
                | exact NEXT 1 (by omega) (by rw [kPr, kIf_t ⟨by assumption, (hm (by omega)).2 (by assumption)⟩])
                | exact NEXT 0 (by omega) (by rw [kPr, kIf_f (fun q => q.1 (by assumption))])
                | exact NEXT 0 (by omega) (by rw [kPr, kIf_f (fun q => (hm (by omega)).1 (by assumption) q.2)])
      refine g_iload_n C dX4_told_126 rfl ?_
      refine g_aload_n C dX4_told_127 rfl ?_
      refine g_getI C 2 dX4_told_128 f_X4_116 ⟨rfl, rfl⟩ rfl rfl (fun r_128 => ?_)
      refine g_ic_ge C 187 dX4_told_131 (by decide) (by omega) (fun c_131 => ?_) (fun c_131 => ?_)
      · refine g_iload_n C dX4_told_187 rfl ?_
        exact g_iret C dX4_told_188 (hp _ _ ⟨hT, Or.inr (Or.inr (Or.inr (Or.inr (Or.inl ⟨hx4, by rw [show a = M 30 0 2 by omega]; rfl⟩))))⟩)
      · refine g_iconst C dX4_told_134 ?_
        refine g_ist_4 C dX4_told_135 (by decide) rfl ?_
        have := INNER ((M 30 0 2).toNat + 1) 0 (by omega) (by omega) (by omega) (by omega)
        rw [show kSum (kPr (kMnet M) a) (0 : Int).toNat = 0 from rfl, Int.add_zero] at this
        exact this
  refine g_iconst C dX4_told_0 ?_
  refine g_istn_2 C dX4_told_1 (by decide) rfl ?_
  refine g_iload_n C dX4_told_2 rfl ?_
  have sw_3 : (x < 0 ∨ 4 < x) ∨ (x = 0) ∨ (x = 1) ∨ (x = 2) ∨ (x = 3) ∨ (x = 4) := by omega
  rcases sw_3 with c_3 | c_3 | c_3 | c_3 | c_3 | c_3
  · refine g_tblOut C 189 dX4_told_3 (by omega) c_3 (by decide) ?_
    refine g_bipush C dX4_told_189 (by decide) ?_
    exact g_iret C dX4_told_191 (hp _ _ ⟨hT0, Or.inr (Or.inr (Or.inr (Or.inr (Or.inr ⟨c_3, rfl⟩))))⟩)
  · refine g_tblIn C (off := 33) 36 dX4_told_3 (by omega) (by omega) (by rw [c_3]; rfl) (by decide) ?_
    refine g_aload_n C dX4_told_36 rfl ?_
    refine g_getI C 0 dX4_told_37 f_X4_88 ⟨rfl, rfl⟩ rfl rfl (fun r_37 => ?_)
    exact g_iret C dX4_told_40 (hp _ _ ⟨hT0, Or.inl ⟨c_3, rfl⟩⟩)
  · refine g_tblIn C (off := 38) 41 dX4_told_3 (by omega) (by omega) (by rw [c_3]; rfl) (by decide) ?_
    refine g_aload_n C dX4_told_41 rfl ?_
    refine g_getI C 2 dX4_told_42 f_X4_116 ⟨rfl, rfl⟩ rfl rfl (fun r_42 => ?_)
    exact g_iret C dX4_told_45 (hp _ _ ⟨hT0, Or.inr (Or.inl ⟨c_3, rfl⟩)⟩)
  · refine g_tblIn C (off := 43) 46 dX4_told_3 (by omega) (by omega) (by rw [c_3]; rfl) (by decide) ?_
    refine g_iconst C dX4_told_46 ?_
    refine g_istn_3 C dX4_told_47 (by decide) rfl ?_
    exact L2 c_3 9 0 (by omega) (by omega) (by omega)
  · refine g_tblIn C (off := 76) 79 dX4_told_3 (by omega) (by omega) (by rw [c_3]; rfl) (by decide) ?_
    refine g_aload_n C dX4_told_79 rfl ?_
    refine g_callVv C dX4_told_80 v_X4_206 (m_X4_layLeast (h := 2) hI M hN (fun _ _ q => q)) ⟨rfl, rfl⟩ rfl rfl (Nat.le_of_ble_eq_true rfl) (by omega) ?_
    rintro z0 M1 hL
    refine g_iconst C dX4_told_83 ?_
    refine g_istn_3 C dX4_told_84 (by decide) rfl ?_
    exact L3 c_3 M1 hL ((M 30 0 2).toNat + 1) 0 (by omega) (by omega) (by omega)
  · refine g_tblIn C (off := 117) 120 dX4_told_3 (by omega) (by omega) (by rw [c_3]; rfl) (by decide) ?_
    refine g_aload_n C dX4_told_120 rfl ?_
    refine g_callVv C dX4_told_121 v_X4_145 (m_X4_lay (h := 3) (by omega) hI M hN hK (fun _ _ q => q)) ⟨rfl, rfl⟩ rfl rfl (Nat.le_of_ble_eq_true rfl) (by omega) ?_
    rintro z0 M1 hL
    refine g_iconst C dX4_told_124 ?_
    refine g_istn_3 C dX4_told_125 (by decide) rfl ?_
    exact L4 c_3 M1 hL ((M 30 0 2).toNat + 1) 0 _ (by omega) (by omega) (by omega)
end

