/-! KindNets: hold, pieces -/
set_option maxRecDepth 100000
section
variable {l : Launch} {w : KL}
theorem m_X0_hold (hI : kInj w) (d : Nat) : ∀ {h : Nat} {post : Int → KM → Prop} (i : Int) (M : KM), d + 2 ≤ h → kWF (kXnet M) → (0 ≤ i ∧ i < M 7 0 1) → k01 (kXnet M) (M 19 0) → M 19 0 i = 0 → kUnh (kXnet M) (M 19 0) ≤ d → (∀ z M', (∀ t, t ≠ 19 → M' t = M t) ∧ kHp (kXnet M) i (M 19 0) (M' 19 0) → post z M') → kMet l w yX0_hold cX0_hold 3 none 0 h [vR 7 0, vI i] M post := by
  induction d with
  | zero =>
    intro h post i M hh hN hi h01 h0 hd hp
    have := kUnh_lt (N := kXnet M) (H := M 19 0) (G := fun _ => 1) (fun _ _ _ => rfl) h01 (i := i) hi h0 rfl
    have := kUnh_nn (N := kXnet M) (H := fun _ => 1)
    omega
  | succ d ihd =>
    intro h post i M hh hN hi h01 h0 hd hp
    obtain ⟨hn, -, hpt, -, -⟩ := kXwf hN
    refine kMet_of [vR 7 0, vI i, vN] (by decide) hI rfl rfl (Nat.le_of_ble_eq_true rfl) ?_
    intro p e s m args below meth c C hVok
    have L : ∀ (n : Nat) (k : Int) (M1 : KM), 0 ≤ k → k ≤ 8 → 9 ≤ k + n → (∀ t, t ≠ 19 → M1 t = M t) → kHl (kXnet M) i (M 19 0) (M1 19 0) k → kG p l e h s m args below meth c w 3 0 post 9 [vR 7 0, vI i, vI k] [] (M1) := by
      intro n
      induction n with
      | zero => intro k M1 h1 h2 h3; omega
      | succ n ih =>
        intro k M1 h1 h2 h3 hs hW
        have e2 : M1 2 = M 2 := hs 2 (by decide)
        have e71 : M1 7 0 1 = M 7 0 1 := by rw [hs 7 (by decide)]
        have eN : kXnet M1 = kXnet M := kXnet_eq (hs 1 (by decide)) e2 e71
        have hlt : kUnh (kXnet M) (M1 19 0) ≤ d := by
          have := kUnh_lt hW.2.1 h01 (i := i) hi h0 hW.2.2.1
          omega
        have EP : k < 8 → (kXnet M).2.2 i k = M 2 i k := fun h8 => kXnet_p hi ⟨h1, h8⟩
        have P : k < 8 → M 2 i k ≠ -6 → 0 ≤ M 2 i k ∧ M 2 i k < M 7 0 1 := by
          intro h8 hne
          have a := hpt i k hi.1 hi.2 h1 h8
          omega
        refine g_iload_n C dX0_hold_9 rfl ?_
        refine g_bipush C dX0_hold_10 (by decide) ?_
        refine g_ic_ge C 68 dX0_hold_12 (by decide) (by omega) (fun c_12 => ?_) (fun c_12 => ?_)
        · exact g_vret C dX0_hold_68 (hp _ _ ⟨hs, kHl_end (by rw [show k = 8 by omega] at hW; exact hW)⟩)
        · refine g_aload_n C dX0_hold_15 rfl ?_
          refine g_getR C 8 dX0_hold_16 f_X0_11 ⟨rfl, rfl⟩ rfl (by decide) ?_
          refine g_iload_n C dX0_hold_19 rfl ?_
          refine g_aald C 1 60 dX0_hold_20 ⟨rfl, by decide, by decide⟩ (by decide) rfl (by omega) ?_
          refine g_iload_n C dX0_hold_21 rfl ?_
          refine g_callVi C dX0_hold_22 v_X0_148 (m_X2_has (h := 1) hI i k M1 (by omega) (fun _ _ q => q)) ⟨rfl, rfl⟩ rfl rfl (Nat.le_of_ble_eq_true rfl) (by omega) ?_
          rintro z M' ⟨⟨hz, rfl⟩ | ⟨hz, rfl⟩, rfl⟩
          all_goals rw [e2] at hz
          · refine g_if_eq C 62 dX0_hold_25 (by decide) (by omega) (fun c_25 => ?_) (fun c_25 => ?_)
            · omega
            · have p := P (by omega) hz
              refine g_aload_n C dX0_hold_28 rfl ?_
              refine g_getR C 19 dX0_hold_29 f_X0_38 ⟨rfl, rfl⟩ rfl (by decide) ?_
              refine g_aload_n C dX0_hold_32 rfl ?_
              refine g_getR C 8 dX0_hold_33 f_X0_11 ⟨rfl, rfl⟩ rfl (by decide) ?_
              refine g_iload_n C dX0_hold_36 rfl ?_
              refine g_aald C 1 60 dX0_hold_37 ⟨rfl, by decide, by decide⟩ (by decide) rfl (by omega) ?_
              refine g_getR C 2 dX0_hold_38 f_X0_113 ⟨rfl, rfl⟩ rfl (by decide) ?_
              refine g_iload_n C dX0_hold_41 rfl ?_
              refine g_iald C 8 dX0_hold_42 ⟨rfl, rfl⟩ rfl (by omega) (fun r_42 => ?_)
              rw [e2] at r_42 ⊢
              refine g_zald C 60 dX0_hold_43 ⟨rfl, rfl⟩ rfl (by omega) (fun r_43 => ?_)
              refine g_if_ne C 62 dX0_hold_44 (by decide) (by omega) (fun c_44 => ?_) (fun c_44 => ?_)
              · refine g_inc_2 C dX0_hold_62 (by decide) rfl ?_
                refine g_goto C 9 dX0_hold_65 (by decide) ?_
                refine ih (k + 1) M1 (by omega) (by omega) (by omega) hs (kHl_skip hW (fun q => ?_))
                rw [EP (by omega)]
                rcases hW.1 (M 2 i k) p with q | q
                · exact absurd q c_44
                · exact q
              · refine g_aload_n C dX0_hold_47 rfl ?_
                refine g_aload_n C dX0_hold_48 rfl ?_
                refine g_getR C 8 dX0_hold_49 f_X0_11 ⟨rfl, rfl⟩ rfl (by decide) ?_
                refine g_iload_n C dX0_hold_52 rfl ?_
                refine g_aald C 1 60 dX0_hold_53 ⟨rfl, by decide, by decide⟩ (by decide) rfl (by omega) ?_
                refine g_getR C 2 dX0_hold_54 f_X0_113 ⟨rfl, rfl⟩ rfl (by decide) ?_
                refine g_iload_n C dX0_hold_57 rfl ?_
                refine g_iald C 8 dX0_hold_58 ⟨rfl, rfl⟩ rfl (by omega) (fun r_58 => ?_)
                rw [e2] at r_58 ⊢
                refine g_callVv C dX0_hold_59 v_X0_177 (ihd (h := d + 2) (M 2 i k) M1 (Nat.le_refl _) (by rw [eN]; exact hN) (by omega) (by rw [eN]; exact hW.1) c_44 (by rw [eN]; exact hlt) (fun _ _ q => q)) ⟨rfl, rfl⟩ rfl rfl (Nat.le_of_ble_eq_true rfl) (by omega) ?_
                rintro z2 M2 ⟨hs2, hp2⟩
                rw [eN] at hp2
                refine g_inc_2 C dX0_hold_62 (by decide) rfl ?_
                refine g_goto C 9 dX0_hold_65 (by decide) ?_
                have hp3 : kHp (kXnet M) ((kXnet M).2.2 i k) (M1 19 0) (M2 19 0) := by rw [EP (by omega)]; exact hp2
                exact ih (k + 1) M2 (by omega) (by omega) (by omega) (fun t ht => (hs2 t ht).trans (hs t ht)) (kHl_call hN hW hi ⟨h1, by omega⟩ (by rw [EP (by omega)]; exact hz) hp3)
          · refine g_if_eq C 62 dX0_hold_25 (by decide) (by omega) (fun c_25 => ?_) (fun c_25 => ?_)
            · refine g_inc_2 C dX0_hold_62 (by decide) rfl ?_
              refine g_goto C 9 dX0_hold_65 (by decide) ?_
              exact ih (k + 1) M1 (by omega) (by omega) (by omega) hs (kHl_skip hW (fun q => by rw [EP (by omega)] at q; exact absurd hz q))
            · omega
    refine g_aload_n C dX0_hold_0 rfl ?_
    refine g_getR C 19 dX0_hold_1 f_X0_38 ⟨rfl, rfl⟩ rfl (by decide) ?_
    refine g_iload_n C dX0_hold_4 rfl ?_
    refine g_iconst C dX0_hold_5 ?_
    refine g_zast C 60 dX0_hold_6 ⟨rfl, rfl⟩ rfl (by omega) (by omega) ?_
    refine g_iconst C dX0_hold_7 ?_
    refine g_istn_2 C dX0_hold_8 (by decide) rfl ?_
    exact L 9 0 _ (by omega) (by omega) (by omega) (fun t ht => kUp_t ht) (kHl_0 h01 h0 (fun j _ => by simp [kUp]) hi)
variable {h : Nat} {post : Int → KM → Prop}
theorem m_X0_pieces (hh : 100 ≤ h) (hI : kInj w) (i : Int) (M : KM) (hN : kWF (kXnet M)) (hK : kKn M) (hi0 : -2147483648 ≤ i ∧ i < 2147483648) (hp : ∀ z M', (¬ kRn (kXnet M) i ∧ z = -1 ∧ M = M') ∨ (kRn (kXnet M) i ∧ (∀ t, t ≠ 5 → t ≠ 7 → t ≠ 19 → M' t = M t) ∧ (∀ i k, k ≠ 8 → M' 7 i k = M 7 i k) ∧ kKn M' ∧ z = kPc (kXnet M) i (kXnet M).1.toNat) → post z M') : kMet l w yX0_pieces cX0_pieces 6 (some .int) 1 h [vR 7 0, vI i] M post := by
  obtain ⟨hn, -, -, -, -⟩ := kXwf hN
  have er : kRn (kXnet M) i ↔ (0 ≤ i ∧ i < M 7 0 1) := Iff.rfl
  refine kMet_of [vR 7 0, vI i, vN, vN, vN, vN] (by decide) hI rfl rfl (Nat.le_of_ble_eq_true rfl) ?_
  intro p e s m args below meth c C hVok
  have CNT : ∀ M0 : KM, kRn (kXnet M) i → (∀ t, t ≠ 19 → M0 t = M t) → kHis (kXnet M) i (M0 19 0) → ∀ (n2 : Nat) (a : Int) (x4 x5 : KV) (M1 : KM), 0 ≤ a → a ≤ M 7 0 1 → M 7 0 1 + 1 ≤ a + n2 → kFq M0 M1 → kG p l e h s m args below meth c w 6 1 post 42 [vR 7 0, vI i, vI (kPc (kXnet M) i a.toNat), vI a, x4, x5] [] (M1) := by
    intro M0 hri hs0 hH n2
    have eN0 : kXnet M0 = kXnet M := kXnet_eq (hs0 1 (by decide)) (hs0 2 (by decide)) (by rw [hs0 7 (by decide)])
    have f71 : M0 7 0 1 = M 7 0 1 := by rw [hs0 7 (by decide)]
    induction n2 with
    | zero => intro a x4 x5 M1 h1 h2 h3; omega
    | succ n2 ih =>
      intro a x4 x5 M1 ha1 ha2 ha3 hq
      have e71 : M1 7 0 1 = M 7 0 1 := by rw [hq.2.1 0 1 (by decide), f71]
      have e19 : M1 19 = M0 19 := hq.1 19 (by decide) (by decide)
      have TAIL : ∀ (f : Int) (x5 : KV) (M2 : KM), a < M 7 0 1 → kFq M0 M2 → f = kIf (kFrs (kXnet M) i a a) 1 0 → (f = 0 ∨ f = 1) → kG p l e h s m args below meth c w 6 1 post 105 [vR 7 0, vI i, vI (kPc (kXnet M) i a.toNat), vI a, vI f, x5] [] (M2) := by
        intro f x5 M2 hlt hq2 hf hf01
        have := ih (a + 1) (vI f) x5 M2 (by omega) (by omega) (by omega) hq2
        rw [kPc_1 ha1, ← hf] at this
        have hr : -2147483648 ≤ f ∧ f < 2147483648 := by omega
        refine g_iload_n C dX0_pieces_105 rfl ?_
        refine g_iload C dX0_pieces_106 rfl ?_
        refine g_if_eq C 115 dX0_pieces_108 (by decide) (by omega) (fun c_108 => ?_) (fun c_108 => ?_)
        · refine g_iconst C dX0_pieces_115 ?_
          refine g_iadd C dX0_pieces_116 ?_
          refine g_istn_2 C dX0_pieces_117 (by decide) rfl ?_
          refine g_inc_3 C dX0_pieces_118 (by decide) rfl ?_
          refine g_goto C 42 dX0_pieces_121 (by decide) ?_
          first
          | (rw [show f = 0 by omega] at this ⊢; exact this)
          | (rw [show f = 1 by omega] at this ⊢; exact this)
        · refine g_iconst C dX0_pieces_111 ?_
          refine g_goto C 116 dX0_pieces_112 (by decide) ?_
          refine g_iadd C dX0_pieces_116 ?_
          refine g_istn_2 C dX0_pieces_117 (by decide) rfl ?_
          refine g_inc_3 C dX0_pieces_118 (by decide) rfl ?_
          refine g_goto C 42 dX0_pieces_121 (by decide) ?_
          first
          | (rw [show f = 0 by omega] at this ⊢; exact this)
          | (rw [show f = 1 by omega] at this ⊢; exact this)
      have INNER : ∀ (n3 : Nat) (b f : Int) (M2 : KM), a < M 7 0 1 → 0 ≤ b → b ≤ a → a + 1 ≤ b + n3 → kFq M0 M2 → ((f = 1 ∧ kFrs (kXnet M) i a b) ∨ (f = 0 ∧ ¬ kFrs (kXnet M) i a a)) → kG p l e h s m args below meth c w 6 1 post 61 [vR 7 0, vI i, vI (kPc (kXnet M) i a.toNat), vI a, vI f, vI b] [] (M2) := by
        intro n3
        induction n3 with
        | zero => intro b f M2 h9 h0 h1 h2; omega
        | succ n3 ih3 =>
          intro b f M2 hab hb1 hb2 hb3 hq2 hf
          have g71 : M2 7 0 1 = M 7 0 1 := by rw [hq2.2.1 0 1 (by decide), f71]
          have g19 : M2 19 = M0 19 := hq2.1 19 (by decide) (by decide)
          have eN2 : kXnet M2 = kXnet M := by rw [hq2.net, eN0]
          have hf01 : f = 0 ∨ f = 1 := by
            rcases hf with ⟨q, _⟩ | ⟨q, _⟩
            · exact Or.inr q
            · exact Or.inl q
          have NEXT : ∀ M3, f = 1 → b < a → kFq M0 M3 → ¬ (kReach (kXnet M) i b ∧ kAl (kXnet M) b a) → kG p l e h s m args below meth c w 6 1 post 61 [vR 7 0, vI i, vI (kPc (kXnet M) i a.toNat), vI a, vI 1, vI (b + 1)] [] (M3) := by
            intro M3 hf1 hlt hq3 hne
            refine ih3 (b + 1) 1 M3 hab (by omega) (by omega) (by omega) hq3 (Or.inl ⟨rfl, ?_⟩)
            rcases hf with ⟨_, q⟩ | ⟨q, _⟩
            · refine ⟨q.1, fun j j1 j2 => ?_⟩
              by_cases e9 : j = b
              · subst e9; exact hne
              · exact q.2 j j1 (by omega)
            · omega
          have NEXT0 : ∀ M3, b < a → kFq M0 M3 → (kReach (kXnet M) i b ∧ kAl (kXnet M) b a) → kG p l e h s m args below meth c w 6 1 post 61 [vR 7 0, vI i, vI (kPc (kXnet M) i a.toNat), vI a, vI 0, vI (b + 1)] [] (M3) := by
            intro M3 hlt hq3 hne
            exact ih3 (b + 1) 0 M3 hab (by omega) (by omega) (by omega) hq3 (Or.inr ⟨rfl, fun q => q.2 b hb1 hlt hne⟩)
          have EX : b = a ∨ f = 0 → f = kIf (kFrs (kXnet M) i a a) 1 0 := by
            intro hx
            rcases hf with ⟨q1, q2⟩ | ⟨q1, q2⟩
            · rw [q1, kIf_t]
              rcases hx with z | z
              · rw [z] at q2; exact q2
              · omega
            · rw [q1, kIf_f q2]
          clear hf
          have hHb : b < a → (M2 19 0 b = 1 ∧ kReach (kXnet M) i b) ∨ (M2 19 0 b = 0 ∧ ¬ kReach (kXnet M) i b) := by
            intro q
            rw [g19]
            exact hH b ⟨hb1, by rw [kXnet_n]; omega⟩
          have hfr : -2147483648 ≤ f ∧ f < 2147483648 := by omega
          have hf01' : ∀ u : Unit, f = 0 ∨ f = 1 := fun _ => hf01
          clear hf01
          refine g_iload C dX0_pieces_61 rfl ?_
          refine g_iload_n C dX0_pieces_63 rfl ?_
          refine g_ic_ge C 105 dX0_pieces_64 (by decide) (by omega) (fun c_64 => ?_) (fun c_64 => ?_)
          · first
            | exact TAIL f _ M2 hab hq2 (EX (Or.inl (by omega))) (hf01' ())
            | exact TAIL f _ M2 hab hq2 (EX (Or.inr (by omega))) (hf01' ())
          · refine g_iload C dX0_pieces_67 rfl ?_
            refine g_if_eq C 105 dX0_pieces_69 (by decide) (by omega) (fun c_69 => ?_) (fun c_69 => ?_)
            · first
              | exact TAIL f _ M2 hab hq2 (EX (Or.inl (by omega))) (hf01' ())
              | exact TAIL f _ M2 hab hq2 (EX (Or.inr (by omega))) (hf01' ())
            · refine g_aload_n C dX0_pieces_72 rfl ?_
              refine g_getR C 19 dX0_pieces_73 f_X0_38 ⟨rfl, rfl⟩ rfl (by decide) ?_
              refine g_iload C dX0_pieces_76 rfl ?_
              refine g_zald C 60 dX0_pieces_78 ⟨rfl, rfl⟩ rfl (by omega) (fun r_78 => ?_)
              refine g_if_eq C 92 dX0_pieces_79 (by decide) (by omega) (fun c_79 => ?_) (fun c_79 => ?_)
              · refine g_iconst C dX0_pieces_92 ?_
                refine g_goto C 97 dX0_pieces_93 (by decide) ?_
                refine g_ist_4 C dX0_pieces_97 (by decide) rfl ?_
                refine g_inc_5 C dX0_pieces_99 (by decide) rfl ?_
                refine g_goto C 61 dX0_pieces_102 (by decide) ?_
                refine NEXT M2 (by have := hf01' (); omega) (by omega) hq2 (fun q => ?_)
                rcases hHb (by omega) with r | r
                · have := r.1; omega
                · exact r.2 q.1
              · refine g_aload_n C dX0_pieces_82 rfl ?_
                refine g_iload C dX0_pieces_83 rfl ?_
                refine g_iload_n C dX0_pieces_85 rfl ?_
                refine g_callVi C dX0_pieces_86 v_X0_174 (m_X0_areAlike (h := 6) (by omega) hI b a M2 (by rw [eN2]; exact hN) hq2.2.2 (by omega) (by omega) (fun _ _ q => q)) ⟨rfl, rfl⟩ rfl rfl (Nat.le_of_ble_eq_true rfl) (by omega) ?_
                rintro z M3 ⟨hF, ⟨hz, rfl⟩ | ⟨hz, rfl⟩⟩
                all_goals have fba := hF.2.2.2 b a ⟨by rw [kXnet_n]; omega, by rw [kXnet_n]; omega⟩
                all_goals have fab := hF.2.2.2 a b ⟨by rw [kXnet_n]; omega, by rw [kXnet_n]; omega⟩
                all_goals rw [eN2] at fba fab
                · refine g_if_ne C 96 dX0_pieces_89 (by decide) (by omega) (fun c_89 => ?_) (fun c_89 => ?_)
                  · refine g_iconst C dX0_pieces_96 ?_
                    refine g_ist_4 C dX0_pieces_97 (by decide) rfl ?_
                    refine g_inc_5 C dX0_pieces_99 (by decide) rfl ?_
                    refine g_goto C 61 dX0_pieces_102 (by decide) ?_
                    refine NEXT0 M3 (by omega) (hq2.ff hF) ⟨?_, by rw [hz.1] at fba; exact fba, by rw [hz.2] at fab; exact fab⟩
                    rcases hHb (by omega) with q | q
                    · exact q.2
                    · exact absurd q.1 c_79
                  · omega
                · refine g_if_ne C 96 dX0_pieces_89 (by decide) (by omega) (fun c_89 => ?_) (fun c_89 => ?_)
                  · omega
                  · refine g_iconst C dX0_pieces_92 ?_
                    refine g_goto C 97 dX0_pieces_93 (by decide) ?_
                    refine g_ist_4 C dX0_pieces_97 (by decide) rfl ?_
                    refine g_inc_5 C dX0_pieces_99 (by decide) rfl ?_
                    refine g_goto C 61 dX0_pieces_102 (by decide) ?_
                    refine NEXT M3 (by have := hf01' (); omega) (by omega) (hq2.ff hF) (fun q => ?_)
                    have u1 := kFN_uniq fba q.2.1
                    have u2 := kFN_uniq fab q.2.2
                    omega
      refine g_iload_n C dX0_pieces_42 rfl ?_
      refine g_aload_n C dX0_pieces_43 rfl ?_
      refine g_getI C 1 dX0_pieces_44 f_X0_94 ⟨rfl, rfl⟩ rfl rfl (fun r_44 => ?_)
      refine g_ic_ge C 124 dX0_pieces_47 (by decide) (by omega) (fun c_47 => ?_) (fun c_47 => ?_)
      · refine g_iload_n C dX0_pieces_124 rfl ?_
        exact g_iret C dX0_pieces_125 (hp _ _ (Or.inr ⟨hri, fun t h1 h2 h3 => by rw [hq.1 t h1 h2, hs0 t h3], fun i k h1 => by rw [hq.2.1 i k h1, hs0 7 (by decide)], hq.2.2, by rw [show a = M 7 0 1 by omega]; rfl⟩))
      · refine g_aload_n C dX0_pieces_50 rfl ?_
        refine g_getR C 19 dX0_pieces_51 f_X0_38 ⟨rfl, rfl⟩ rfl (by decide) ?_
        refine g_iload_n C dX0_pieces_54 rfl ?_
        refine g_zald C 60 dX0_pieces_55 ⟨rfl, rfl⟩ rfl (by omega) (fun r_55 => ?_)
        rw [e19] at r_55 ⊢
        refine g_ist_4 C dX0_pieces_56 (by decide) rfl ?_
        refine g_iconst C dX0_pieces_58 ?_
        refine g_ist_5 C dX0_pieces_59 (by decide) rfl ?_
        rcases hH a ⟨ha1, by rw [kXnet_n]; omega⟩ with q | q
        · rw [q.1]
          exact INNER (a + 1).toNat 0 1 M1 (by omega) (by omega) (by omega) (by omega) hq (Or.inl ⟨rfl, q.2, fun j j1 j2 => by omega⟩)
        · rw [q.1]
          exact INNER (a + 1).toNat 0 0 M1 (by omega) (by omega) (by omega) (by omega) hq (Or.inr ⟨rfl, fun z => q.2 z.1⟩)
  have CLR : (0 ≤ i ∧ i < M 7 0 1) → ∀ (n2 : Nat) (a : Int) (M1 : KM), 0 ≤ a → a ≤ M 7 0 1 → M 7 0 1 + 1 ≤ a + n2 → (∀ t, t ≠ 19 → M1 t = M t) → (∀ j, 0 ≤ j → j < a → M1 19 0 j = 0) → kG p l e h s m args below meth c w 6 1 post 12 [vR 7 0, vI i, vI a, vN, vN, vN] [] (M1) := by
    intro hri n2
    induction n2 with
    | zero => intro a M1 h1 h2 h3; omega
    | succ n2 ih =>
      intro a M1 ha1 ha2 ha3 hs hA
      have e71 : M1 7 0 1 = M 7 0 1 := by rw [hs 7 (by decide)]
      have eN : kXnet M1 = kXnet M := kXnet_eq (hs 1 (by decide)) (hs 2 (by decide)) e71
      refine g_iload_n C dX0_pieces_12 rfl ?_
      refine g_aload_n C dX0_pieces_13 rfl ?_
      refine g_getI C 1 dX0_pieces_14 f_X0_94 ⟨rfl, rfl⟩ rfl rfl (fun r_14 => ?_)
      refine g_ic_ge C 33 dX0_pieces_17 (by decide) (by omega) (fun c_17 => ?_) (fun c_17 => ?_)
      · have hz : ∀ j, kRn (kXnet M) j → M1 19 0 j = 0 := fun j hj => hA j hj.1 (by have := hj.2; rw [kXnet_n] at this; omega)
        refine g_aload_n C dX0_pieces_33 rfl ?_
        refine g_iload_n C dX0_pieces_34 rfl ?_
        refine g_callVv C dX0_pieces_35 v_X0_177 (m_X0_hold hI 61 (h := 63) i M1 (by omega) (by rw [eN]; exact hN) (by omega) (by rw [eN]; exact fun j hj => Or.inl (hz j hj)) (hz i hri) (by have := kUnh_le (N := kXnet M1) (H := M1 19 0) (by rw [kXnet_n]; omega); rw [kXnet_n] at this; omega) (fun _ _ q => q)) ⟨rfl, rfl⟩ rfl rfl (Nat.le_of_ble_eq_true rfl) (by omega) ?_
        rintro z0 M0 ⟨hs2, hp2⟩
        rw [eN] at hp2
        have hH : kHis (kXnet M) i (M0 19 0) := by
          refine kHis_of hN hri hp2.1 hp2.2.2.1 (fun j l hj l1 l2 q1 q2 => hp2.2.2.2.1 j l hj l1 l2 (hz j hj) q1 q2) (fun j hj q => ?_)
          rcases hp2.2.2.2.2 j hj q with r | r
          · rw [hz j hj] at r; omega
          · exact r
        have hs0 : ∀ t, t ≠ 19 → M0 t = M t := fun t ht => (hs2 t ht).trans (hs t ht)
        have hK0 : kKn M0 := by
          unfold kKn
          rw [hs0 7 (by decide), hs0 5 (by decide), show kXnet M0 = kXnet M from kXnet_eq (hs0 1 (by decide)) (hs0 2 (by decide)) (by rw [hs0 7 (by decide)])]
          exact hK
        refine g_iconst C dX0_pieces_38 ?_
        refine g_istn_2 C dX0_pieces_39 (by decide) rfl ?_
        refine g_iconst C dX0_pieces_40 ?_
        refine g_istn_3 C dX0_pieces_41 (by decide) rfl ?_
        exact CNT M0 hri hs0 hH ((M 7 0 1).toNat + 1) 0 _ _ M0 (by omega) (by omega) (by omega) (kFq.rf hK0)
      · refine g_aload_n C dX0_pieces_20 rfl ?_
        refine g_getR C 19 dX0_pieces_21 f_X0_38 ⟨rfl, rfl⟩ rfl (by decide) ?_
        refine g_iload_n C dX0_pieces_24 rfl ?_
        refine g_iconst C dX0_pieces_25 ?_
        refine g_zast C 60 dX0_pieces_26 ⟨rfl, rfl⟩ rfl (by omega) (by omega) ?_
        refine g_inc_2 C dX0_pieces_27 (by decide) rfl ?_
        refine g_goto C 12 dX0_pieces_30 (by decide) ?_
        refine ih (a + 1) _ (by omega) (by omega) (by omega) (fun t ht => by rw [kUp_t ht]; exact hs t ht) (fun j h1 h2 => ?_)
        by_cases q : j = a
        · subst q; exact kUp_eq
        · rw [kUp_nk q]; exact hA j h1 (by omega)
  refine g_aload_n C dX0_pieces_0 rfl ?_
  refine g_iload_n C dX0_pieces_1 rfl ?_
  refine g_callVi C dX0_pieces_2 v_X0_132 (m_X0_isNode (h := 2) (by omega) hI i M (by omega) hn (fun _ _ q => q)) ⟨rfl, rfl⟩ rfl rfl (Nat.le_of_ble_eq_true rfl) (by omega) ?_
  rintro z M' ⟨hz, rfl⟩
  refine g_if_ne C 10 dX0_pieces_5 (by decide) (by omega) (fun c_5 => ?_) (fun c_5 => ?_)
  · refine g_iconst C dX0_pieces_10 ?_
    refine g_istn_2 C dX0_pieces_11 (by decide) rfl ?_
    exact CLR (by omega) ((M 7 0 1).toNat + 1) 0 M (by omega) (by omega) (by omega) (fun _ _ => rfl) (fun j h1 h2 => by omega)
  · refine g_iconst C dX0_pieces_8 ?_
    exact g_iret C dX0_pieces_9 (hp _ _ (Or.inl ⟨by rw [er]; omega, rfl, rfl⟩))
end

