/-! KindNets: leastOf, findLeasts, least -/
set_option maxRecDepth 100000
theorem kLsum_1 {N : KN} {g : Int → Int} {i k : Int} (hk : 0 ≤ k) : kLsum N g i (k + 1).toNat = kLsum N g i k.toNat + (if N.2.2 i k = -6 then 0 else g (N.2.2 i k)) := kSum_1 _ hk
theorem kLmin_1 {N : KN} {C : Int} {g : Int → Int} {i k : Int} (hk : 0 ≤ k) : kLmin N C g i (k + 1).toNat = if N.2.2 i k = -6 then kLmin N C g i k.toNat else min (kLmin N C g i k.toNat) (g (N.2.2 i k)) := by
  rw [show (k + 1).toNat = k.toNat + 1 by omega]
  show (if N.2.2 i (k.toNat : Int) = -6 then kLmin N C g i k.toNat else min (kLmin N C g i k.toNat) (g (N.2.2 i (k.toNat : Int)))) = _
  rw [show ((k.toNat : Nat) : Int) = k by omega]
def kLF (M M' : KM) : Prop := (∀ t, t ≠ 29 → M' t = M t) ∧ kLst (kXnet M) (M' 29 0)
theorem kLF.net {M M' : KM} (h : kLF M M') : kXnet M' = kXnet M := kXnet_eq (h.1 1 (by decide)) (h.1 2 (by decide)) (by rw [h.1 7 (by decide)])
section
variable {l : Launch} {w : KL} {h : Nat} {post : Int → KM → Prop}
theorem m_X0_leastOf (hh : 3 ≤ h) (hI : kInj w) (i : Int) (M : KM) (hN : kWF (kXnet M)) (hi : 0 ≤ i ∧ i < M 7 0 1) (hG : ∀ j, kRn (kXnet M) j → 0 ≤ M 29 0 j ∧ M 29 0 j ≤ 41) (hp : ∀ z M', z = min 41 (kLv (kXnet M) 41 (M 29 0) i) ∧ M = M' → post z M') : kMet l w yX0_leastOf cX0_leastOf 5 (some .int) 1 h [vR 7 0, vR 1 i] M post := by
  obtain ⟨hn, hs, hpt, -, -⟩ := kXwf hN
  have E : kLv (kXnet M) 41 (M 29 0) i = if M 1 i 0 = 110 ∨ M 1 i 0 = 116 ∨ M 1 i 0 = 115 ∨ M 1 i 0 = 42 then 1 else if M 1 i 0 = 123 then 1 + kLsum (kXnet M) (M 29 0) i 8 else if M 1 i 0 = 91 then kLmin (kXnet M) 41 (M 29 0) i 8 + 1 else 41 := by
    unfold kLv
    rw [kXnet_s hi]
  have BS : ∀ n : Nat, n ≤ 8 → 0 ≤ kLsum (kXnet M) (M 29 0) i n := kLsum_pos hN (fun j hj => (hG j hj).1) hi
  have BM : ∀ n : Nat, n ≤ 8 → 0 ≤ kLmin (kXnet M) 41 (M 29 0) i n ∧ kLmin (kXnet M) 41 (M 29 0) i n ≤ 41 := kLmin_pos hN (by omega) (fun j hj => (hG j hj).1) hi
  refine kMet_of [vR 7 0, vR 1 i, vN, vN, vN] (by decide) hI rfl rfl (Nat.le_of_ble_eq_true rfl) ?_
  intro p e s m args below meth c C hVok
  have L : ∀ (n : Nat) (k : Int), 0 ≤ k → k ≤ 8 → 9 ≤ k + n → kG p l e h s m args below meth c w 5 1 post 8 [vR 7 0, vR 1 i, vI (min 41 (1 + kLsum (kXnet M) (M 29 0) i k.toNat)), vI (kLmin (kXnet M) 41 (M 29 0) i k.toNat), vI k] [] (M) := by
    intro n
    induction n with
    | zero => intro k h1 h2 h3; omega
    | succ n ih =>
      intro k h1 h2 h3
      have ih := ih (k + 1) (by omega)
      rw [kLsum_1 h1, kLmin_1 h1] at ih
      have bs := BS k.toNat (by omega)
      have bm := BM k.toNat (by omega)
      have P : k < 8 → M 2 i k ≠ -6 → (0 ≤ M 2 i k ∧ M 2 i k < M 7 0 1) ∧ (0 ≤ M 29 0 (M 2 i k) ∧ M 29 0 (M 2 i k) ≤ 41) := by
        intro h8 hne
        have a := hpt i k hi.1 hi.2 h1 h8
        have b : 0 ≤ M 2 i k ∧ M 2 i k < M 7 0 1 := by omega
        exact ⟨b, hG _ b⟩
      have EP : k < 8 → (kXnet M).2.2 i k = M 2 i k := fun h8 => kXnet_p hi ⟨h1, h8⟩
      obtain ⟨s1, es⟩ : ∃ s1, s1 = kLsum (kXnet M) (M 29 0) i k.toNat := ⟨_, rfl⟩
      obtain ⟨b1, eb⟩ : ∃ b1, b1 = kLmin (kXnet M) 41 (M 29 0) i k.toNat := ⟨_, rfl⟩
      rw [← es] at bs ih ⊢
      rw [← eb] at bm ih ⊢
      refine g_iload C dX0_leastOf_8 rfl ?_
      refine g_bipush C dX0_leastOf_10 (by decide) ?_
      refine g_ic_ge C 84 dX0_leastOf_12 (by decide) (by omega) (fun c_12 => ?_) (fun c_12 => ?_)
      · rw [show k.toNat = 8 by omega] at es eb
        rw [← es, ← eb] at E
        clear ih P EP BS BM
        refine g_aload_n C dX0_leastOf_84 rfl ?_
        refine g_getI C 0 dX0_leastOf_85 f_X0_101 ⟨rfl, rfl⟩ rfl rfl (fun r_85 => ?_)
        have sw_88 : ((M 1 i 0 ≠ 42 ∧ M 1 i 0 ≠ 91 ∧ M 1 i 0 ≠ 110 ∧ M 1 i 0 ≠ 115 ∧ M 1 i 0 ≠ 116 ∧ M 1 i 0 ≠ 123)) ∨ (M 1 i 0 = 42) ∨ (M 1 i 0 = 91) ∨ (M 1 i 0 = 110) ∨ (M 1 i 0 = 115) ∨ (M 1 i 0 = 116) ∨ (M 1 i 0 = 123) := by omega
        rcases sw_88 with c_88 | c_88 | c_88 | c_88 | c_88 | c_88 | c_88
        · refine g_look C (off := 73) 161 dX0_leastOf_88 (by decide) (by omega) (show Op.lookupswitch.offset [(42, 60), (91, 64), (110, 60), (115, 60), (116, 60), (123, 62)] 73 (M 1 i 0) = 73 by simp only [Op.lookupswitch.offset_cons, Op.lookupswitch.offset_nil]; repeat rw [if_neg (by omega)]) (by decide) ?_
          refine g_bipush C dX0_leastOf_161 (by decide) ?_
          exact g_iret C dX0_leastOf_163 (hp _ _ ⟨by rw [E, if_neg (by omega), if_neg (by omega), if_neg (by omega)]; rfl, rfl⟩)
        · refine g_look C (off := 60) 148 dX0_leastOf_88 (by decide) (by omega) (by rw [c_88]; rfl) (by decide) ?_
          refine g_iconst C dX0_leastOf_148 ?_
          exact g_iret C dX0_leastOf_149 (hp _ _ ⟨by rw [E, if_pos (by omega)]; rfl, rfl⟩)
        · refine g_look C (off := 64) 152 dX0_leastOf_88 (by decide) (by omega) (by rw [c_88]; rfl) (by decide) ?_
          refine g_bipush C dX0_leastOf_152 (by decide) ?_
          refine g_iload_n C dX0_leastOf_154 rfl ?_
          refine g_iconst C dX0_leastOf_155 ?_
          refine g_iadd C dX0_leastOf_156 ?_
          refine g_minI C q497 dX0_leastOf_157 (by omega) (by omega) (Nat.le_of_ble_eq_true rfl) (fun z_157 hz_157 => ?_)
          exact g_iret C dX0_leastOf_160 (hp _ _ ⟨by rw [E, if_neg (by omega), if_neg (by omega), if_pos (by omega)]; omega, rfl⟩)
        · refine g_look C (off := 60) 148 dX0_leastOf_88 (by decide) (by omega) (by rw [c_88]; rfl) (by decide) ?_
          refine g_iconst C dX0_leastOf_148 ?_
          exact g_iret C dX0_leastOf_149 (hp _ _ ⟨by rw [E, if_pos (by omega)]; rfl, rfl⟩)
        · refine g_look C (off := 60) 148 dX0_leastOf_88 (by decide) (by omega) (by rw [c_88]; rfl) (by decide) ?_
          refine g_iconst C dX0_leastOf_148 ?_
          exact g_iret C dX0_leastOf_149 (hp _ _ ⟨by rw [E, if_pos (by omega)]; rfl, rfl⟩)
        · refine g_look C (off := 60) 148 dX0_leastOf_88 (by decide) (by omega) (by rw [c_88]; rfl) (by decide) ?_
          refine g_iconst C dX0_leastOf_148 ?_
          exact g_iret C dX0_leastOf_149 (hp _ _ ⟨by rw [E, if_pos (by omega)]; rfl, rfl⟩)
        · refine g_look C (off := 62) 150 dX0_leastOf_88 (by decide) (by omega) (by rw [c_88]; rfl) (by decide) ?_
          refine g_iload_n C dX0_leastOf_150 rfl ?_
          exact g_iret C dX0_leastOf_151 (hp _ _ ⟨by rw [E, if_neg (by omega), if_pos (by omega)], rfl⟩)
      · refine g_bipush C dX0_leastOf_15 (by decide) ?_
        refine g_iload_n C dX0_leastOf_17 rfl ?_
        refine g_aload_n C dX0_leastOf_18 rfl ?_
        refine g_iload C dX0_leastOf_19 rfl ?_
        refine g_callVi C dX0_leastOf_21 v_X0_148 (m_X2_has (h := 1) hI i k M (by omega) (fun _ _ q => q)) ⟨rfl, rfl⟩ rfl rfl (Nat.le_of_ble_eq_true rfl) (by omega) ?_
        rintro z M' ⟨⟨hz, rfl⟩ | ⟨hz, rfl⟩, rfl⟩
        · refine g_if_eq C 42 dX0_leastOf_24 (by decide) (by omega) (fun c_24 => ?_) (fun c_24 => ?_)
          · omega
          · obtain ⟨pr, pg⟩ := P (by omega) hz
            refine g_aload_n C dX0_leastOf_27 rfl ?_
            refine g_getR C 29 dX0_leastOf_28 f_X0_64 ⟨rfl, rfl⟩ rfl (by decide) ?_
            refine g_aload_n C dX0_leastOf_31 rfl ?_
            refine g_getR C 2 dX0_leastOf_32 f_X0_113 ⟨rfl, rfl⟩ rfl (by decide) ?_
            refine g_iload C dX0_leastOf_35 rfl ?_
            refine g_iald C 8 dX0_leastOf_37 ⟨rfl, rfl⟩ rfl (by omega) (fun r_37 => ?_)
            refine g_iald C 60 dX0_leastOf_38 ⟨rfl, rfl⟩ rfl (by omega) (fun r_38 => ?_)
            refine g_goto C 43 dX0_leastOf_39 (by decide) ?_
            refine g_iadd C dX0_leastOf_43 ?_
            refine g_minI C q497 dX0_leastOf_44 (by omega) (by omega) (Nat.le_of_ble_eq_true rfl) (fun z_44 hz_44 => ?_)
            refine g_istn_2 C dX0_leastOf_47 (by decide) rfl ?_
            refine g_aload_n C dX0_leastOf_48 rfl ?_
            refine g_iload C dX0_leastOf_49 rfl ?_
            refine g_callVi C dX0_leastOf_51 v_X0_148 (m_X2_has (h := 1) hI i k M (by omega) (fun _ _ q => q)) ⟨rfl, rfl⟩ rfl rfl (Nat.le_of_ble_eq_true rfl) (by omega) ?_
            rintro z2 M' ⟨hz2, rfl⟩
            obtain rfl : z2 = 1 := by omega
            refine g_if_eq C 76 dX0_leastOf_54 (by decide) (by omega) (fun c_54 => ?_) (fun c_54 => ?_)
            · omega
            · refine g_iload_n C dX0_leastOf_57 rfl ?_
              refine g_aload_n C dX0_leastOf_58 rfl ?_
              refine g_getR C 29 dX0_leastOf_59 f_X0_64 ⟨rfl, rfl⟩ rfl (by decide) ?_
              refine g_aload_n C dX0_leastOf_62 rfl ?_
              refine g_getR C 2 dX0_leastOf_63 f_X0_113 ⟨rfl, rfl⟩ rfl (by decide) ?_
              refine g_iload C dX0_leastOf_66 rfl ?_
              refine g_iald C 8 dX0_leastOf_68 ⟨rfl, rfl⟩ rfl (by omega) (fun r_68 => ?_)
              refine g_iald C 60 dX0_leastOf_69 ⟨rfl, rfl⟩ rfl (by omega) (fun r_69 => ?_)
              refine g_minI C q497 dX0_leastOf_70 (by omega) (by omega) (Nat.le_of_ble_eq_true rfl) (fun z_70 hz_70 => ?_)
              refine g_goto C 77 dX0_leastOf_73 (by decide) ?_
              refine g_istn_3 C dX0_leastOf_77 (by decide) rfl ?_
              refine g_inc_4 C dX0_leastOf_78 (by decide) rfl ?_
              refine g_goto C 8 dX0_leastOf_81 (by decide) ?_
              rw [EP (by omega), if_neg hz, if_neg hz] at ih
              rw [show z_44 = min 41 (1 + (s1 + M 29 0 (M 2 i k))) by omega, show z_70 = min b1 (M 29 0 (M 2 i k)) by omega]
              exact ih (by omega) (by omega)
        · refine g_if_eq C 42 dX0_leastOf_24 (by decide) (by omega) (fun c_24 => ?_) (fun c_24 => ?_)
          · refine g_iconst C dX0_leastOf_42 ?_
            refine g_iadd C dX0_leastOf_43 ?_
            refine g_minI C q497 dX0_leastOf_44 (by omega) (by omega) (Nat.le_of_ble_eq_true rfl) (fun z_44 hz_44 => ?_)
            refine g_istn_2 C dX0_leastOf_47 (by decide) rfl ?_
            refine g_aload_n C dX0_leastOf_48 rfl ?_
            refine g_iload C dX0_leastOf_49 rfl ?_
            refine g_callVi C dX0_leastOf_51 v_X0_148 (m_X2_has (h := 1) hI i k M (by omega) (fun _ _ q => q)) ⟨rfl, rfl⟩ rfl rfl (Nat.le_of_ble_eq_true rfl) (by omega) ?_
            rintro z2 M' ⟨hz2, rfl⟩
            obtain rfl : z2 = 0 := by omega
            refine g_if_eq C 76 dX0_leastOf_54 (by decide) (by omega) (fun c_54 => ?_) (fun c_54 => ?_)
            · refine g_iload_n C dX0_leastOf_76 rfl ?_
              refine g_istn_3 C dX0_leastOf_77 (by decide) rfl ?_
              refine g_inc_4 C dX0_leastOf_78 (by decide) rfl ?_
              refine g_goto C 8 dX0_leastOf_81 (by decide) ?_
              rw [EP (by omega), if_pos hz, if_pos hz] at ih
              rw [show z_44 = min 41 (1 + (s1 + 0)) by omega]
              exact ih (by omega) (by omega)
            · omega
          · omega
  refine g_iconst C dX0_leastOf_0 ?_
  refine g_istn_2 C dX0_leastOf_1 (by decide) rfl ?_
  refine g_bipush C dX0_leastOf_2 (by decide) ?_
  refine g_istn_3 C dX0_leastOf_4 (by decide) rfl ?_
  refine g_iconst C dX0_leastOf_5 ?_
  refine g_ist_4 C dX0_leastOf_6 (by decide) rfl ?_
  exact L 9 0 (by omega) (by omega) (by omega)
theorem m_X0_findLeasts (hh : 4 ≤ h) (hI : kInj w) (M : KM) (hN : kWF (kXnet M)) (hp : ∀ z M', kLF M M' → post z M') : kMet l w yX0_findLeasts cX0_findLeasts 4 none 0 h [vR 7 0] M post := by
  obtain ⟨hn, -, -, -, -⟩ := kXwf hN
  have NET : ∀ M1 : KM, (∀ t, t ≠ 29 → M1 t = M t) → M1 7 0 1 = M 7 0 1 ∧ kXnet M1 = kXnet M := by
    intro M1 hs
    have e : M1 7 0 1 = M 7 0 1 := by rw [hs 7 (by decide)]
    exact ⟨e, kXnet_eq (hs 1 (by decide)) (hs 2 (by decide)) e⟩
  refine kMet_of [vR 7 0, vN, vN, vN] (by decide) hI rfl rfl (Nat.le_of_ble_eq_true rfl) ?_
  intro p e s m args below meth c C hVok
  have L2 : ∀ (n : Nat) (x2 x3 : KV) (M0 : KM), kSum (M0 29 0) (M 7 0 1).toNat < n → (∀ t, t ≠ 29 → M0 t = M t) → kXL (kXnet M) (M0 29 0) → kG p l e h s m args below meth c w 4 0 post 26 [vR 7 0, vI 1, x2, x3] [] (M0) := by
    intro n
    induction n with
    | zero =>
      intro x2 x3 M0 h1 h2 h3
      have := kSum_nn (g := M0 29 0) (n := (M 7 0 1).toNat) (fun k k1 k2 => (h3.1 k ⟨k1, by rw [kXnet_n]; omega⟩).1)
      omega
    | succ n ihr =>
      intro x2 x3 M0 hlt hs0 h0
      have R1 : ∀ (n2 : Nat) (a mr : Int) (x3 : KV) (M1 : KM), 0 ≤ a → a ≤ M 7 0 1 → M 7 0 1 + 1 ≤ a + n2 → (∀ t, t ≠ 29 → M1 t = M t) → kXLs (kXnet M) (M0 29 0) (M1 29 0) a mr → (mr = 0 ∨ mr = 1) → kG p l e h s m args below meth c w 4 0 post 34 [vR 7 0, vI mr, vI a, x3] [] (M1) := by
        intro n2
        induction n2 with
        | zero => intro a mr x3 M1 h1 h2 h3; omega
        | succ n2 ih =>
          intro a mr x3 M1 ha1 ha2 ha3 hs hW hmr
          obtain ⟨hm1, eN⟩ := NET M1 hs
          have hra : a < M 7 0 1 → 0 ≤ M1 29 0 a ∧ M1 29 0 a ≤ 41 := fun q => hW.1.1 a ⟨ha1, q⟩
          have nxt : ∀ (z mr' : Int), a < M 7 0 1 → z = min 41 (kLv (kXnet M) 41 (M1 29 0) a) → ((M1 29 0 a ≤ z ∧ mr' = mr) ∨ (z < M1 29 0 a ∧ mr' = 1)) → kG p l e h s m args below meth c w 4 0 post 34 [vR 7 0, vI mr', vI (a + 1), vI z] [] (kUp M1 29 0 a z) := by
            intro z mr' hlt2 hz hm
            refine ih (a + 1) mr' _ _ (by omega) (by omega) (by omega) (fun t ht => by rw [kUp_t ht]; exact hs t ht) (kXLs_set hN hW ⟨ha1, hlt2⟩ hz (fun i _ => ?_) hm) (by omega)
            simp [kUp]
          refine g_iload_n C dX0_findLeasts_34 rfl ?_
          refine g_aload_n C dX0_findLeasts_35 rfl ?_
          refine g_getI C 1 dX0_findLeasts_36 f_X0_94 ⟨rfl, rfl⟩ rfl rfl (fun r_36 => ?_)
          refine g_ic_ge C 84 dX0_findLeasts_39 (by decide) (by omega) (fun c_39 => ?_) (fun c_39 => ?_)
          · refine g_goto C 26 dX0_findLeasts_84 (by decide) ?_
            have hE := kXLs_end hN (by rw [kXnet_n, show M 7 0 1 = a by omega]; exact hW)
            rcases hE.2 with ⟨rfl, hF⟩ | ⟨rfl, hl⟩
            · refine g_iload_n C dX0_findLeasts_26 rfl ?_
              refine g_if_eq C 87 dX0_findLeasts_27 (by decide) (by omega) (fun c_27 => ?_) (fun c_27 => by omega)
              exact g_vret C dX0_findLeasts_87 (hp _ _ ⟨hs, hF⟩)
            · rw [kXnet_n] at hl
              exact ihr _ _ M1 (by omega) hs hE.1
          · refine g_aload_n C dX0_findLeasts_42 rfl ?_
            refine g_aload_n C dX0_findLeasts_43 rfl ?_
            refine g_getR C 8 dX0_findLeasts_44 f_X0_11 ⟨rfl, rfl⟩ rfl (by decide) ?_
            refine g_iload_n C dX0_findLeasts_47 rfl ?_
            refine g_aald C 1 60 dX0_findLeasts_48 ⟨rfl, by decide, by decide⟩ (by decide) rfl (by omega) ?_
            refine g_callVi C dX0_findLeasts_49 v_X0_256 (m_X0_leastOf (h := 3) (by omega) hI a M1 (by rw [eN]; exact hN) (by omega) (by rw [eN]; exact hW.1.1) (fun _ _ q => q)) ⟨rfl, rfl⟩ rfl rfl (Nat.le_of_ble_eq_true rfl) (by omega) ?_
            rintro z M' ⟨hz, rfl⟩
            rw [eN] at hz
            have hz41 : 0 ≤ z ∧ z ≤ 41 := by
              have := kLv_pos hN (C := 41) (by omega) (fun i hi => (hW.1.1 i hi).1) (show kRn (kXnet M) a from ⟨ha1, by rw [kXnet_n]; omega⟩)
              omega
            refine g_istn_3 C dX0_findLeasts_52 (by decide) rfl ?_
            refine g_iload_n C dX0_findLeasts_53 rfl ?_
            refine g_iload_n C dX0_findLeasts_54 rfl ?_
            refine g_aload_n C dX0_findLeasts_55 rfl ?_
            refine g_getR C 29 dX0_findLeasts_56 f_X0_64 ⟨rfl, rfl⟩ rfl (by decide) ?_
            refine g_iload_n C dX0_findLeasts_59 rfl ?_
            refine g_iald C 60 dX0_findLeasts_60 ⟨rfl, rfl⟩ rfl (by omega) (fun r_60 => ?_)
            refine g_ic_ge C 68 dX0_findLeasts_61 (by decide) (by omega) (fun c_61 => ?_) (fun c_61 => ?_)
            · refine g_iconst C dX0_findLeasts_68 ?_
              refine g_ior C dX0_findLeasts_69 ?_
              refine g_istn_1 C dX0_findLeasts_70 (by decide) rfl ?_
              refine g_aload_n C dX0_findLeasts_71 rfl ?_
              refine g_getR C 29 dX0_findLeasts_72 f_X0_64 ⟨rfl, rfl⟩ rfl (by decide) ?_
              refine g_iload_n C dX0_findLeasts_75 rfl ?_
              refine g_iload_n C dX0_findLeasts_76 rfl ?_
              refine g_iast C 60 dX0_findLeasts_77 ⟨rfl, rfl⟩ rfl (by omega) (by omega) ?_
              refine g_inc_2 C dX0_findLeasts_78 (by decide) rfl ?_
              refine g_goto C 34 dX0_findLeasts_81 (by decide) ?_
              first
                | (rw [kOr_01 hmr (Or.inr rfl), if_pos (Or.inr rfl)]
                   exact nxt z 1 (by omega) hz (Or.inr ⟨by omega, rfl⟩))
                | (rw [show kOr mr 0 = mr by rcases hmr with rfl | rfl <;> decide]
                   exact nxt z mr (by omega) hz (Or.inl ⟨by omega, rfl⟩))
            · refine g_iconst C dX0_findLeasts_64 ?_
              refine g_goto C 69 dX0_findLeasts_65 (by decide) ?_
              refine g_ior C dX0_findLeasts_69 ?_
              refine g_istn_1 C dX0_findLeasts_70 (by decide) rfl ?_
              refine g_aload_n C dX0_findLeasts_71 rfl ?_
              refine g_getR C 29 dX0_findLeasts_72 f_X0_64 ⟨rfl, rfl⟩ rfl (by decide) ?_
              refine g_iload_n C dX0_findLeasts_75 rfl ?_
              refine g_iload_n C dX0_findLeasts_76 rfl ?_
              refine g_iast C 60 dX0_findLeasts_77 ⟨rfl, rfl⟩ rfl (by omega) (by omega) ?_
              refine g_inc_2 C dX0_findLeasts_78 (by decide) rfl ?_
              refine g_goto C 34 dX0_findLeasts_81 (by decide) ?_
              first
                | (rw [kOr_01 hmr (Or.inr rfl), if_pos (Or.inr rfl)]
                   exact nxt z 1 (by omega) hz (Or.inr ⟨by omega, rfl⟩))
                | (rw [show kOr mr 0 = mr by rcases hmr with rfl | rfl <;> decide]
                   exact nxt z mr (by omega) hz (Or.inl ⟨by omega, rfl⟩))
      refine g_iload_n C dX0_findLeasts_26 rfl ?_
      refine g_if_eq C 87 dX0_findLeasts_27 (by decide) (by omega) (fun c_27 => ?_) (fun c_27 => ?_)
      · omega
      · refine g_iconst C dX0_findLeasts_30 ?_
        refine g_istn_1 C dX0_findLeasts_31 (by decide) rfl ?_
        refine g_iconst C dX0_findLeasts_32 ?_
        refine g_istn_2 C dX0_findLeasts_33 (by decide) rfl ?_
        exact R1 ((M 7 0 1).toNat + 1) 0 0 _ M0 (by omega) (by omega) (by omega) hs0 (kXLs_0 h0) (Or.inl rfl)
  have R0 : ∀ (n2 : Nat) (a : Int) (M1 : KM), 0 ≤ a → a ≤ M 7 0 1 → M 7 0 1 + 1 ≤ a + n2 → (∀ t, t ≠ 29 → M1 t = M t) → (∀ i, 0 ≤ i → i < a → M1 29 0 i = 41) → kG p l e h s m args below meth c w 4 0 post 2 [vR 7 0, vI a, vN, vN] [] (M1) := by
    intro n2
    induction n2 with
    | zero => intro a M1 h1 h2 h3; omega
    | succ n2 ih =>
      intro a M1 ha1 ha2 ha3 hs hA
      obtain ⟨hm1, eN⟩ := NET M1 hs
      refine g_iload_n C dX0_findLeasts_2 rfl ?_
      refine g_aload_n C dX0_findLeasts_3 rfl ?_
      refine g_getI C 1 dX0_findLeasts_4 f_X0_94 ⟨rfl, rfl⟩ rfl rfl (fun r_4 => ?_)
      refine g_ic_ge C 24 dX0_findLeasts_7 (by decide) (by omega) (fun c_7 => ?_) (fun c_7 => ?_)
      · refine g_iconst C dX0_findLeasts_24 ?_
        refine g_istn_1 C dX0_findLeasts_25 (by decide) rfl ?_
        exact L2 ((kSum (M1 29 0) (M 7 0 1).toNat).toNat + 1) _ _ M1 (by omega) hs (kXL_0 (fun i hi => hA i hi.1 (by have := hi.2; rw [kXnet_n] at this; omega)))
      · refine g_aload_n C dX0_findLeasts_10 rfl ?_
        refine g_getR C 29 dX0_findLeasts_11 f_X0_64 ⟨rfl, rfl⟩ rfl (by decide) ?_
        refine g_iload_n C dX0_findLeasts_14 rfl ?_
        refine g_bipush C dX0_findLeasts_15 (by decide) ?_
        refine g_iast C 60 dX0_findLeasts_17 ⟨rfl, rfl⟩ rfl (by omega) (by omega) ?_
        refine g_inc_1 C dX0_findLeasts_18 (by decide) rfl ?_
        refine g_goto C 2 dX0_findLeasts_21 (by decide) ?_
        refine ih (a + 1) _ (by omega) (by omega) (by omega) (fun t ht => by rw [kUp_t ht]; exact hs t ht) (fun i h1 h2 => ?_)
        by_cases q : i = a
        · subst q; exact kUp_eq
        · rw [kUp_nk q]; exact hA i h1 (by omega)
  refine g_iconst C dX0_findLeasts_0 ?_
  refine g_istn_1 C dX0_findLeasts_1 (by decide) rfl ?_
  exact R0 ((M 7 0 1).toNat + 1) 0 M (by omega) (by omega) (by omega) (fun _ _ => rfl) (fun i h1 h2 => by omega)
theorem m_X0_least (hh : 5 ≤ h) (hI : kInj w) (i : Int) (M : KM) (hN : kWF (kXnet M)) (hi : -2147483648 ≤ i ∧ i < 2147483648) (hp : ∀ z M', (¬ kRn (kXnet M) i ∧ z = -1 ∧ M = M') ∨ (kRn (kXnet M) i ∧ kLF M M' ∧ ((40 < M' 29 0 i ∧ z = -6) ∨ (M' 29 0 i ≤ 40 ∧ z = M' 29 0 i))) → post z M') : kMet l w yX0_least cX0_least 2 (some .int) 1 h [vR 7 0, vI i] M post := by
  obtain ⟨hn, -, -, -, -⟩ := kXwf hN
  have er : kRn (kXnet M) i ↔ (0 ≤ i ∧ i < M 7 0 1) := Iff.rfl
  rw [er] at hp
  refine kMet_of [vR 7 0, vI i] (by decide) hI rfl rfl (Nat.le_of_ble_eq_true rfl) ?_
  intro p e s m args below meth c C hVok
  refine g_aload_n C dX0_least_0 rfl ?_
  refine g_iload_n C dX0_least_1 rfl ?_
  refine g_callVi C dX0_least_2 v_X0_132 (m_X0_isNode (h := 2) (by omega) hI i M (by omega) hn (fun _ _ q => q)) ⟨rfl, rfl⟩ rfl rfl (Nat.le_of_ble_eq_true rfl) (by omega) ?_
  rintro z M' ⟨hz, rfl⟩
  refine g_if_ne C 10 dX0_least_5 (by decide) (by omega) (fun c_5 => ?_) (fun c_5 => ?_)
  · refine g_aload_n C dX0_least_10 rfl ?_
    refine g_callVv C dX0_least_11 v_X0_260 (m_X0_findLeasts (h := 4) (by omega) hI M hN (fun _ _ q => q)) ⟨rfl, rfl⟩ rfl rfl (Nat.le_of_ble_eq_true rfl) (by omega) ?_
    rintro z2 M1 hF
    refine g_aload_n C dX0_least_14 rfl ?_
    refine g_getR C 29 dX0_least_15 f_X0_64 ⟨rfl, rfl⟩ rfl (by decide) ?_
    refine g_iload_n C dX0_least_18 rfl ?_
    refine g_iald C 60 dX0_least_19 ⟨rfl, rfl⟩ rfl (by omega) (fun r_19 => ?_)
    refine g_bipush C dX0_least_20 (by decide) ?_
    refine g_ic_le C 30 dX0_least_22 (by decide) (by omega) (fun c_22 => ?_) (fun c_22 => ?_)
    · refine g_aload_n C dX0_least_30 rfl ?_
      refine g_getR C 29 dX0_least_31 f_X0_64 ⟨rfl, rfl⟩ rfl (by decide) ?_
      refine g_iload_n C dX0_least_34 rfl ?_
      refine g_iald C 60 dX0_least_35 ⟨rfl, rfl⟩ rfl (by omega) (fun r_35 => ?_)
      exact g_iret C dX0_least_36 (hp _ _ (Or.inr ⟨by omega, hF, by omega⟩))
    · refine g_bipush C dX0_least_25 (by decide) ?_
      refine g_goto C 36 dX0_least_27 (by decide) ?_
      exact g_iret C dX0_least_36 (hp _ _ (Or.inr ⟨by omega, hF, by omega⟩))
  · refine g_iconst C dX0_least_8 ?_
    exact g_iret C dX0_least_9 (hp _ _ (Or.inl ⟨by omega, rfl, rfl⟩))
end

