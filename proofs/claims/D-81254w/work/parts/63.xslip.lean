/-! KindNets.Values: fault; KindNets: slip, size -/
set_option maxRecDepth 100000
theorem kVR_0 {M' : KM} {T : Int → Int} (h4 : M' 21 0 4 = 0) (h5 : M' 21 0 5 = -1) : kVR M' (vRun T (0 : Int).toNat) := ⟨h4, h5, fun v v1 v2 => by
  have v2 : v < (0 : Int) := v2
  omega⟩
/-- the answer of size -/
def kSzA (T : Int → Int) (n z : Int) : Prop := ∃ u, kSlA T n u ∧ ((0 ≤ u ∧ z = -5) ∨ (u < 0 ∧ z = vMn (vRun T n.toNat)))
theorem kSzA_uniq {T : Int → Int} {n z u : Int} (h1 : kSzA T n z) (h2 : kSzA T n u) : z = u := by
  obtain ⟨a, a1, a2⟩ := h1
  obtain ⟨b, b1, b2⟩ := h2
  have := kSlA_uniq a1 b1
  omega
theorem kSlA_rng {T : Int → Int} {n z : Int} (hn : 0 ≤ n) (h : kSlA T n z) : -6 ≤ z ∧ z ≤ n := by
  rcases h with ⟨k, k1, -, -, rfl⟩ | ⟨-, ⟨-, rfl⟩ | ⟨-, rfl⟩⟩ <;> omega
section
variable {l : Launch} {w : KL} {h : Nat} {post : Int → KM → Prop}
theorem m_X3_fault (hh : 5 ≤ h) (hI : kInj w) (n : Int) (M : KM) (hn : 0 ≤ n ∧ n ≤ 100) (hp : ∀ z M', kVf M M' ∧ kSlA (M 10 0) n z ∧ (z < 0 → kVR M' (vRun (M 10 0) n.toNat)) → post z M') : kMet l w yX3_fault cX3_fault 5 (some .int) 1 h [vR 21 0, vR 10 0, vI n] M post := by
  refine kMet_of [vR 21 0, vR 10 0, vI n, vN, vN] (by decide) hI rfl rfl (Nat.le_of_ble_eq_true rfl) ?_
  intro p e s m args below meth c C hVok
  have L : ∀ (g : Nat) (k st : Int) (M1 : KM), 0 ≤ k → k ≤ n → n + 1 ≤ k + g → kVf M M1 → kVR M1 (vRun (M 10 0) k.toNat) → st = vSt (vRun (M 10 0) k.toNat) → (∀ j : Int, 0 ≤ j → j ≤ k → 0 ≤ vSt (vRun (M 10 0) j.toNat)) → kG p l e h s m args below meth c w 5 1 post 15 [vR 21 0, vR 10 0, vI n, vI st, vI k] [] (M1) := by
    intro g
    induction g with
    | zero => intro k st M1 h1 h2 h3; omega
    | succ g ih =>
      intro k st M1 h1 h2 h3 hF hR est hall
      have e10 : M1 10 = M 10 := hF 10 (by omega)
      have ho := vOk_run (T := M 10 0) k.toNat
      rw [show ((k.toNat : Nat) : Int) = k by omega] at ho
      have hst := ho.1
      rw [← est] at hst
      have hall0 := hall k h1 (by omega)
      rw [← est] at hall0
      refine g_iload C dX3_fault_15 rfl ?_
      refine g_iload_n C dX3_fault_17 rfl ?_
      refine g_ic_ge C 43 dX3_fault_18 (by decide) (by omega) (fun c_18 => ?_) (fun c_18 => ?_)
      · refine g_iload_n C dX3_fault_43 rfl ?_
        refine g_bipush C dX3_fault_44 (by decide) ?_
        refine g_ic_ne C 54 dX3_fault_46 (by decide) (by omega) (fun c_46 => ?_) (fun c_46 => ?_)
        · refine g_iload_n C dX3_fault_54 rfl ?_
          exact g_iret C dX3_fault_55 (hp _ _ ⟨hF, Or.inr ⟨fun j j1 j2 => hall j j1 (by omega), Or.inr ⟨by rw [show n = k by omega, ← est]; assumption, rfl⟩⟩, fun u => by omega⟩)
        · refine g_bipush C dX3_fault_49 (by decide) ?_
          refine g_goto C 55 dX3_fault_51 (by decide) ?_
          exact g_iret C dX3_fault_55 (hp _ _ ⟨hF, Or.inr ⟨fun j j1 j2 => hall j j1 (by omega), Or.inl ⟨by rw [show n = k by omega, ← est]; assumption, rfl⟩⟩, fun u => by rw [show n = k by omega]; exact hR⟩)
      · refine g_aload_n C dX3_fault_21 rfl ?_
        refine g_iload_n C dX3_fault_22 rfl ?_
        refine g_aload_n C dX3_fault_23 rfl ?_
        refine g_iload C dX3_fault_24 rfl ?_
        rw [est]
        refine g_callVi C dX3_fault_26 v_X3_58 (m_X3_next (h := 4) (by omega) hI k (vRun (M 10 0) k.toNat) M1 hR (by rw [e10]; exact ho) (by omega) (fun _ _ q => q)) ⟨rfl, rfl⟩ rfl rfl (Nat.le_of_ble_eq_true rfl) (by omega) ?_
        rintro z M2 ⟨hF2, hR2, hz⟩
        rw [e10, ← vRun_1 h1] at hR2 hz
        have hst2 := (vOk_run (T := M 10 0) (k + 1).toNat).1
        rw [← hz] at hst2
        refine g_istn_3 C dX3_fault_29 (by decide) rfl ?_
        refine g_iload_n C dX3_fault_30 rfl ?_
        refine g_if_ge C 37 dX3_fault_31 (by decide) (by omega) (fun c_31 => ?_) (fun c_31 => ?_)
        · refine g_inc_4 C dX3_fault_37 (by decide) rfl ?_
          refine g_goto C 15 dX3_fault_40 (by decide) ?_
          exact ih (k + 1) z M2 (by omega) (by omega) (by omega) (hF.tr hF2) hR2 hz (fun j j1 j2 => by
          by_cases e : j = k + 1
          · rw [e, ← hz]; omega
          · exact hall j j1 (by omega))
        · refine g_iload C dX3_fault_34 rfl ?_
          exact g_iret C dX3_fault_36 (hp _ _ ⟨hF.tr hF2, Or.inl ⟨k, by omega, hall, by rw [← hz]; assumption, rfl⟩, fun u => by omega⟩)
  refine g_aload_n C dX3_fault_0 rfl ?_
  refine g_iconst C dX3_fault_1 ?_
  refine g_putI C 4 dX3_fault_2 f_X3_28 ⟨rfl, rfl⟩ rfl rfl (by omega) ?_
  refine g_aload_n C dX3_fault_5 rfl ?_
  refine g_iconst C dX3_fault_6 ?_
  refine g_putI C 5 dX3_fault_7 f_X3_24 ⟨rfl, rfl⟩ rfl rfl (by omega) ?_
  have hF : kVf M (kUp (kUp M 21 0 4 0) 21 0 5 (-1)) := (kVf.rf.up (by decide)).up (by decide)
  have hR := kVR_0 (M' := kUp (kUp M 21 0 4 0) 21 0 5 (-1)) (T := M 10 0) (by rw [kUp_nk (by decide), kUp_eq]) kUp_eq
  generalize kUp (kUp M 21 0 4 0) 21 0 5 (-1) = M1 at hF hR
  refine g_iconst C dX3_fault_10 ?_
  refine g_istn_3 C dX3_fault_11 (by decide) rfl ?_
  refine g_iconst C dX3_fault_12 ?_
  refine g_ist_4 C dX3_fault_13 (by decide) rfl ?_
  exact L (n + 1).toNat 0 0 M1 (by omega) (by omega) (by omega) hF hR rfl (fun j j1 j2 => by
  rw [show j = 0 by omega]
  exact Int.le_refl 0)
theorem m_X0_slip (hh : 6 ≤ h) (hI : kInj w) (M : KM) (hn : 0 ≤ M 7 0 4 ∧ M 7 0 4 ≤ 100) (hp : ∀ z M', kVf M M' ∧ kSlA (M 10 0) (M 7 0 4) z ∧ (z < 0 → kVR M' (vRun (M 10 0) (M 7 0 4).toNat)) → post z M') : kMet l w yX0_slip cX0_slip 1 (some .int) 1 h [vR 7 0] M post := by
  refine kMet_of [vR 7 0] (by decide) hI rfl rfl (Nat.le_of_ble_eq_true rfl) ?_
  intro p e s m args below meth c C hVok
  refine g_aload_n C dX0_slip_0 rfl ?_
  refine g_getR C 21 dX0_slip_1 f_X0_48 ⟨rfl, rfl⟩ rfl (by decide) ?_
  refine g_aload_n C dX0_slip_4 rfl ?_
  refine g_getR C 10 dX0_slip_5 f_X0_19 ⟨rfl, rfl⟩ rfl (by decide) ?_
  refine g_aload_n C dX0_slip_8 rfl ?_
  refine g_getI C 4 dX0_slip_9 f_X0_76 ⟨rfl, rfl⟩ rfl rfl (fun r_9 => ?_)
  refine g_callVi C dX0_slip_12 v_X0_194 (m_X3_fault (h := 5) (by omega) hI (M 7 0 4) M hn (fun _ _ q => q)) ⟨rfl, rfl⟩ rfl rfl (Nat.le_of_ble_eq_true rfl) (by omega) ?_
  rintro z M' hz
  exact g_iret C dX0_slip_15 (hp _ _ hz)
theorem m_X0_size (hh : 7 ≤ h) (hI : kInj w) (M : KM) (hn : 0 ≤ M 7 0 4 ∧ M 7 0 4 ≤ 100) (hp : ∀ z M', kVf M M' ∧ kSzA (M 10 0) (M 7 0 4) z → post z M') : kMet l w yX0_size cX0_size 1 (some .int) 1 h [vR 7 0] M post := by
  refine kMet_of [vR 7 0] (by decide) hI rfl rfl (Nat.le_of_ble_eq_true rfl) ?_
  intro p e s m args below meth c C hVok
  refine g_aload_n C dX0_size_0 rfl ?_
  refine g_callVi C dX0_size_1 v_X0_211 (m_X0_slip (h := 6) (by omega) hI M hn (fun _ _ q => q)) ⟨rfl, rfl⟩ rfl rfl (Nat.le_of_ble_eq_true rfl) (by omega) ?_
  rintro z M' ⟨hF, hz, hR⟩
  have hzr := kSlA_rng hn.1 hz
  refine g_if_lt C 12 dX0_size_4 (by decide) (by omega) (fun c_4 => ?_) (fun c_4 => ?_)
  · refine g_aload_n C dX0_size_12 rfl ?_
    refine g_getR C 21 dX0_size_13 f_X0_48 ⟨rfl, rfl⟩ rfl (by decide) ?_
    refine g_getI C 4 dX0_size_16 f_X0_207 ⟨rfl, rfl⟩ rfl rfl (fun r_16 => ?_)
    exact g_iret C dX0_size_19 (hp _ _ ⟨hF, z, hz, Or.inr ⟨by assumption, (hR (by assumption)).1⟩⟩)
  · refine g_bipush C dX0_size_7 (by decide) ?_
    refine g_goto C 19 dX0_size_9 (by decide) ?_
    exact g_iret C dX0_size_19 (hp _ _ ⟨hF, z, hz, by omega⟩)
end

