/-! KindNets.Values: value, close, take, next, fault; KindNets: slip, size -/
set_option maxRecDepth 100000
theorem vBeh_congr {T : Int → Int} {o : Int} {a b : Int → Int} (h : 0 ≤ o → a o = b o) : vBeh T o a = vBeh T o b := by
  unfold vBeh
  by_cases q : o < 0
  · rw [if_pos q, if_pos q]
  · rw [if_neg q, if_neg q, h (by omega)]
theorem kVR_beg {M : KM} {T : Int → Int} {q : KVS} {i x ltr s1 : Int} (hq : kVR M q) : kVR (kUp (kUp (kUp (kUp (kUp (kUp M 22 0 (M 21 0 4) i) 23 0 (M 21 0 4) (M 21 0 5)) 24 0 (M 21 0 4) ltr) 25 0 (M 21 0 4) (-1)) 21 0 5 (if x = 123 ∨ x = 91 ∨ x = 40 then M 21 0 4 else M 21 0 5)) 21 0 4 (M 21 0 4 + 1)) (vBeg T q i x ltr (if x = 123 ∨ x = 91 ∨ x = 40 then vMn q else vOp q) s1) := by
  obtain ⟨h1, h2, h3⟩ := hq
  refine ⟨?_, ?_, fun v v1 v2 => ?_⟩
  · rw [kUp_eq, h1]; rfl
  · rw [kUp_nk (by decide), kUp_eq, h1, h2]; rfl
  · have v2 : v < vMn q + 1 := v2
    show _ = fU (vAt q) (vMn q) i v ∧ _ = fU (vUp q) (vMn q) (vOp q) v ∧ _ = fU (vLt q) (vMn q) ltr v ∧ _ = fU (vLa q) (vMn q) (-1) v
    simp (disch := decide) only [kUp_ne]
    rw [h1, h2]
    by_cases e : v = vMn q
    · rw [e]
      simp only [kUp_eq, fU_eq, and_self]
    · rw [kUp_nk e, kUp_nk e, kUp_nk e, kUp_nk e, fU_ne e, fU_ne e, fU_ne e, fU_ne e]
      exact h3 v v1 (by omega)
theorem kVR_ho {M : KM} {T : Int → Int} {q : KVS} {k : Int} (hq : kVR M q) (ho : vOk T k q) (hk : k ≤ 100) : 0 ≤ M 21 0 5 → M 21 0 5 < 100 ∧ 0 ≤ M 22 0 (M 21 0 5) ∧ M 22 0 (M 21 0 5) < 100 := by
  obtain ⟨h1, h2, h3⟩ := hq
  intro h
  rw [h2] at h ⊢
  have a := ho.2.2.1
  have b := ho.2.1
  have e := (h3 (vOp q) h a.2).1
  have d := (ho.2.2.2.1 (vOp q) h a.2).1
  rw [e]
  omega
theorem kVR_beh {M : KM} {T : Int → Int} {q : KVS} (hq : kVR M q) (ho : vOp q < vMn q) (hT : M 10 0 = T) : vBeh (M 10 0) (M 21 0 5) (M 22 0) = vBeh T (vOp q) (vAt q) := by
  obtain ⟨h1, h2, h3⟩ := hq
  rw [hT, h2]
  exact vBeh_congr (fun z => (h3 (vOp q) z ho).1)
section
variable {l : Launch} {w : KL} {h : Nat} {post : Int → KM → Prop}
theorem m_X3_value (hh : 3 ≤ h) (hI : kInj w) (i ltr : Int) (q : KVS) (M : KM) (hq : kVR M q) (ho : vOk (M 10 0) i q) (hi : 0 ≤ i ∧ i < 100) (hlr : -1 ≤ ltr ∧ ltr < 8) (hp : ∀ z M', kVf M M' ∧ kVR M' (vVal (M 10 0) q i (M 10 0 i) ltr) ∧ z = vSt (vVal (M 10 0) q i (M 10 0 i) ltr) → post z M') : kMet l w yX3_value cX3_value 5 (some .int) 1 h [vR 21 0, vR 10 0, vI i, vI ltr] M post := by
  have hok := vOk_val ho hlr hi.1
  have hm : 0 ≤ M 21 0 4 ∧ M 21 0 4 < 100 := by
    rw [hq.1]
    have := ho.2.1
    omega
  obtain ⟨x, ex⟩ : ∃ x, x = M 10 0 i := ⟨_, rfl⟩
  rw [← ex] at hp hok
  refine kMet_of [vR 21 0, vR 10 0, vI i, vI ltr, vN] (by decide) hI rfl rfl (Nat.le_of_ble_eq_true rfl) ?_
  intro p e s m args below meth c C hVok
  have J : (-2147483648 ≤ x ∧ x < 2147483648) → (((48 ≤ x ∧ x ≤ 57) ∨ x = 84 ∨ x = 70) ∨ x = 36 ∨ x = 123 ∨ x = 91 ∨ x = 40) → kG p l e h s m args below meth c w 5 1 post 43 [vR 21 0, vR 10 0, vI i, vI ltr, vI x] [] (M) := by
    intro hx hv0
    have hv : ∀ u : Unit, (((48 ≤ x ∧ x ≤ 57) ∨ x = 84 ∨ x = 70) ∨ x = 36 ∨ x = 123 ∨ x = 91 ∨ x = 40) := fun _ => hv0
    clear hv0
    -- which value
    have V : (x = 36 → vVal (M 10 0) q i x ltr = vBeg (M 10 0) q i x ltr (if x = 123 ∨ x = 91 ∨ x = 40 then vMn q else vOp q) 1) ∧ (x = 91 → vVal (M 10 0) q i x ltr = vBeg (M 10 0) q i x ltr (if x = 123 ∨ x = 91 ∨ x = 40 then vMn q else vOp q) 3) ∧ (x ≠ 36 → x ≠ 91 → vVal (M 10 0) q i x ltr = vBeg (M 10 0) q i x ltr (if x = 123 ∨ x = 91 ∨ x = 40 then vMn q else vOp q) (vBeh (M 10 0) (if x = 123 ∨ x = 91 ∨ x = 40 then vMn q else vOp q) (fU (vAt q) (vMn q) i))) := by
      refine ⟨fun e => ?_, fun e => ?_, fun e1 e2 => ?_⟩
      · unfold vVal
        rw [if_neg (by omega), if_pos e, if_neg (by omega)]
      · unfold vVal
        rw [if_neg (by omega), if_neg (by omega), if_pos e, if_pos (by omega)]
      · unfold vVal
        by_cases e3 : (48 ≤ x ∧ x ≤ 57) ∨ x = 84 ∨ x = 70
        · rw [if_pos e3, if_neg (by omega)]
        · have := hv ()
          rw [if_neg e3, if_neg e1, if_neg e2, if_pos (by omega), if_pos (by omega)]
    refine g_aload_n C dX3_value_43 rfl ?_
    refine g_iload_n C dX3_value_44 rfl ?_
    refine g_iload C dX3_value_45 rfl ?_
    refine g_iload_n C dX3_value_47 rfl ?_
    refine g_callVv C dX3_value_48 v_X3_39 (m_X3_begin (h := 1) hI i x ltr M (by omega) hx (by omega) hm (fun _ _ q => q)) ⟨rfl, rfl⟩ rfl rfl (Nat.le_of_ble_eq_true rfl) (by omega) ?_
    rintro z1 M1 hM1
    have hR := fun s1 => kVR_beg (T := M 10 0) (i := i) (x := x) (ltr := ltr) (s1 := s1) hq
    rw [hM1] at hR
    have hF : kVf M M1 := by
      rw [← hM1]
      exact (((((kVf.rf.up (by decide)).up (by decide)).up (by decide)).up (by decide)).up (by decide)).up (by decide)
    refine g_iload C dX3_value_51 rfl ?_
    refine g_bipush C dX3_value_53 (by decide) ?_
    refine g_ic_ne C 62 dX3_value_55 (by decide) (by omega) (fun c_55 => ?_) (fun c_55 => ?_)
    · refine g_iload C dX3_value_62 rfl ?_
      refine g_bipush C dX3_value_64 (by decide) ?_
      refine g_ic_ne C 73 dX3_value_66 (by decide) (by omega) (fun c_66 => ?_) (fun c_66 => ?_)
      · refine g_aload_n C dX3_value_73 rfl ?_
        refine g_aload_n C dX3_value_74 rfl ?_
        have hB : 0 ≤ M1 21 0 5 → M1 21 0 5 < 100 ∧ 0 ≤ M1 22 0 (M1 21 0 5) ∧ M1 22 0 (M1 21 0 5) < 100 := by
          have r := hR (vBeh (M 10 0) (if x = 123 ∨ x = 91 ∨ x = 40 then vMn q else vOp q) (fU (vAt q) (vMn q) i))
          rw [← V.2.2 (by assumption) (by assumption)] at r
          exact kVR_ho r hok (by omega)
        refine g_callVi C dX3_value_75 v_X3_43 (m_X3_behind (h := 2) (by omega) hI M1 hB (fun _ _ q => q)) ⟨rfl, rfl⟩ rfl rfl (Nat.le_of_ble_eq_true rfl) (by omega) ?_
        rintro z2 M' ⟨hz2, rfl⟩
        exact g_iret C dX3_value_78 (hp _ _ ⟨hF, by rw [V.2.2 (by assumption) (by assumption)]; exact hR _, by
        rw [hz2, V.2.2 (by assumption) (by assumption)]
        exact kVR_beh (hR (vBeh (M 10 0) (if x = 123 ∨ x = 91 ∨ x = 40 then vMn q else vOp q) (fU (vAt q) (vMn q) i))) (by rw [← V.2.2 (by assumption) (by assumption)]; exact hok.2.2.1.2) (hF 10 (by decide) ▸ rfl)⟩)
      · refine g_iconst C dX3_value_69 ?_
        refine g_goto C 78 dX3_value_70 (by decide) ?_
        exact g_iret C dX3_value_78 (hp _ _ ⟨hF, by rw [V.2.1 (by assumption)]; exact hR 3, by rw [V.2.1 (by assumption)]; rfl⟩)
    · refine g_iconst C dX3_value_58 ?_
      refine g_goto C 78 dX3_value_59 (by decide) ?_
      exact g_iret C dX3_value_78 (hp _ _ ⟨hF, by rw [V.1 (by assumption)]; exact hR 1, by rw [V.1 (by assumption)]; rfl⟩)
  refine g_aload_n C dX3_value_0 rfl ?_
  refine g_iload_n C dX3_value_1 rfl ?_
  refine g_cald C 100 dX3_value_2 ⟨rfl, rfl⟩ rfl (by omega) (fun r_2 => ?_)
  rw [← ex] at r_2 ⊢
  refine g_ist_4 C dX3_value_3 (by decide) rfl ?_
  refine g_iload C dX3_value_5 rfl ?_
  refine g_callSi C dX3_value_7 s_X3_35 (m_X3_isWhole (h := 1) hI x M r_2 (fun _ _ q => q)) rfl rfl (Nat.le_of_ble_eq_true rfl) (by omega) ?_
  rintro z1 M' ⟨⟨hz1, rfl⟩ | ⟨hz1, rfl⟩, rfl⟩
  · refine g_if_ne C 43 dX3_value_10 (by decide) (by omega) (fun c_10 => ?_) (fun c_10 => ?_)
    · exact J r_2 (Or.inl hz1)
    · omega
  · refine g_if_ne C 43 dX3_value_10 (by decide) (by omega) (fun c_10 => ?_) (fun c_10 => ?_)
    · omega
    · refine g_iload C dX3_value_13 rfl ?_
      refine g_bipush C dX3_value_15 (by decide) ?_
      refine g_ic_eq C 43 dX3_value_17 (by decide) (by omega) (fun c_17 => ?_) (fun c_17 => ?_)
      · exact J r_2 (Or.inr (by omega))
      · refine g_iload C dX3_value_20 rfl ?_
        refine g_bipush C dX3_value_22 (by decide) ?_
        refine g_ic_eq C 43 dX3_value_24 (by decide) (by omega) (fun c_24 => ?_) (fun c_24 => ?_)
        · exact J r_2 (Or.inr (by omega))
        · refine g_iload C dX3_value_27 rfl ?_
          refine g_bipush C dX3_value_29 (by decide) ?_
          refine g_ic_eq C 43 dX3_value_31 (by decide) (by omega) (fun c_31 => ?_) (fun c_31 => ?_)
          · exact J r_2 (Or.inr (by omega))
          · refine g_iload C dX3_value_34 rfl ?_
            refine g_bipush C dX3_value_36 (by decide) ?_
            refine g_ic_eq C 43 dX3_value_38 (by decide) (by omega) (fun c_38 => ?_) (fun c_38 => ?_)
            · exact J r_2 (Or.inr (by omega))
            · refine g_iconst C dX3_value_41 ?_
              exact g_iret C dX3_value_42 (hp _ _ ⟨kVf.rf, by
              have e : vVal (M 10 0) q i x ltr = vFail q := by
                unfold vVal
                rw [if_neg hz1, if_neg (by omega), if_neg (by omega), if_neg (by omega)]
              rw [e]
              exact ⟨hq, rfl⟩⟩)
theorem m_X3_close (hh : 3 ≤ h) (hI : kInj w) (k : Int) (q : KVS) (M : KM) (hq : kVR M q) (ho : vOk (M 10 0) k q) (hk : 0 ≤ k ∧ k < 100) (hop : 0 ≤ vOp q) (hp : ∀ z M', kVf M M' ∧ kVR M' (vClo (M 10 0) q) ∧ z = vSt (vClo (M 10 0) q) → post z M') : kMet l w yX3_close cX3_close 2 (some .int) 1 h [vR 21 0, vR 10 0] M post := by
  have hok := vOk_clo ho hop
  have hu := (ho.2.2.2.1 (vOp q) hop ho.2.2.1.2).2.1
  have hmn := ho.2.1
  have hop2 := ho.2.2.1.2
  obtain ⟨h1, h2, h3⟩ := hq
  have e23 := (h3 (vOp q) hop hop2).2.1
  refine kMet_of [vR 21 0, vR 10 0] (by decide) hI rfl rfl (Nat.le_of_ble_eq_true rfl) ?_
  intro p e s m args below meth c C hVok
  refine g_aload_n C dX3_close_0 rfl ?_
  refine g_aload_n C dX3_close_1 rfl ?_
  refine g_getR C 23 dX3_close_2 f_X3_15 ⟨rfl, rfl⟩ rfl (by decide) ?_
  refine g_aload_n C dX3_close_5 rfl ?_
  refine g_getI C 5 dX3_close_6 f_X3_24 ⟨rfl, rfl⟩ rfl rfl (fun r_6 => ?_)
  rw [h2] at r_6 ⊢
  refine g_iald C 100 dX3_close_9 ⟨rfl, rfl⟩ rfl (by omega) (fun r_9 => ?_)
  rw [e23] at r_9 ⊢
  refine g_putI C 5 dX3_close_10 f_X3_24 ⟨rfl, rfl⟩ rfl rfl (by omega) ?_
  have hR : kVR (kUp M 21 0 5 (vUp q (vOp q))) (vClo (M 10 0) q) := by
    refine ⟨by rw [kUp_nk (by decide)]; exact h1, kUp_eq, fun v v1 v2 => ?_⟩
    simp (disch := decide) only [kUp_ne]
    exact h3 v v1 v2
  have hF : kVf M (kUp M 21 0 5 (vUp q (vOp q))) := kVf.rf.up (by decide)
  generalize kUp M 21 0 5 (vUp q (vOp q)) = M1 at hR hF
  refine g_aload_n C dX3_close_13 rfl ?_
  refine g_aload_n C dX3_close_14 rfl ?_
  refine g_callVi C dX3_close_15 v_X3_43 (m_X3_behind (h := 2) (by omega) hI M1 (kVR_ho hR hok (by omega)) (fun _ _ q => q)) ⟨rfl, rfl⟩ rfl rfl (Nat.le_of_ble_eq_true rfl) (by omega) ?_
  rintro z2 M' ⟨hz2, rfl⟩
  exact g_iret C dX3_close_18 (hp _ _ ⟨hF, hR, by rw [hz2]; exact kVR_beh hR hok.2.2.1.2 (by rw [hF 10 (by decide)])⟩)
theorem m_X3_take (hI : kInj w) (x : Int) (q : KVS) (M : KM) (hq : kVR M q) (hop : 0 ≤ vOp q ∧ vOp q < 100) (hx : 0 ≤ x ∧ x < 65536) (hp : ∀ z M', kVf M M' ∧ kVR M' (vTak q x) ∧ z = 0 → post z M') : kMet l w yX3_take cX3_take 2 (some .int) 1 h [vR 21 0, vI x] M post := by
  obtain ⟨h1, h2, h3⟩ := hq
  refine kMet_of [vR 21 0, vI x] (by decide) hI rfl rfl (Nat.le_of_ble_eq_true rfl) ?_
  intro p e s m args below meth c C hVok
  refine g_aload_n C dX3_take_0 rfl ?_
  refine g_getR C 25 dX3_take_1 f_X3_21 ⟨rfl, rfl⟩ rfl (by decide) ?_
  refine g_aload_n C dX3_take_4 rfl ?_
  refine g_getI C 5 dX3_take_5 f_X3_24 ⟨rfl, rfl⟩ rfl rfl (fun r_5 => ?_)
  rw [h2] at r_5 ⊢
  refine g_iload_n C dX3_take_8 rfl ?_
  refine g_bipush C dX3_take_9 (by decide) ?_
  refine g_isub C dX3_take_11 ?_
  refine g_iast C 100 dX3_take_12 ⟨rfl, rfl⟩ rfl (by omega) (by omega) ?_
  refine g_iconst C dX3_take_13 ?_
  exact g_iret C dX3_take_14 (hp _ _ ⟨kVf.rf.up (by decide), ⟨by rw [kUp_ne (by decide)]; exact h1, by rw [kUp_ne (by decide)]; exact h2, fun v v1 v2 => by
  have := h3 v v1 v2
  refine ⟨by rw [kUp_ne (by decide)]; exact this.1, by rw [kUp_ne (by decide)]; exact this.2.1, by rw [kUp_ne (by decide)]; exact this.2.2.1, ?_⟩
  show _ = fU (vLa q) (vOp q) (x - 97) v
  by_cases e : v = vOp q
  · rw [e, kUp_eq, fU_eq]
  · rw [kUp_nk e, fU_ne e]; exact this.2.2.2⟩, rfl⟩)
theorem m_X3_next (hh : 4 ≤ h) (hI : kInj w) (i : Int) (q : KVS) (M : KM) (hq : kVR M q) (ho : vOk (M 10 0) i q) (hi : 0 ≤ i ∧ i < 100) (hp : ∀ z M', kVf M M' ∧ kVR M' (vStep (M 10 0) q i) ∧ z = vSt (vStep (M 10 0) q i) → post z M') : kMet l w yX3_next cX3_next 6 (some .int) 1 h [vR 21 0, vI (vSt q), vR 10 0, vI i] M post := by
  obtain ⟨x, ex⟩ : ∃ x, x = M 10 0 i := ⟨_, rfl⟩
  obtain ⟨st, es⟩ : ∃ st, st = vSt q := ⟨_, rfl⟩
  have hst := ho.1
  rw [← es] at hst ⊢
  have hlo := ho.2.2.1
  have hmn := ho.2.1
  have h4 : 0 ≤ vOp q → M 25 0 (M 21 0 5) = vLa q (vOp q) ∧ (-1 ≤ vLa q (vOp q) ∧ vLa q (vOp q) < 8) := fun u => by
    rw [hq.2.1]
    exact ⟨(hq.2.2 (vOp q) u hlo.2).2.2.2, (ho.2.2.2.1 (vOp q) u hlo.2).2.2.2⟩
  have h5 : (st = 2 → 0 ≤ vOp q) ∧ (st = 3 → 0 ≤ vOp q) ∧ (st = 4 → 0 ≤ vOp q) ∧ (st = 5 → 0 ≤ vOp q) := by
    rw [es]
    exact ⟨fun e => (ho.2.2.2.2.1 e).1, fun e => (ho.2.2.2.2.2.1 e).1, fun e => (ho.2.2.2.2.2.2.1 e).1, fun e => (ho.2.2.2.2.2.2.2.1 e).1⟩
  have eo := hq.2.1
  have S : vStep (M 10 0) q i = (if st = 0 then vVal (M 10 0) q i (M 10 0 i) (if 0 ≤ vOp q then vLa q (vOp q) else -1)
  else if st = 1 then (if 97 ≤ x ∧ x ≤ 122 then (vBeh (M 10 0) (vOp q) (vAt q), q.2) else vFail q)
  else if st = 2 then (if x = 125 then vClo (M 10 0) q else if (97 ≤ x ∧ x < 105) ∧ vLa q (vOp q) < x - 97 then vTak q x else vFail q)
  else if st = 3 then (if 97 ≤ x ∧ x < 105 then vTak q x else vFail q)
  else if st = 4 then (if x = 93 then vClo (M 10 0) q else vFail q)
  else if st = 5 then (if x = 41 then vClo (M 10 0) q else vVal (M 10 0) q i (M 10 0 i) (-1))
  else vFail q) := by rw [ex, es]; rfl
  rw [S] at hp
  clear S
  refine kMet_of [vR 21 0, vI st, vR 10 0, vI i, vN, vN] (by decide) hI rfl rfl (Nat.le_of_ble_eq_true rfl) ?_
  intro p e s m args below meth c C hVok
  have J : (-2147483648 ≤ x ∧ x < 2147483648) → ∀ b : Int, (((97 ≤ x ∧ x < 105) ∧ b = 1) ∨ (¬ (97 ≤ x ∧ x < 105) ∧ b = 0)) → kG p l e h s m args below meth c w 6 1 post 24 [vR 21 0, vI st, vR 10 0, vI i, vI x, vN] [vI b] (M) := by
    intro hx b hb
    have C0 : st = 0 → ∀ ltr : Int, ltr = (if 0 ≤ vOp q then vLa q (vOp q) else -1) → kG p l e h s m args below meth c w 6 1 post 87 [vR 21 0, vI st, vR 10 0, vI i, vI x, vI b] [vI ltr, vI i, vR 10 0, vR 21 0] (M) := by
      intro e ltr hl
      rw [if_pos e] at hp
      have hlr : -1 ≤ ltr ∧ ltr < 8 := by
        rw [hl]
        by_cases u : 0 ≤ vOp q
        · rw [if_pos u]; exact (h4 u).2
        · rw [if_neg u]; omega
      rw [← hl] at hp
      clear hl
      refine g_callVi C dX3_next_87 v_X3_47 (m_X3_value (h := 3) (by omega) hI i ltr q M hq ho hi hlr (fun _ _ q => q)) ⟨rfl, rfl⟩ rfl rfl (Nat.le_of_ble_eq_true rfl) (by omega) ?_
      rintro z M' hz
      exact g_iret C dX3_next_90 (hp _ _ hz)
    refine g_ist_5 C dX3_next_24 (by decide) rfl ?_
    refine g_iload_n C dX3_next_26 rfl ?_
    have sw_27 : (st < 0 ∨ 5 < st) ∨ (st = 0) ∨ (st = 1) ∨ (st = 2) ∨ (st = 3) ∨ (st = 4) ∨ (st = 5) := by omega
    rcases sw_27 with c_27 | c_27 | c_27 | c_27 | c_27 | c_27 | c_27
    · refine g_tblOut C 217 dX3_next_27 (by omega) c_27 (by decide) ?_
      refine g_iconst C dX3_next_217 ?_
      exact g_iret C dX3_next_218 (hp _ _ ⟨kVf.rf, by rw [if_neg (show ¬ st = 0 by omega), if_neg (show ¬ st = 1 by omega), if_neg (show ¬ st = 2 by omega), if_neg (show ¬ st = 3 by omega), if_neg (show ¬ st = 4 by omega), if_neg (show ¬ st = 5 by omega)]; exact ⟨hq, rfl⟩⟩)
    · refine g_tblIn C (off := 37) 64 dX3_next_27 (by omega) (by omega) (by rw [c_27]; rfl) (by decide) ?_
      refine g_aload_n C dX3_next_64 rfl ?_
      refine g_aload_n C dX3_next_65 rfl ?_
      refine g_iload_n C dX3_next_66 rfl ?_
      refine g_aload_n C dX3_next_67 rfl ?_
      refine g_getI C 5 dX3_next_68 f_X3_24 ⟨rfl, rfl⟩ rfl rfl (fun r_68 => ?_)
      refine g_if_lt C 86 dX3_next_71 (by decide) (by omega) (fun c_71 => ?_) (fun c_71 => ?_)
      · refine g_iconst C dX3_next_86 ?_
        exact C0 c_27 _ (by rw [if_neg (by omega)])
      · refine g_aload_n C dX3_next_74 rfl ?_
        refine g_getR C 25 dX3_next_75 f_X3_21 ⟨rfl, rfl⟩ rfl (by decide) ?_
        refine g_aload_n C dX3_next_78 rfl ?_
        refine g_getI C 5 dX3_next_79 f_X3_24 ⟨rfl, rfl⟩ rfl rfl (fun r_79 => ?_)
        refine g_iald C 100 dX3_next_82 ⟨rfl, rfl⟩ rfl (by omega) (fun r_82 => ?_)
        rw [(h4 (by omega)).1] at r_82 ⊢
        refine g_goto C 87 dX3_next_83 (by decide) ?_
        exact C0 c_27 _ (by rw [← (h4 (by omega)).1, if_pos (by omega)])
    · refine g_tblIn C (off := 64) 91 dX3_next_27 (by omega) (by omega) (by rw [c_27]; rfl) (by decide) ?_
      rw [if_neg (show ¬ st = 0 by omega), if_pos c_27] at hp
      refine g_iload C dX3_next_91 rfl ?_
      refine g_bipush C dX3_next_93 (by decide) ?_
      refine g_ic_lt C 113 dX3_next_95 (by decide) (by omega) (fun c_95 => ?_) (fun c_95 => ?_)
      · refine g_iconst C dX3_next_113 ?_
        exact g_iret C dX3_next_114 (hp _ _ ⟨kVf.rf, by rw [if_neg (show ¬ (97 ≤ x ∧ x ≤ 122) by omega)]; exact ⟨hq, rfl⟩⟩)
      · refine g_iload C dX3_next_98 rfl ?_
        refine g_bipush C dX3_next_100 (by decide) ?_
        refine g_ic_gt C 113 dX3_next_102 (by decide) (by omega) (fun c_102 => ?_) (fun c_102 => ?_)
        · refine g_iconst C dX3_next_113 ?_
          exact g_iret C dX3_next_114 (hp _ _ ⟨kVf.rf, by rw [if_neg (show ¬ (97 ≤ x ∧ x ≤ 122) by omega)]; exact ⟨hq, rfl⟩⟩)
        · refine g_aload_n C dX3_next_105 rfl ?_
          refine g_aload_n C dX3_next_106 rfl ?_
          refine g_callVi C dX3_next_107 v_X3_43 (m_X3_behind (h := 3) (by omega) hI M (kVR_ho hq ho (by omega)) (fun _ _ q => q)) ⟨rfl, rfl⟩ rfl rfl (Nat.le_of_ble_eq_true rfl) (by omega) ?_
          rintro z M' ⟨hz, rfl⟩
          refine g_goto C 114 dX3_next_110 (by decide) ?_
          exact g_iret C dX3_next_114 (hp _ _ ⟨kVf.rf, by rw [if_pos (show 97 ≤ x ∧ x ≤ 122 by omega)]; exact ⟨hq, hz.trans (kVR_beh hq hlo.2 rfl)⟩⟩)
    · refine g_tblIn C (off := 88) 115 dX3_next_27 (by omega) (by omega) (by rw [c_27]; rfl) (by decide) ?_
      rw [if_neg (show ¬ st = 0 by omega), if_neg (show ¬ st = 1 by omega), if_pos c_27] at hp
      refine g_iload C dX3_next_115 rfl ?_
      refine g_bipush C dX3_next_117 (by decide) ?_
      refine g_ic_ne C 128 dX3_next_119 (by decide) (by omega) (fun c_119 => ?_) (fun c_119 => ?_)
      · refine g_iload C dX3_next_128 rfl ?_
        refine g_if_eq C 159 dX3_next_130 (by decide) (by omega) (fun c_130 => ?_) (fun c_130 => ?_)
        · refine g_iconst C dX3_next_159 ?_
          exact g_iret C dX3_next_160 (hp _ _ ⟨kVf.rf, by rw [if_neg (show ¬ x = 125 by omega), if_neg (show ¬ ((97 ≤ x ∧ x < 105) ∧ vLa q (vOp q) < x - 97) by omega)]; exact ⟨hq, rfl⟩⟩)
        · refine g_iload C dX3_next_133 rfl ?_
          refine g_bipush C dX3_next_135 (by decide) ?_
          refine g_isub C dX3_next_137 ?_
          refine g_aload_n C dX3_next_138 rfl ?_
          refine g_getR C 25 dX3_next_139 f_X3_21 ⟨rfl, rfl⟩ rfl (by decide) ?_
          refine g_aload_n C dX3_next_142 rfl ?_
          refine g_getI C 5 dX3_next_143 f_X3_24 ⟨rfl, rfl⟩ rfl rfl (fun r_143 => ?_)
          rw [eo] at r_143 ⊢
          refine g_iald C 100 dX3_next_146 ⟨rfl, rfl⟩ rfl (by omega) (fun r_146 => ?_)
          rw [← eo, (h4 (h5.1 c_27)).1] at r_146 ⊢
          refine g_ic_le C 159 dX3_next_147 (by decide) (by omega) (fun c_147 => ?_) (fun c_147 => ?_)
          · refine g_iconst C dX3_next_159 ?_
            exact g_iret C dX3_next_160 (hp _ _ ⟨kVf.rf, by rw [if_neg (show ¬ x = 125 by omega), if_neg (show ¬ ((97 ≤ x ∧ x < 105) ∧ vLa q (vOp q) < x - 97) by omega)]; exact ⟨hq, rfl⟩⟩)
          · refine g_aload_n C dX3_next_150 rfl ?_
            refine g_iload C dX3_next_151 rfl ?_
            refine g_callVi C dX3_next_153 v_X3_54 (m_X3_take (h := 3) hI x q M hq ⟨h5.1 c_27, by omega⟩ (by omega) (fun _ _ q => q)) ⟨rfl, rfl⟩ rfl rfl (Nat.le_of_ble_eq_true rfl) (by omega) ?_
            rintro z M' hz
            refine g_goto C 160 dX3_next_156 (by decide) ?_
            exact g_iret C dX3_next_160 (hp _ _ (by rw [if_neg (show ¬ x = 125 by omega), if_pos (show ((97 ≤ x ∧ x < 105) ∧ vLa q (vOp q) < x - 97) by omega)]; exact hz))
      · refine g_aload_n C dX3_next_122 rfl ?_
        refine g_aload_n C dX3_next_123 rfl ?_
        refine g_callVi C dX3_next_124 v_X3_51 (m_X3_close (h := 3) (by omega) hI i q M hq ho hi (h5.1 c_27) (fun _ _ q => q)) ⟨rfl, rfl⟩ rfl rfl (Nat.le_of_ble_eq_true rfl) (by omega) ?_
        rintro z M' hz
        exact g_iret C dX3_next_127 (hp _ _ (by rw [if_pos (show x = 125 by omega)]; exact hz))
    · refine g_tblIn C (off := 134) 161 dX3_next_27 (by omega) (by omega) (by rw [c_27]; rfl) (by decide) ?_
      rw [if_neg (show ¬ st = 0 by omega), if_neg (show ¬ st = 1 by omega), if_neg (show ¬ st = 2 by omega), if_pos c_27] at hp
      refine g_iload C dX3_next_161 rfl ?_
      refine g_if_eq C 175 dX3_next_163 (by decide) (by omega) (fun c_163 => ?_) (fun c_163 => ?_)
      · refine g_iconst C dX3_next_175 ?_
        exact g_iret C dX3_next_176 (hp _ _ ⟨kVf.rf, by rw [if_neg (show ¬ (97 ≤ x ∧ x < 105) by omega)]; exact ⟨hq, rfl⟩⟩)
      · refine g_aload_n C dX3_next_166 rfl ?_
        refine g_iload C dX3_next_167 rfl ?_
        refine g_callVi C dX3_next_169 v_X3_54 (m_X3_take (h := 3) hI x q M hq ⟨h5.2.1 c_27, by omega⟩ (by omega) (fun _ _ q => q)) ⟨rfl, rfl⟩ rfl rfl (Nat.le_of_ble_eq_true rfl) (by omega) ?_
        rintro z M' hz
        refine g_goto C 176 dX3_next_172 (by decide) ?_
        exact g_iret C dX3_next_176 (hp _ _ (by rw [if_pos (show (97 ≤ x ∧ x < 105) by omega)]; exact hz))
    · refine g_tblIn C (off := 150) 177 dX3_next_27 (by omega) (by omega) (by rw [c_27]; rfl) (by decide) ?_
      rw [if_neg (show ¬ st = 0 by omega), if_neg (show ¬ st = 1 by omega), if_neg (show ¬ st = 2 by omega), if_neg (show ¬ st = 3 by omega), if_pos c_27] at hp
      refine g_iload C dX3_next_177 rfl ?_
      refine g_bipush C dX3_next_179 (by decide) ?_
      refine g_ic_ne C 192 dX3_next_181 (by decide) (by omega) (fun c_181 => ?_) (fun c_181 => ?_)
      · refine g_iconst C dX3_next_192 ?_
        exact g_iret C dX3_next_193 (hp _ _ ⟨kVf.rf, by rw [if_neg (show ¬ x = 93 by omega)]; exact ⟨hq, rfl⟩⟩)
      · refine g_aload_n C dX3_next_184 rfl ?_
        refine g_aload_n C dX3_next_185 rfl ?_
        refine g_callVi C dX3_next_186 v_X3_51 (m_X3_close (h := 3) (by omega) hI i q M hq ho hi (h5.2.2.1 c_27) (fun _ _ q => q)) ⟨rfl, rfl⟩ rfl rfl (Nat.le_of_ble_eq_true rfl) (by omega) ?_
        rintro z M' hz
        refine g_goto C 193 dX3_next_189 (by decide) ?_
        exact g_iret C dX3_next_193 (hp _ _ (by rw [if_pos (show x = 93 by omega)]; exact hz))
    · refine g_tblIn C (off := 167) 194 dX3_next_27 (by omega) (by omega) (by rw [c_27]; rfl) (by decide) ?_
      rw [if_neg (show ¬ st = 0 by omega), if_neg (show ¬ st = 1 by omega), if_neg (show ¬ st = 2 by omega), if_neg (show ¬ st = 3 by omega), if_neg (show ¬ st = 4 by omega), if_pos c_27] at hp
      refine g_iload C dX3_next_194 rfl ?_
      refine g_bipush C dX3_next_196 (by decide) ?_
      refine g_ic_ne C 209 dX3_next_198 (by decide) (by omega) (fun c_198 => ?_) (fun c_198 => ?_)
      · refine g_aload_n C dX3_next_209 rfl ?_
        refine g_aload_n C dX3_next_210 rfl ?_
        refine g_iload_n C dX3_next_211 rfl ?_
        refine g_iconst C dX3_next_212 ?_
        refine g_callVi C dX3_next_213 v_X3_47 (m_X3_value (h := 3) (by omega) hI i (-1) q M hq ho hi (by omega) (fun _ _ q => q)) ⟨rfl, rfl⟩ rfl rfl (Nat.le_of_ble_eq_true rfl) (by omega) ?_
        rintro z M' hz
        exact g_iret C dX3_next_216 (hp _ _ (by rw [if_neg (show ¬ x = 41 by omega)]; exact hz))
      · refine g_aload_n C dX3_next_201 rfl ?_
        refine g_aload_n C dX3_next_202 rfl ?_
        refine g_callVi C dX3_next_203 v_X3_51 (m_X3_close (h := 3) (by omega) hI i q M hq ho hi (h5.2.2.2 c_27) (fun _ _ q => q)) ⟨rfl, rfl⟩ rfl rfl (Nat.le_of_ble_eq_true rfl) (by omega) ?_
        rintro z M' hz
        refine g_goto C 216 dX3_next_206 (by decide) ?_
        exact g_iret C dX3_next_216 (hp _ _ (by rw [if_pos (show x = 41 by omega)]; exact hz))
  refine g_aload_n C dX3_next_0 rfl ?_
  refine g_iload_n C dX3_next_1 rfl ?_
  refine g_cald C 100 dX3_next_2 ⟨rfl, rfl⟩ rfl (by omega) (fun r_2 => ?_)
  rw [← ex] at r_2 ⊢
  refine g_ist_4 C dX3_next_3 (by decide) rfl ?_
  refine g_iload C dX3_next_5 rfl ?_
  refine g_bipush C dX3_next_7 (by decide) ?_
  refine g_ic_lt C 23 dX3_next_9 (by decide) (by omega) (fun c_9 => ?_) (fun c_9 => ?_)
  · refine g_iconst C dX3_next_23 ?_
    exact J (by omega) 0 (by omega)
  · refine g_iload C dX3_next_12 rfl ?_
    refine g_bipush C dX3_next_14 (by decide) ?_
    refine g_ic_ge C 23 dX3_next_16 (by decide) (by omega) (fun c_16 => ?_) (fun c_16 => ?_)
    · refine g_iconst C dX3_next_23 ?_
      exact J (by omega) 0 (by omega)
    · refine g_iconst C dX3_next_19 ?_
      refine g_goto C 24 dX3_next_20 (by decide) ?_
      exact J (by omega) 1 (by omega)
end

