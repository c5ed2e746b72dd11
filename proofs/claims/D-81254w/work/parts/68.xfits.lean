/-! KindNets: isOf, mustBe, endOf, lackOf -/
set_option maxRecDepth 100000
def vNst (T : Int → Int) (q : KVS) (v : Int) : Prop := T (vAt q v) = 123 ∨ T (vAt q v) = 91 ∨ T (vAt q v) = 40
/-- open values opened; a letter is due where a value is -/
def vNs (T : Int → Int) (q : KVS) : Prop := (0 ≤ vOp q → vNst T q (vOp q)) ∧ (∀ v, 0 ≤ v → v < vMn q → 0 ≤ vUp q v → vNst T q (vUp q v)) ∧ (vSt q = 0 → 0 ≤ vOp q → 0 ≤ vLa q (vOp q))
theorem vNs_all {T : Int → Int} : ∀ k : Nat, vGd T k → vNs T (vRun T k)
  | 0, _ => ⟨fun e => by have : (0 : Int) ≤ -1 := e; omega, fun v v0 v1 => by have : v < (0 : Int) := v1; omega, fun _ e => by have : (0 : Int) ≤ -1 := e; omega⟩
  | k + 1, hg => by
    obtain ⟨i1, i2, i3⟩ := vNs_all k (hg.le (Nat.le_succ k))
    have ho := vOk_run (T := T) k
    have hop := ho.2.2.1.2
    have hup := fun v h0 h1 => (ho.2.2.2.1 v h0 h1).2.1
    have P : ∀ v, v < vMn (vRun T k) → ∀ (ltr o s1 : Int), vNst T (vRun T k) v → vNst T (vBeg T (vRun T k) k (T k) ltr o s1) v := by
      intro v v1 ltr o s1 h
      show T (fU (vAt (vRun T k)) (vMn (vRun T k)) k v) = 123 ∨ T (fU (vAt (vRun T k)) (vMn (vRun T k)) k v) = 91 ∨ T (fU (vAt (vRun T k)) (vMn (vRun T k)) k v) = 40
      rw [fU_ne (by omega)]
      exact h
    have UP : ∀ (ltr o s1 : Int), ∀ v, 0 ≤ v → v < vMn (vRun T k) + 1 → 0 ≤ fU (vUp (vRun T k)) (vMn (vRun T k)) (vOp (vRun T k)) v → vNst T (vBeg T (vRun T k) k (T k) ltr o s1) (fU (vUp (vRun T k)) (vMn (vRun T k)) (vOp (vRun T k)) v) := by
      intro ltr o s1 v v0 v1 h
      by_cases z : v = vMn (vRun T k)
      · rw [z, fU_eq] at h ⊢
        exact P _ hop ltr o s1 (i1 h)
      · rw [fU_ne z] at h ⊢
        have := hup v v0 (by omega)
        exact P _ (by omega) ltr o s1 (i2 v v0 (by omega) h)
    rcases hg.cs with ⟨ltr, s1, hn, hx, e⟩ | ⟨ltr, s1, hn, hx, e⟩ | ⟨hx, e⟩ | ⟨hx3, hx2, e⟩ | ⟨hx3, hx2, e⟩
    · have hb := vBeh_rng T (vOp (vRun T k)) (fU (vAt (vRun T k)) (vMn (vRun T k)) k)
      rw [e]
      exact ⟨fun h => P _ hop _ _ _ (i1 h), UP _ _ _, fun z => by
        have z : s1 = 0 := z
        omega⟩
    · rw [e]
      refine ⟨fun h => ?_, UP _ _ _, fun z => by
        have z : s1 = 0 := z
        omega⟩
      show T (fU (vAt (vRun T k)) (vMn (vRun T k)) k (vMn (vRun T k))) = 123 ∨ T (fU (vAt (vRun T k)) (vMn (vRun T k)) k (vMn (vRun T k))) = 91 ∨ T (fU (vAt (vRun T k)) (vMn (vRun T k)) k (vMn (vRun T k))) = 40
      rw [fU_eq]
      omega
    · have hb := vBeh_rng T (vUp (vRun T k) (vOp (vRun T k))) (vAt (vRun T k))
      have h0 : 0 ≤ vOp (vRun T k) := by
        rcases hx with x | x | x
        · exact (ho.2.2.2.2.1 x.1).1
        · exact (ho.2.2.2.2.2.2.1 x.1).1
        · exact (ho.2.2.2.2.2.2.2.1 x.1).1
      rw [e]
      exact ⟨fun h => i2 _ h0 hop h, i2, fun z => by
        have z : vBeh T (vUp (vRun T k) (vOp (vRun T k))) (vAt (vRun T k)) = 0 := z
        omega⟩
    · rw [e]
      refine ⟨i1, i2, fun _ h => ?_⟩
      show 0 ≤ fU (vLa (vRun T k)) (vOp (vRun T k)) (T k - 97) (vOp (vRun T k))
      rw [fU_eq]
      omega
    · have hb := vBeh_rng T (vOp (vRun T k)) (vAt (vRun T k))
      rw [e]
      exact ⟨i1, i2, fun z => by
        have z : vBeh T (vOp (vRun T k)) (vAt (vRun T k)) = 0 := z
        omega⟩
/-- letters of what lies in a record or a list -/
theorem vLt_in {T : Int → Int} {n : Nat} {v : Int} (hg : vGd T n) (v0 : 0 ≤ v) (v1 : v < vMn (vRun T n)) (hu : 0 ≤ vUp (vRun T n) v) (hT : T (vAt (vRun T n) (vUp (vRun T n) v)) = 123 ∨ T (vAt (vRun T n) (vUp (vRun T n) v)) = 91) : 0 ≤ vLt (vRun T n) v ∧ vLt (vRun T n) v < 8 := by
  obtain ⟨a, a1, a2, a3, a4, a5, a6, -, -⟩ := vBg_all n hg v v0 v1
  refine ⟨?_, ((vOk_run n).2.2.2.1 v v0 v1).2.2.1.2⟩
  have ho := vOk_run (T := T) a
  rcases a6 with ⟨z1, z2⟩ | ⟨z1, -, -⟩
  · rw [z2]
    rw [a5] at hu
    rw [if_pos hu]
    exact (vNs_all a (hg.le (by omega))).2.2 z1 hu
  · exfalso
    have h5 := (ho.2.2.2.2.2.2.2.1 z1).2
    have hs := (vSm_ab hg (Nat.le_of_lt a1) (Nat.le_refl n)).2 (vOp (vRun T a)) (by omega) ho.2.2.1.2
    rw [a5, hs.1] at hT
    omega
theorem kD_b {T : Int → Int} {k : Nat} : kD T (k + 1) ≤ kD T k + 1 ∧ kD T k - 1 ≤ kD T (k + 1) := by
  show kD T k + kBr (T k) ≤ _ ∧ _ ≤ kD T k + kBr (T k)
  unfold kBr
  split
  · omega
  · split <;> omega
section
variable {l : Launch} {w : KL} {h : Nat} {post : Int → KM → Prop}
def kIsX (S c : Int) (b : Prop) : Prop := (S = 110 ∧ 48 ≤ c ∧ c ≤ 57) ∨ (S = 116 ∧ (c = 84 ∨ c = 70)) ∨ (S = 115 ∧ c = 36) ∨ (S = 123 ∧ c = 123) ∨ (S = 91 ∧ c = 91 ∧ b) ∨ (S = 42 ∧ c = 40) ∨ S = 46
theorem m_X0_isOf (hh : 2 ≤ h) (hI : kInj w) (i v : Int) (M : KM) (hv : 0 ≤ v ∧ v < 100) (ha : 0 ≤ M 22 0 v ∧ M 22 0 v < 100) (hla : M 10 0 (M 22 0 v) = 91 → 0 ≤ M 25 0 v ∧ M 25 0 v < 8) (hp : ∀ z M', ((kIsX (M 1 i 0) (M 10 0 (M 22 0 v)) (M 2 i (M 25 0 v) ≠ -6) ∧ z = 1) ∨ (¬ kIsX (M 1 i 0) (M 10 0 (M 22 0 v)) (M 2 i (M 25 0 v) ≠ -6) ∧ z = 0)) ∧ M = M' → post z M') : kMet l w yX0_isOf cX0_isOf 4 (some .boolean) 1 h [vR 7 0, vR 1 i, vI v] M post := by
  obtain ⟨S, eS⟩ : ∃ S, S = M 1 i 0 := ⟨_, rfl⟩
  obtain ⟨x, ex⟩ : ∃ x, x = M 10 0 (M 22 0 v) := ⟨_, rfl⟩
  rw [← eS, ← ex] at hp
  rw [← ex] at hla
  have hla' : x = 91 → 0 ≤ M 25 0 v ∧ M 25 0 v < 8 := hla
  clear hla
  have R : ∀ z : Int, (((S = 110 ∧ 48 ≤ x ∧ x ≤ 57) ∨ (S = 116 ∧ (x = 84 ∨ x = 70)) ∨ (S = 115 ∧ x = 36) ∨ (S = 123 ∧ x = 123) ∨ (S = 91 ∧ x = 91 ∧ M 2 i (M 25 0 v) ≠ -6) ∨ (S = 42 ∧ x = 40) ∨ S = 46) ∧ z = 1) ∨ (¬ ((S = 110 ∧ 48 ≤ x ∧ x ≤ 57) ∨ (S = 116 ∧ (x = 84 ∨ x = 70)) ∨ (S = 115 ∧ x = 36) ∨ (S = 123 ∧ x = 123) ∨ (S = 91 ∧ x = 91 ∧ M 2 i (M 25 0 v) ≠ -6) ∨ (S = 42 ∧ x = 40) ∨ S = 46) ∧ z = 0) → post z M := fun z hz => hp z M ⟨hz, rfl⟩
  clear hp
  refine kMet_of [vR 7 0, vR 1 i, vI v, vN] (by decide) hI rfl rfl (Nat.le_of_ble_eq_true rfl) ?_
  intro p e s m args below meth c C hVok
  refine g_aload_n C dX0_isOf_0 rfl ?_
  refine g_getR C 10 dX0_isOf_1 f_X0_19 ⟨rfl, rfl⟩ rfl (by decide) ?_
  refine g_aload_n C dX0_isOf_4 rfl ?_
  refine g_getR C 21 dX0_isOf_5 f_X0_48 ⟨rfl, rfl⟩ rfl (by decide) ?_
  refine g_getR C 22 dX0_isOf_8 f_X0_195 ⟨rfl, rfl⟩ rfl (by decide) ?_
  refine g_iload_n C dX0_isOf_11 rfl ?_
  refine g_iald C 100 dX0_isOf_12 ⟨rfl, rfl⟩ rfl (by omega) (fun r_12 => ?_)
  refine g_cald C 100 dX0_isOf_13 ⟨rfl, rfl⟩ rfl (by omega) (fun r_13 => ?_)
  rw [← ex] at r_13 ⊢
  refine g_istn_3 C dX0_isOf_14 (by decide) rfl ?_
  refine g_aload_n C dX0_isOf_15 rfl ?_
  refine g_getI C 0 dX0_isOf_16 f_X0_101 ⟨rfl, rfl⟩ rfl rfl (fun r_16 => ?_)
  rw [← eS] at r_16 ⊢
  have sw_19 : ((S ≠ 42 ∧ S ≠ 91 ∧ S ≠ 110 ∧ S ≠ 115 ∧ S ≠ 116 ∧ S ≠ 123)) ∨ (S = 42) ∨ (S = 91) ∨ (S = 110) ∨ (S = 115) ∨ (S = 116) ∨ (S = 123) := by omega
  rcases sw_19 with c_19 | c_19 | c_19 | c_19 | c_19 | c_19 | c_19
  · refine g_look C (off := 157) 176 dX0_isOf_19 (by decide) (by omega) (show Op.lookupswitch.offset [(42, 145), (91, 117), (110, 57), (115, 93), (116, 75), (123, 105)] 157 (S) = 157 by simp only [Op.lookupswitch.offset_cons, Op.lookupswitch.offset_nil]; repeat rw [if_neg (by omega)]) (by decide) ?_
    refine g_aload_n C dX0_isOf_176 rfl ?_
    refine g_getI C 0 dX0_isOf_177 f_X0_101 ⟨rfl, rfl⟩ rfl rfl (fun r_177 => ?_)
    rw [← eS] at r_177 ⊢
    refine g_bipush C dX0_isOf_180 (by decide) ?_
    refine g_ic_ne C 189 dX0_isOf_182 (by decide) (by omega) (fun c_182 => ?_) (fun c_182 => ?_)
    · refine g_iconst C dX0_isOf_189 ?_
      exact g_zret C dX0_isOf_190 (by omega) (R _ (by clear R hla'; omega))
    · refine g_iconst C dX0_isOf_185 ?_
      refine g_goto C 190 dX0_isOf_186 (by decide) ?_
      exact g_zret C dX0_isOf_190 (by omega) (R _ (by clear R hla'; omega))
  · refine g_look C (off := 145) 164 dX0_isOf_19 (by decide) (by omega) (by rw [c_19]; rfl) (by decide) ?_
    refine g_iload_n C dX0_isOf_164 rfl ?_
    refine g_bipush C dX0_isOf_165 (by decide) ?_
    refine g_ic_ne C 174 dX0_isOf_167 (by decide) (by omega) (fun c_167 => ?_) (fun c_167 => ?_)
    · refine g_iconst C dX0_isOf_174 ?_
      exact g_zret C dX0_isOf_175 (by omega) (R _ (by clear R hla'; omega))
    · refine g_iconst C dX0_isOf_170 ?_
      refine g_goto C 175 dX0_isOf_171 (by decide) ?_
      exact g_zret C dX0_isOf_175 (by omega) (R _ (by clear R hla'; omega))
  · refine g_look C (off := 117) 136 dX0_isOf_19 (by decide) (by omega) (by rw [c_19]; rfl) (by decide) ?_
    refine g_iload_n C dX0_isOf_136 rfl ?_
    refine g_bipush C dX0_isOf_137 (by decide) ?_
    refine g_ic_ne C 162 dX0_isOf_139 (by decide) (by omega) (fun c_139 => ?_) (fun c_139 => ?_)
    · refine g_iconst C dX0_isOf_162 ?_
      exact g_zret C dX0_isOf_163 (by omega) (R _ (by clear R hla'; omega))
    · refine g_aload_n C dX0_isOf_142 rfl ?_
      refine g_aload_n C dX0_isOf_143 rfl ?_
      refine g_getR C 21 dX0_isOf_144 f_X0_48 ⟨rfl, rfl⟩ rfl (by decide) ?_
      refine g_getR C 25 dX0_isOf_147 f_X0_198 ⟨rfl, rfl⟩ rfl (by decide) ?_
      refine g_iload_n C dX0_isOf_150 rfl ?_
      refine g_iald C 100 dX0_isOf_151 ⟨rfl, rfl⟩ rfl (by omega) (fun r_151 => ?_)
      refine g_callVi C dX0_isOf_152 v_X0_148 (m_X2_has (h := 1) hI i (M 25 0 v) M (hla' (by assumption)) (fun _ _ q => q)) ⟨rfl, rfl⟩ rfl rfl (Nat.le_of_ble_eq_true rfl) (by omega) ?_
      rintro z M' ⟨⟨hz, rfl⟩ | ⟨hz, rfl⟩, rfl⟩
      · refine g_if_eq C 162 dX0_isOf_155 (by decide) (by omega) (fun c_155 => ?_) (fun c_155 => ?_)
        · omega
        · refine g_iconst C dX0_isOf_158 ?_
          refine g_goto C 163 dX0_isOf_159 (by decide) ?_
          exact g_zret C dX0_isOf_163 (by omega) (R _ (Or.inl ⟨Or.inr (Or.inr (Or.inr (Or.inr (Or.inl ⟨c_19, by assumption, hz⟩)))), rfl⟩))
      · refine g_if_eq C 162 dX0_isOf_155 (by decide) (by omega) (fun c_155 => ?_) (fun c_155 => ?_)
        · refine g_iconst C dX0_isOf_162 ?_
          exact g_zret C dX0_isOf_163 (by omega) (R _ (Or.inr ⟨by clear R hla'; omega, rfl⟩))
        · omega
  · refine g_look C (off := 57) 76 dX0_isOf_19 (by decide) (by omega) (by rw [c_19]; rfl) (by decide) ?_
    refine g_iload_n C dX0_isOf_76 rfl ?_
    refine g_bipush C dX0_isOf_77 (by decide) ?_
    refine g_ic_lt C 92 dX0_isOf_79 (by decide) (by omega) (fun c_79 => ?_) (fun c_79 => ?_)
    · refine g_iconst C dX0_isOf_92 ?_
      exact g_zret C dX0_isOf_93 (by omega) (R _ (by clear R hla'; omega))
    · refine g_iload_n C dX0_isOf_82 rfl ?_
      refine g_bipush C dX0_isOf_83 (by decide) ?_
      refine g_ic_gt C 92 dX0_isOf_85 (by decide) (by omega) (fun c_85 => ?_) (fun c_85 => ?_)
      · refine g_iconst C dX0_isOf_92 ?_
        exact g_zret C dX0_isOf_93 (by omega) (R _ (by clear R hla'; omega))
      · refine g_iconst C dX0_isOf_88 ?_
        refine g_goto C 93 dX0_isOf_89 (by decide) ?_
        exact g_zret C dX0_isOf_93 (by omega) (R _ (by clear R hla'; omega))
  · refine g_look C (off := 93) 112 dX0_isOf_19 (by decide) (by omega) (by rw [c_19]; rfl) (by decide) ?_
    refine g_iload_n C dX0_isOf_112 rfl ?_
    refine g_bipush C dX0_isOf_113 (by decide) ?_
    refine g_ic_ne C 122 dX0_isOf_115 (by decide) (by omega) (fun c_115 => ?_) (fun c_115 => ?_)
    · refine g_iconst C dX0_isOf_122 ?_
      exact g_zret C dX0_isOf_123 (by omega) (R _ (by clear R hla'; omega))
    · refine g_iconst C dX0_isOf_118 ?_
      refine g_goto C 123 dX0_isOf_119 (by decide) ?_
      exact g_zret C dX0_isOf_123 (by omega) (R _ (by clear R hla'; omega))
  · refine g_look C (off := 75) 94 dX0_isOf_19 (by decide) (by omega) (by rw [c_19]; rfl) (by decide) ?_
    refine g_iload_n C dX0_isOf_94 rfl ?_
    refine g_bipush C dX0_isOf_95 (by decide) ?_
    refine g_ic_eq C 106 dX0_isOf_97 (by decide) (by omega) (fun c_97 => ?_) (fun c_97 => ?_)
    · refine g_iconst C dX0_isOf_106 ?_
      refine g_goto C 111 dX0_isOf_107 (by decide) ?_
      exact g_zret C dX0_isOf_111 (by omega) (R _ (by clear R hla'; omega))
    · refine g_iload_n C dX0_isOf_100 rfl ?_
      refine g_bipush C dX0_isOf_101 (by decide) ?_
      refine g_ic_ne C 110 dX0_isOf_103 (by decide) (by omega) (fun c_103 => ?_) (fun c_103 => ?_)
      · refine g_iconst C dX0_isOf_110 ?_
        exact g_zret C dX0_isOf_111 (by omega) (R _ (by clear R hla'; omega))
      · refine g_iconst C dX0_isOf_106 ?_
        refine g_goto C 111 dX0_isOf_107 (by decide) ?_
        exact g_zret C dX0_isOf_111 (by omega) (R _ (by clear R hla'; omega))
  · refine g_look C (off := 105) 124 dX0_isOf_19 (by decide) (by omega) (by rw [c_19]; rfl) (by decide) ?_
    refine g_iload_n C dX0_isOf_124 rfl ?_
    refine g_bipush C dX0_isOf_125 (by decide) ?_
    refine g_ic_ne C 134 dX0_isOf_127 (by decide) (by omega) (fun c_127 => ?_) (fun c_127 => ?_)
    · refine g_iconst C dX0_isOf_134 ?_
      exact g_zret C dX0_isOf_135 (by omega) (R _ (by clear R hla'; omega))
    · refine g_iconst C dX0_isOf_130 ?_
      refine g_goto C 135 dX0_isOf_131 (by decide) ?_
      exact g_zret C dX0_isOf_135 (by omega) (R _ (by clear R hla'; omega))
theorem m_X0_mustBe (hI : kInj w) (v i : Int) (M : KM) (hv : 0 ≤ v ∧ v < 100) (hu : 0 ≤ M 23 0 v → M 23 0 v < 100 ∧ (M 26 0 (M 23 0 v) ≠ -6 → (0 ≤ M 26 0 (M 23 0 v) ∧ M 26 0 (M 23 0 v) < 60) ∧ (M 1 (M 26 0 (M 23 0 v)) 0 ≠ 46 → M 1 (M 26 0 (M 23 0 v)) 0 ≠ 42 → 0 ≤ M 24 0 v ∧ M 24 0 v < 8)))
    (hp : ∀ z M', z = (if M 23 0 v < 0 then i else if M 26 0 (M 23 0 v) = -6 ∨ M 1 (M 26 0 (M 23 0 v)) 0 = 46 then -6 else if M 1 (M 26 0 (M 23 0 v)) 0 = 42 then M 2 (M 26 0 (M 23 0 v)) 0 else M 2 (M 26 0 (M 23 0 v)) (M 24 0 v)) ∧ M = M' → post z M') : kMet l w yX0_mustBe cX0_mustBe 5 (some .int) 1 h [vR 7 0, vI v, vI i] M post := by
  obtain ⟨u, eu⟩ : ∃ u, u = M 23 0 v := ⟨_, rfl⟩
  rw [← eu] at hp hu
  obtain ⟨d, ed⟩ : ∃ d, d = M 26 0 u := ⟨_, rfl⟩
  rw [← ed] at hp hu
  have h1 : 0 ≤ u → u < 100 := fun a => (hu a).1
  have h2 : 0 ≤ u → d ≠ -6 → 0 ≤ d ∧ d < 60 := fun a b => ((hu a).2 b).1
  have h3 : 0 ≤ u → d ≠ -6 → M 1 d 0 ≠ 46 → M 1 d 0 ≠ 42 → 0 ≤ M 24 0 v ∧ M 24 0 v < 8 := fun a b => ((hu a).2 b).2
  clear hu
  refine kMet_of [vR 7 0, vI v, vI i, vN, vN] (by decide) hI rfl rfl (Nat.le_of_ble_eq_true rfl) ?_
  intro p e s m args below meth c C hVok
  refine g_aload_n C dX0_mustBe_0 rfl ?_
  refine g_getR C 21 dX0_mustBe_1 f_X0_48 ⟨rfl, rfl⟩ rfl (by decide) ?_
  refine g_getR C 23 dX0_mustBe_4 f_X0_201 ⟨rfl, rfl⟩ rfl (by decide) ?_
  refine g_iload_n C dX0_mustBe_7 rfl ?_
  refine g_iald C 100 dX0_mustBe_8 ⟨rfl, rfl⟩ rfl (by omega) (fun r_8 => ?_)
  rw [← eu] at r_8 ⊢
  refine g_istn_3 C dX0_mustBe_9 (by decide) rfl ?_
  refine g_iload_n C dX0_mustBe_10 rfl ?_
  refine g_if_ge C 16 dX0_mustBe_11 (by decide) (by omega) (fun c_11 => ?_) (fun c_11 => ?_)
  · refine g_aload_n C dX0_mustBe_16 rfl ?_
    refine g_getR C 26 dX0_mustBe_17 f_X0_52 ⟨rfl, rfl⟩ rfl (by decide) ?_
    refine g_iload_n C dX0_mustBe_20 rfl ?_
    refine g_iald C 100 dX0_mustBe_21 ⟨rfl, rfl⟩ rfl (by omega) (fun r_21 => ?_)
    rw [← ed] at r_21 ⊢
    refine g_bipush C dX0_mustBe_22 (by decide) ?_
    refine g_ic_eq C 46 dX0_mustBe_24 (by decide) (by omega) (fun c_24 => ?_) (fun c_24 => ?_)
    · refine g_bipush C dX0_mustBe_46 (by decide) ?_
      exact g_iret C dX0_mustBe_48 (hp _ _ ⟨by rw [if_neg (show ¬ u < 0 by omega), if_pos (Or.inl (by assumption))], rfl⟩)
    · refine g_aload_n C dX0_mustBe_27 rfl ?_
      refine g_getR C 8 dX0_mustBe_28 f_X0_11 ⟨rfl, rfl⟩ rfl (by decide) ?_
      refine g_aload_n C dX0_mustBe_31 rfl ?_
      refine g_getR C 26 dX0_mustBe_32 f_X0_52 ⟨rfl, rfl⟩ rfl (by decide) ?_
      refine g_iload_n C dX0_mustBe_35 rfl ?_
      refine g_iald C 100 dX0_mustBe_36 ⟨rfl, rfl⟩ rfl (by omega) (fun r_36 => ?_)
      rw [← ed] at r_36 ⊢
      have h2' := h2 (by omega) (by omega)
      refine g_aald C 1 60 dX0_mustBe_37 ⟨rfl, by decide, by decide⟩ (by decide) rfl (by omega) ?_
      refine g_getI C 0 dX0_mustBe_38 f_X0_101 ⟨rfl, rfl⟩ rfl rfl (fun r_38 => ?_)
      refine g_bipush C dX0_mustBe_41 (by decide) ?_
      refine g_ic_ne C 49 dX0_mustBe_43 (by decide) (by omega) (fun c_43 => ?_) (fun c_43 => ?_)
      · refine g_aload_n C dX0_mustBe_49 rfl ?_
        refine g_getR C 8 dX0_mustBe_50 f_X0_11 ⟨rfl, rfl⟩ rfl (by decide) ?_
        refine g_aload_n C dX0_mustBe_53 rfl ?_
        refine g_getR C 26 dX0_mustBe_54 f_X0_52 ⟨rfl, rfl⟩ rfl (by decide) ?_
        refine g_iload_n C dX0_mustBe_57 rfl ?_
        refine g_iald C 100 dX0_mustBe_58 ⟨rfl, rfl⟩ rfl (by omega) (fun r_58 => ?_)
        rw [← ed] at r_58 ⊢
        refine g_aald C 1 60 dX0_mustBe_59 ⟨rfl, by decide, by decide⟩ (by decide) rfl (by omega) ?_
        refine g_ast_4 C dX0_mustBe_60 (by decide) rfl ?_
        refine g_aload C dX0_mustBe_62 rfl ?_
        refine g_getI C 0 dX0_mustBe_64 f_X0_101 ⟨rfl, rfl⟩ rfl rfl (fun r_64 => ?_)
        refine g_bipush C dX0_mustBe_67 (by decide) ?_
        refine g_ic_ne C 82 dX0_mustBe_69 (by decide) (by omega) (fun c_69 => ?_) (fun c_69 => ?_)
        · refine g_aload C dX0_mustBe_82 rfl ?_
          refine g_getR C 2 dX0_mustBe_84 f_X0_113 ⟨rfl, rfl⟩ rfl (by decide) ?_
          refine g_aload_n C dX0_mustBe_87 rfl ?_
          refine g_getR C 21 dX0_mustBe_88 f_X0_48 ⟨rfl, rfl⟩ rfl (by decide) ?_
          refine g_getR C 24 dX0_mustBe_91 f_X0_204 ⟨rfl, rfl⟩ rfl (by decide) ?_
          refine g_iload_n C dX0_mustBe_94 rfl ?_
          have h3' := h3 (by omega) (by omega) (by assumption) (by assumption)
          refine g_iald C 100 dX0_mustBe_95 ⟨rfl, rfl⟩ rfl (by omega) (fun r_95 => ?_)
          refine g_iald C 8 dX0_mustBe_96 ⟨rfl, rfl⟩ rfl (by omega) (fun r_96 => ?_)
          exact g_iret C dX0_mustBe_97 (hp _ _ ⟨by rw [if_neg (show ¬ u < 0 by omega), if_neg (show ¬ (d = -6 ∨ M 1 d 0 = 46) by omega), if_neg (by assumption)], rfl⟩)
        · refine g_aload C dX0_mustBe_72 rfl ?_
          refine g_getR C 2 dX0_mustBe_74 f_X0_113 ⟨rfl, rfl⟩ rfl (by decide) ?_
          refine g_iconst C dX0_mustBe_77 ?_
          refine g_iald C 8 dX0_mustBe_78 ⟨rfl, rfl⟩ rfl (by omega) (fun r_78 => ?_)
          refine g_goto C 97 dX0_mustBe_79 (by decide) ?_
          exact g_iret C dX0_mustBe_97 (hp _ _ ⟨by rw [if_neg (show ¬ u < 0 by omega), if_neg (show ¬ (d = -6 ∨ M 1 d 0 = 46) by omega), if_pos (by assumption)], rfl⟩)
      · refine g_bipush C dX0_mustBe_46 (by decide) ?_
        exact g_iret C dX0_mustBe_48 (hp _ _ ⟨by rw [if_neg (show ¬ u < 0 by omega), if_pos (Or.inr (by assumption))], rfl⟩)
  · refine g_iload_n C dX0_mustBe_14 rfl ?_
    exact g_iret C dX0_mustBe_15 (hp _ _ ⟨by rw [if_pos (by assumption)], rfl⟩)
end

