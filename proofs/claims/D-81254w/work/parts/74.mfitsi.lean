/-! fits, plain: the state of the twin's walk -/
set_option maxRecDepth 100000
def kFI (N : KN) (T : Int → Int) (n : Nat) (i : Int) (k : Nat) (A B L : Int → Int) (p : Int) : Prop := p = kD T k ∧ (∀ t, 0 ≤ t → t < p → A t = T (vAt (vRun T n) (kHc T k t)) ∧ B t = kMn N (vRun T n) i (kHc T k t) ∧ (T (vAt (vRun T n) (kHc T k t)) = 123 → kBs (L t) (fun y => vMem (vRun T k) (kHc T k t) y ∨ (vSt (vRun T k) = 0 ∧ t = p - 1 ∧ vLa (vRun T k) (kHc T k t) = y)))) ∧ (∀ z, z < (k : Int) → ¬ kErr N T n i z)
theorem vMem_beg {T : Int → Int} {q : KVS} {k x ltr o s1 : Int} {u y : Int} (h0 : 0 ≤ vMn q) : vMem (vBeg T q k x ltr o s1) u y ↔ vMem q u y ∨ (u = vOp q ∧ ltr = y) := by
  constructor
  · rintro ⟨c, hc, e1, e2⟩
    have hc2 : c < vMn q + 1 := hc.2
    have e1 : fU (vUp q) (vMn q) (vOp q) c = u := e1
    have e2 : fU (vLt q) (vMn q) ltr c = y := e2
    by_cases z : c = vMn q
    · rw [z, fU_eq] at e1 e2
      exact Or.inr ⟨e1.symm, e2⟩
    · rw [fU_ne z] at e1 e2
      exact Or.inl ⟨c, by omega, e1, e2⟩
  · rintro (⟨c, hc, e1, e2⟩ | ⟨e1, e2⟩)
    · refine ⟨c, ⟨hc.1, by show c < vMn q + 1; omega⟩, ?_, ?_⟩
      · show fU (vUp q) (vMn q) (vOp q) c = u
        rw [fU_ne (by omega)]; exact e1
      · show fU (vLt q) (vMn q) ltr c = y
        rw [fU_ne (by omega)]; exact e2
    · refine ⟨vMn q, ⟨h0, by show vMn q < vMn q + 1; omega⟩, ?_, ?_⟩
      · show fU (vUp q) (vMn q) (vOp q) (vMn q) = u
        rw [fU_eq]; exact e1.symm
      · show fU (vLt q) (vMn q) ltr (vMn q) = y
        rw [fU_eq]; exact e2
/-- chain facts at k -/
theorem kHc_in {T : Int → Int} {n k : Nat} (hg : vGd T n) (hk : k ≤ n) {t : Int} (t0 : 0 ≤ t) (t1 : t < kD T k) : 0 ≤ kHc T k t ∧ kHc T k t ≤ vOp (vRun T k) ∧ kHc T k t < vMn (vRun T k) ∧ (t = kD T k - 1 → kHc T k t = vOp (vRun T k)) ∧ (t < kD T k - 1 → kHc T k t < vOp (vRun T k)) ∧ vAt (vRun T n) (kHc T k t) = vAt (vRun T k) (kHc T k t) := by
  obtain ⟨A, B, h⟩ := vPl_all k (hg.le hk)
  have hle := kPl_le h t0 t1
  obtain ⟨a, b, c, d⟩ := h
  have c1 := (c t t0 t1).1
  have ho := (vOk_run (T := T) k).2.2.1.2
  have b1 : vOp (vRun T k) = kHc T k (kD T k - 1) := by omega
  refine ⟨by omega, hle, by omega, fun z => by rw [z]; exact b1.symm, fun z => ?_, ?_⟩
  · have := d t (kD T k - 1) t0 z (by omega)
    omega
  · exact ((vSm_ab hg hk (Nat.le_refl n)).2 _ (by omega) (by omega)).1
theorem kFI_leaf {N : KN} {T : Int → Int} {n k : Nat} {i p x ltr s1 : Int} {A B L : Int → Int} (hg : vGd T n) (hk : k < n) (e : vRun T (k + 1) = vBeg T (vRun T k) k x ltr (vOp (vRun T k)) s1) (hn : vNew (vRun T k) x ltr) (hs : s1 ≠ 0) (h1 : ¬ (T k = 123 ∨ T k = 91 ∨ T k = 40)) (h2 : ¬ (T k = 125 ∨ T k = 93 ∨ T k = 41)) (hI : kFI N T n i k A B L p) (he : ¬ kErr N T n i k) : kFI N T n i (k + 1) A B L p := by
  obtain ⟨i1, i2, i3⟩ := hI
  have ho := vOk_run (T := T) k
  refine ⟨by rw [kD_z h1 h2]; exact i1, fun t t0 t1 => ?_, fun z hz => ?_⟩
  · rw [kHc_z h1]
    obtain ⟨a1, a2, a3⟩ := i2 t t0 t1
    refine ⟨a1, a2, fun hT => kBs_iff (a3 hT) (fun y y0 y1 => ?_)⟩
    rw [i1] at t1 ⊢
    obtain ⟨g1, g2, g3, g4, g5, g6⟩ := kHc_in hg (Nat.le_of_lt hk) t0 t1
    rw [g6] at hT
    rw [e, vMem_beg ho.2.1.1]
    have hst : vSt (vBeg T (vRun T k) k x ltr (vOp (vRun T k)) s1) = s1 := rfl
    constructor
    · rintro (u | ⟨u1, u2, u3⟩)
      · exact Or.inl (Or.inl u)
      · refine Or.inl (Or.inr ⟨g4 u2, ?_⟩)
        rcases hn with ⟨-, z⟩ | ⟨z, -⟩
        · rw [z, if_pos (by omega), ← g4 u2]
          exact u3
        · omega
    · rintro ((u | ⟨u1, u2⟩) | ⟨u1, -⟩)
      · exact Or.inl u
      · rcases hn with ⟨z1, z⟩ | ⟨z, -⟩
        · refine Or.inr ⟨z1, ?_, ?_⟩
          · by_cases c : t = kD T k - 1
            · exact c
            · have := g5 (by omega)
              omega
          · rw [z, if_pos (by omega), ← u1] at u2
            exact u2
        · exfalso
          have := (ho.2.2.2.2.2.2.2.1 z).2.1
          rw [← u1] at this
          exact this hT
      · exact absurd u1 (by rw [hst]; exact hs)
  · by_cases c : z = k
    · rw [c]; exact he
    · exact i3 z (by omega)
/-- the letter behind $ -/
theorem kFI_pass {N : KN} {T : Int → Int} {n k : Nat} {i p s1 : Int} {A B L : Int → Int} (hg : vGd T n) (hk : k < n) (e : vRun T (k + 1) = (s1, (vRun T k).2)) (hs : s1 ≠ 0) (hs2 : vSt (vRun T k) ≠ 0) (h1 : ¬ (T k = 123 ∨ T k = 91 ∨ T k = 40)) (h2 : ¬ (T k = 125 ∨ T k = 93 ∨ T k = 41)) (hI : kFI N T n i k A B L p) : kFI N T n i (k + 1) A B L p := by
  obtain ⟨i1, i2, i3⟩ := hI
  refine ⟨by rw [kD_z h1 h2]; exact i1, fun t t0 t1 => ?_, fun z hz => ?_⟩
  · rw [kHc_z h1]
    obtain ⟨a1, a2, a3⟩ := i2 t t0 t1
    refine ⟨a1, a2, fun hT => kBs_iff (a3 hT) (fun y y0 y1 => ?_)⟩
    rw [e]
    constructor
    · rintro (u | ⟨u1, -⟩)
      · exact Or.inl u
      · exact absurd u1 hs2
    · rintro (u | ⟨u1, -⟩)
      · exact Or.inl u
      · exact absurd u1 hs
  · by_cases c : z = k
    · rw [c]
      refine kErr_no hg hk (fun ltr o s2 x => ?_) h2
      rw [e] at x
      have : vMn (vRun T k) = vMn (vRun T k) + 1 := congrArg vMn x
      omega
    · exact i3 z (by omega)
theorem kFI_clo {N : KN} {T : Int → Int} {n k : Nat} {i p : Int} {A B L : Int → Int} (hg : vGd T n) (hk : k < n) (e : vRun T (k + 1) = vClo T (vRun T k)) (hs2 : vSt (vRun T k) ≠ 0) (h2 : T k = 125 ∨ T k = 93 ∨ T k = 41) (hI : kFI N T n i k A B L p) (he : ¬ kErr N T n i k) : kFI N T n i (k + 1) A B L (p - 1) := by
  obtain ⟨i1, i2, i3⟩ := hI
  have hb := vBeh_rng T (vUp (vRun T k) (vOp (vRun T k))) (vAt (vRun T k))
  refine ⟨by rw [kD_c h2, i1], fun t t0 t1 => ?_, fun z hz => ?_⟩
  · rw [kHc_z (by omega)]
    obtain ⟨a1, a2, a3⟩ := i2 t t0 (by omega)
    refine ⟨a1, a2, fun hT => kBs_iff (a3 hT) (fun y y0 y1 => ?_)⟩
    rw [e]
    constructor
    · rintro (u | ⟨u1, -⟩)
      · exact Or.inl u
      · exact absurd u1 hs2
    · rintro (u | ⟨u1, -⟩)
      · exact Or.inl u
      · have u1 : vBeh T (vUp (vRun T k) (vOp (vRun T k))) (vAt (vRun T k)) = 0 := u1
        omega
  · by_cases c : z = k
    · rw [c]; exact he
    · exact i3 z (by omega)
theorem kFI_nest {N : KN} {T : Int → Int} {n k : Nat} {i p x ltr s1 : Int} {A B L : Int → Int} (hg : vGd T n) (hk : k < n) (ex : x = T k) (e : vRun T (k + 1) = vBeg T (vRun T k) k x ltr (vMn (vRun T k)) s1) (hn : vNew (vRun T k) x ltr) (hs : s1 ≠ 0) (h1 : T k = 123 ∨ T k = 91 ∨ T k = 40) (hI : kFI N T n i k A B L p) (he : ¬ kErr N T n i k) : kFI N T n i (k + 1) (fU A p x) (fU B p (kMn N (vRun T n) i (vMn (vRun T k)))) (fU L p 0) (p + 1) := by
  obtain ⟨i1, i2, i3⟩ := hI
  have ho := vOk_run (T := T) k
  have hat := (vBeg_at (N := N) (i := i) hg hk e).2.1
  have hst : vSt (vBeg T (vRun T k) k x ltr (vMn (vRun T k)) s1) = s1 := rfl
  refine ⟨by rw [kD_o h1, i1], fun t t0 t1 => ?_, fun z hz => ?_⟩
  · rw [kHc_o h1]
    by_cases c : t = p
    · rw [c, fU_eq, fU_eq, fU_eq, i1, fU_eq, hat]
      refine ⟨ex, rfl, fun _ => kBs_iff kBs_0 (fun y y0 y1 => ⟨False.elim, ?_⟩)⟩
      rw [e]
      rintro (u | ⟨u1, -⟩)
      · rw [vMem_beg ho.2.1.1] at u
        rcases u with ⟨c, c1, c2, -⟩ | ⟨u1, -⟩
        · have := (ho.2.2.2.1 c c1.1 c1.2).2.1
          omega
        · have := ho.2.2.1
          omega
      · exact absurd u1 (by rw [hst]; exact hs)
    · rw [fU_ne c, fU_ne c, fU_ne c, fU_ne (by rw [← i1]; exact c)]
      obtain ⟨a1, a2, a3⟩ := i2 t t0 (by omega)
      refine ⟨a1, a2, fun hT => kBs_iff (a3 hT) (fun y y0 y1 => ?_)⟩
      have t1 : t < kD T k := by omega
      rw [i1]
      obtain ⟨g1, g2, g3, g4, g5, g6⟩ := kHc_in hg (Nat.le_of_lt hk) t0 t1
      rw [g6] at hT
      rw [e, vMem_beg ho.2.1.1]
      constructor
      · rintro (u | ⟨u1, u2, u3⟩)
        · exact Or.inl (Or.inl u)
        · refine Or.inl (Or.inr ⟨g4 u2, ?_⟩)
          rcases hn with ⟨-, z⟩ | ⟨z, -⟩
          · rw [z, if_pos (by omega), ← g4 u2]
            exact u3
          · omega
      · rintro ((u | ⟨u1, u2⟩) | ⟨u1, -⟩)
        · exact Or.inl u
        · rcases hn with ⟨z1, z⟩ | ⟨z, -⟩
          · refine Or.inr ⟨z1, ?_, ?_⟩
            · by_cases c : t = kD T k - 1
              · exact c
              · have := g5 (by omega)
                omega
            · rw [z, if_pos (by omega), ← u1] at u2
              exact u2
          · exfalso
            have := (ho.2.2.2.2.2.2.2.1 z).2.1
            rw [← u1] at this
            exact this hT
        · exact absurd u1 (by rw [hst]; exact hs)
  · by_cases c : z = k
    · rw [c]; exact he
    · exact i3 z (by omega)
theorem kFI_tk {N : KN} {T : Int → Int} {n k : Nat} {i p : Int} {A B L : Int → Int} (hg : vGd T n) (hk : k < n) (e : vRun T (k + 1) = vTak (vRun T k) (T k)) (hs : vSt (vRun T k) ≠ 0) (hx : 97 ≤ T k ∧ T k < 105) (hI : kFI N T n i k A B L p) (L' : Int → Int) (hL : ∀ t, 0 ≤ t → t < p - 1 → L' t = L t) (hT : 0 < p → T (vAt (vRun T n) (kHc T k (p - 1))) = 123 → L' (p - 1) = kOr (L (p - 1)) (kShl 1 (T k - 97))) : kFI N T n i (k + 1) A B L' p := by
  obtain ⟨i1, i2, i3⟩ := hI
  have hz1 : ¬ (T k = 123 ∨ T k = 91 ∨ T k = 40) := by omega
  have hz2 : ¬ (T k = 125 ∨ T k = 93 ∨ T k = 41) := by omega
  refine ⟨by rw [kD_z hz1 hz2]; exact i1, fun t t0 t1 => ?_, fun z hz => ?_⟩
  · rw [kHc_z hz1]
    obtain ⟨a1, a2, a3⟩ := i2 t t0 t1
    refine ⟨a1, a2, fun hT2 => ?_⟩
    have a3 := a3 hT2
    have t2 : t < kD T k := by omega
    obtain ⟨g1, g2, g3, g4, g5, g6⟩ := kHc_in hg (Nat.le_of_lt hk) t0 t2
    have es : vSt (vTak (vRun T k) (T k)) = 0 := rfl
    have el : vLa (vTak (vRun T k) (T k)) (kHc T k t) = fU (vLa (vRun T k)) (vOp (vRun T k)) (T k - 97) (kHc T k t) := rfl
    rw [e, es, el]
    by_cases c : t = p - 1
    · rw [c] at hT2
      rw [c, hT (by omega) hT2, ← c, g4 (by omega), fU_eq]
      rw [g4 (by omega)] at a3
      refine kBs_iff (kBs_or a3 (by omega)) (fun y y0 y1 => ⟨?_, ?_⟩)
      · rintro ((u | ⟨u1, -⟩) | u)
        · exact Or.inl u
        · exact absurd u1 hs
        · exact Or.inr ⟨rfl, rfl, u.symm⟩
      · rintro (u | ⟨-, -, u⟩)
        · exact Or.inl (Or.inl u)
        · exact Or.inr u.symm
    · rw [hL t t0 (by omega)]
      refine kBs_iff a3 (fun y y0 y1 => ⟨?_, ?_⟩)
      · rintro (u | ⟨u1, -⟩)
        · exact Or.inl u
        · exact absurd u1 hs
      · rintro (u | ⟨-, u, -⟩)
        · exact Or.inl u
        · exact absurd u c
  · by_cases c : z = k
    · rw [c]
      refine kErr_no hg hk (fun ltr o s2 x => ?_) hz2
      rw [e] at x
      have : vMn (vRun T k) = vMn (vRun T k) + 1 := congrArg vMn x
      omega
    · exact i3 z (by omega)

