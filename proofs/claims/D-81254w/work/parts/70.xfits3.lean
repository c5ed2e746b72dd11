/-! KindNets: fits -/
set_option maxRecDepth 100000
def kErrV (N : KN) (T : Int → Int) (n : Nat) (i v z : Int) : Prop := ∃ u, (0 ≤ u ∧ u < v) ∧ ((vAt (vRun T n) u = z ∧ kMis N T (vRun T n) i u) ∨ (¬ kMis N T (vRun T n) i u ∧ (∃ e : Nat, e < n ∧ (e : Int) = z ∧ vCl T u e) ∧ kLac N (vRun T n) i u))
def kPlc (N : KN) (T : Int → Int) (n : Nat) (i v place : Int) : Prop := (∀ z, kErrV N T n i v z → place ≤ z) ∧ (place = 100 ∨ kErrV N T n i v place)
theorem kErrV_s {N : KN} {T : Int → Int} {n : Nat} {i v z : Int} (h : kErrV N T n i v z) : kErrV N T n i (v + 1) z := by
  obtain ⟨u, hu, h⟩ := h
  exact ⟨u, by omega, h⟩
theorem kPlc_mis {N : KN} {T : Int → Int} {n : Nat} {i v place : Int} (h : kPlc N T n i v place) (hm : kMis N T (vRun T n) i v) (hv : 0 ≤ v) (hp : vAt (vRun T n) v < place) : kPlc N T n i (v + 1) (vAt (vRun T n) v) := by
  refine ⟨fun z ⟨u, hu, hz⟩ => ?_, Or.inr ⟨v, by omega, Or.inl ⟨rfl, hm⟩⟩⟩
  by_cases c : u = v
  · rw [c] at hz
    rcases hz with ⟨e, -⟩ | ⟨e, -⟩
    · rw [e]; exact Int.le_refl z
    · exact absurd hm e
  · have := h.1 z ⟨u, by omega, hz⟩
    omega
theorem kPlc_lac {N : KN} {T : Int → Int} {n : Nat} {i v place : Int} {e : Nat} (hg : vGd T n) (h : kPlc N T n i v place) (hm : ¬ kMis N T (vRun T n) i v) (hv : 0 ≤ v) (he : e < n) (hc : vCl T v e) (hl : kLac N (vRun T n) i v) : kPlc N T n i (v + 1) (if (e : Int) < place then (e : Int) else place) := by
  have F : ∀ z, kErrV N T n i (v + 1) z → place ≤ z ∨ z = e := by
    intro z ⟨u, hu, hz⟩
    by_cases c : u = v
    · rw [c] at hz
      rcases hz with ⟨_, e⟩ | ⟨_, ⟨f, f1, f2, f3⟩, _⟩
      · exact absurd e hm
      · rw [vCl_uniq hg f3 hc f1 he] at f2
        exact Or.inr f2.symm
    · exact Or.inl (h.1 z ⟨u, by omega, hz⟩)
  by_cases c : (e : Int) < place
  · rw [if_pos c]
    refine ⟨fun z hz => ?_, Or.inr ⟨v, by omega, Or.inr ⟨hm, ⟨e, he, rfl, hc⟩, hl⟩⟩⟩
    have := F z hz
    omega
  · rw [if_neg c]
    refine ⟨fun z hz => ?_, h.2.elim Or.inl (fun x => Or.inr (kErrV_s x))⟩
    have := F z hz
    omega
theorem kPlc_no {N : KN} {T : Int → Int} {n : Nat} {i v place : Int} (h : kPlc N T n i v place) (hm : ¬ kMis N T (vRun T n) i v) (hl : ¬ kLac N (vRun T n) i v) : kPlc N T n i (v + 1) place := by
  refine ⟨fun z ⟨u, hu, hz⟩ => ?_, h.2.elim Or.inl (fun x => Or.inr (kErrV_s x))⟩
  by_cases c : u = v
  · rw [c] at hz
    rcases hz with ⟨_, e⟩ | ⟨_, _, e⟩
    · exact absurd e hm
    · exact absurd e hl
  · exact h.1 z ⟨u, by omega, hz⟩
/-- a closing comes behind the begin -/
theorem vCl_ge {T : Int → Int} {n e : Nat} {v : Int} (hg : vGd T n) (h : vCl T v e) (he : e < n) (v1 : v < vMn (vRun T n)) : vAt (vRun T n) v < e := by
  have ho := vOk_run (T := T) e
  have h1 := ho.2.2.1.2
  rw [h.2.1] at h1
  have h2 := ho.2.2.2.1 v h.1 h1
  have h3 := (vSm_ab hg (Nat.le_of_lt he) (Nat.le_refl n)).2 v h.1 h1
  rw [h3.1]
  exact h2.1.2
theorem kPlc_end {N : KN} {T : Int → Int} {n : Nat} {i v place : Int} (hg : vGd T n) (hn : n ≤ 100) (h : kPlc N T n i v place) (hv : 0 ≤ v ∧ v ≤ vMn (vRun T n)) (hx : v = vMn (vRun T n) ∨ place ≤ vAt (vRun T n) v) : kFst (kErr N T n i) (if place = 100 then -6 else place) := by
  have ho := vOk_run (T := T) n
  have AT : ∀ u, 0 ≤ u → u < vMn (vRun T n) → 0 ≤ vAt (vRun T n) u ∧ vAt (vRun T n) u < 100 := by
    intro u u0 u1
    have := (ho.2.2.2.1 u u0 u1).1
    omega
  have F : ∀ z, kErr N T n i z → place ≤ z ∧ z < 100 := by
    intro z ⟨u, hu, hz⟩
    have a1 := AT u hu.1 hu.2
    have hz1 : vAt (vRun T n) u ≤ z ∧ z < 100 := by
      rcases hz with ⟨e, -⟩ | ⟨-, ⟨f, f1, f2, f3⟩, -⟩
      · omega
      · have := vCl_ge hg f3 f1 hu.2
        omega
    refine ⟨?_, hz1.2⟩
    by_cases c : u < v
    · exact h.1 z ⟨u, by omega, hz⟩
    · rcases hx with e | e
      · omega
      · by_cases c2 : u = v
        · rw [c2] at hz1
          omega
        · have := vAt_lt hg hv.1 (show v < u by omega) hu.2
          omega
  by_cases c : place = 100
  · rw [if_pos c]
    refine Or.inr ⟨fun y hy => ?_, rfl⟩
    have := F y hy
    omega
  · rw [if_neg c]
    rcases h.2 with e | ⟨u, hu, hz⟩
    · exact absurd e c
    · refine Or.inl ⟨place, ⟨u, by omega, hz⟩, fun y y1 hy => ?_, rfl⟩
      have := F y hy
      omega
theorem kMo_rng {N : KN} {Q : KVS} {i : Int} (hN : kWF N) (hout : ∀ i l, ¬ (0 ≤ l ∧ l < 8) → N.2.2 i l = -6) (hi : 0 ≤ i ∧ i < N.1) (hu : ∀ v, 0 ≤ v → v < vMn Q → vUp Q v < v) : ∀ (g : Nat) (v : Int), 0 ≤ v → v < vMn Q → v.toNat < g → kMo N Q i v = -6 ∨ (0 ≤ kMo N Q i v ∧ kMo N Q i v < N.1) := by
  intro g
  induction g with
  | zero => intro v v0 v1 v2; omega
  | succ g ih =>
    intro v v0 v1 v2
    have h := hu v v0 v1
    rw [kMo_eq hu v0 v1]
    by_cases c : vUp Q v < 0
    · rw [if_pos c]; exact Or.inr hi
    · rw [if_neg c]
      have ih := ih (vUp Q v) (by omega) (by omega) (by omega)
      by_cases c2 : kMo N Q i (vUp Q v) < 0 ∨ N.2.1 (kMo N Q i (vUp Q v)) = 46
      · rw [if_pos c2]; exact Or.inl rfl
      · rw [if_neg c2]
        have ir : 0 ≤ kMo N Q i (vUp Q v) ∧ kMo N Q i (vUp Q v) < N.1 := by
          have c3 : ¬ kMo N Q i (vUp Q v) < 0 := fun z => c2 (Or.inl z)
          omega
        split
        · exact hN.2.2.1 _ 0 ir.1 ir.2 (by omega) (by omega)
        · by_cases c4 : 0 ≤ vLt Q v ∧ vLt Q v < 8
          · exact hN.2.2.1 _ _ ir.1 ir.2 c4.1 c4.2
          · exact Or.inl (hout _ _ c4)
theorem kXnet_o {M : KM} : ∀ i k, ¬ (0 ≤ k ∧ k < 8) → (kXnet M).2.2 i k = -6 := fun i k h => if_neg (fun z => h z.2)
theorem kMnet_o {M : KM} : ∀ i k, ¬ (0 ≤ k ∧ k < 8) → (kMnet M).2.2 i k = -6 := fun i k h => if_neg (fun z => h z.2)
/-- the run that ended fine -/
theorem kSl_gd {T : Int → Int} {n u : Int} (h0 : 0 ≤ n) (h : kSlA T n u) (hu : u < 0) : vGd T n.toNat ∧ vSt (vRun T n.toNat) = 6 := by
  rcases h with ⟨k, k1, -, -, rfl⟩ | ⟨h1, h2⟩
  · omega
  · refine ⟨fun j hj => ?_, by omega⟩
    have := h1 j (by omega) (by omega)
    rw [show ((j : Int)).toNat = j by omega] at this
    exact this
theorem kD_end {T : Int → Int} {n : Nat} (hg : vGd T n) (h : vSt (vRun T n) = 6) : kD T n = 0 := by
  have ho := (vOk_run (T := T) n).2.2.2.2.2.2.2.2 h
  obtain ⟨A, B, a, b, c, -⟩ := vPl_all n hg
  rcases b with b | b
  · exact b.1
  · have := (c (kD T n - 1) (by omega) (by omega)).1
    omega
theorem vMem_iff {M : KM} {Q : KVS} {v : Int} (hR : kVR M Q) (hu : ∀ v, 0 ≤ v → v < vMn Q → vUp Q v < v) (v0 : 0 ≤ v) (k : Int) : kLtB M v (M 21 0 4) k ↔ vMem Q v k := by
  obtain ⟨h1, -, h3⟩ := hR
  constructor
  · rintro ⟨c, c1, c2, c3⟩
    obtain ⟨-, b2, b3, -⟩ := h3 c (by omega) (by omega)
    exact ⟨c, by omega, b2 ▸ c2, b3 ▸ c3⟩
  · rintro ⟨c, c1, c2, c3⟩
    obtain ⟨-, b2, b3, -⟩ := h3 c (by omega) (by omega)
    have := hu c c1.1 c1.2
    exact ⟨c, by omega, by rw [b2]; exact c2, by rw [b3]; exact c3⟩

