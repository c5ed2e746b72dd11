/-! fits, plain, for the twin's walk over the signs -/
set_option maxRecDepth 100000
/-- the node that the next value is due to be of -/
def kNx (N : KN) (Q : KVS) (i o ltr : Int) : Int := if o < 0 then i else if kMo N Q i o < 0 ∨ N.2.1 (kMo N Q i o) = 46 then -6 else if N.2.1 (kMo N Q i o) = 42 then N.2.2 (kMo N Q i o) 0 else N.2.2 (kMo N Q i o) ltr
/-- what stands in must -/
def kMn (N : KN) (Q : KVS) (i v : Int) : Int := if kMo N Q i v < 0 ∨ N.2.1 (kMo N Q i v) = 46 then -6 else kMo N Q i v
theorem vUp_lt {T : Int → Int} {n : Nat} : ∀ v, 0 ≤ v → v < vMn (vRun T n) → vUp (vRun T n) v < v := fun v a b => ((vOk_run n).2.2.2.1 v a b).2.1.2
/-- a value that begins at k -/
theorem vBeg_at {N : KN} {T : Int → Int} {n k : Nat} {i x ltr o s1 : Int} (hg : vGd T n) (hk : k < n) (e : vRun T (k + 1) = vBeg T (vRun T k) k x ltr o s1) : (0 ≤ vMn (vRun T k) ∧ vMn (vRun T k) < vMn (vRun T n)) ∧ vAt (vRun T n) (vMn (vRun T k)) = k ∧ vUp (vRun T n) (vMn (vRun T k)) = vOp (vRun T k) ∧ kMo N (vRun T n) i (vMn (vRun T k)) = kNx N (vRun T n) i (vOp (vRun T k)) ltr := by
  have h0 := (vOk_run (T := T) k).2.1.1
  have hs := vSm_ab hg (show k + 1 ≤ n by omega) (Nat.le_refl n)
  have h1 : vMn (vRun T (k + 1)) = vMn (vRun T k) + 1 := by rw [e]; rfl
  obtain ⟨b1, b2, b3⟩ := hs.2 (vMn (vRun T k)) h0 (by omega)
  have a1 : vAt (vRun T (k + 1)) (vMn (vRun T k)) = k := by rw [e]; exact fU_eq
  have a2 : vUp (vRun T (k + 1)) (vMn (vRun T k)) = vOp (vRun T k) := by rw [e]; exact fU_eq
  have a3 : vLt (vRun T (k + 1)) (vMn (vRun T k)) = ltr := by rw [e]; exact fU_eq
  have hlt : vMn (vRun T k) < vMn (vRun T n) := by have := hs.1; omega
  refine ⟨⟨h0, hlt⟩, b1.trans a1, b2.trans a2, ?_⟩
  rw [kMo_eq vUp_lt h0 hlt, b2, a2, b3, a3]
  rfl
/-- no fault at k where no value begins and none closes -/
theorem kErr_no {N : KN} {T : Int → Int} {n k : Nat} {i : Int} (hg : vGd T n) (hk : k < n) (h1 : ∀ ltr o s1, vRun T (k + 1) ≠ vBeg T (vRun T k) k (T k) ltr o s1) (h2 : ¬ (T k = 125 ∨ T k = 93 ∨ T k = 41)) : ¬ kErr N T n i k := by
  rintro ⟨v, hv, ⟨e, -⟩ | ⟨-, ⟨f, f1, f2, f3⟩, -⟩⟩
  · obtain ⟨a, a1, hb⟩ := vBg_all n hg v hv.1 hv.2
    have ea : a = k := by
      have := hb.1
      omega
    obtain ⟨b1, b2, b3, -⟩ := hb
    rw [ea] at b2 b3
    rcases (hg.le (show k + 1 ≤ n by omega)).cs with ⟨ltr, s1, hn, hx, e⟩ | ⟨ltr, s1, hn, hx, e⟩ | ⟨hx, e⟩ | ⟨hx, hx2, e⟩ | ⟨hx, hx2, e⟩
    · exact h1 _ _ _ e
    · exact h1 _ _ _ e
    · rw [e] at b3
      have : vMn (vRun T k) = v + 1 := b3
      omega
    · rw [e] at b3
      have : vMn (vRun T k) = v + 1 := b3
      omega
    · rw [e] at b3
      have : vMn (vRun T k) = v + 1 := b3
      omega
  · have : f = k := by omega
    rw [this] at f3
    exact h2 f3.2.2
/-- where a value begins, the fault is its misfit -/
theorem kErr_bg {N : KN} {T : Int → Int} {n k : Nat} {i x ltr o s1 : Int} (hg : vGd T n) (hk : k < n) (e : vRun T (k + 1) = vBeg T (vRun T k) k x ltr o s1) (h2 : ¬ (T k = 125 ∨ T k = 93 ∨ T k = 41)) : kErr N T n i k ↔ kMis N T (vRun T n) i (vMn (vRun T k)) := by
  obtain ⟨v0, v1, -, -⟩ := vBeg_at (N := N) (i := i) hg hk e
  constructor
  · rintro ⟨v, hv, ⟨e2, hm⟩ | ⟨-, ⟨f, f1, f2, f3⟩, -⟩⟩
    · have : v = vMn (vRun T k) := by
        rcases Int.lt_trichotomy v (vMn (vRun T k)) with c | c | c
        · have := vAt_lt hg hv.1 c v0.2
          omega
        · exact c
        · have := vAt_lt hg v0.1 c hv.2
          omega
      rw [← this]; exact hm
    · have : f = k := by omega
      rw [this] at f3
      exact absurd f3.2.2 h2
  · intro hm
    exact ⟨_, v0, Or.inl ⟨v1, hm⟩⟩
/-- where one closes, the fault is its lack -/
theorem kErr_cl {N : KN} {T : Int → Int} {n k : Nat} {i v : Int} (hg : vGd T n) (hk : k < n) (hc : vCl T v k) (hm : ¬ kMis N T (vRun T n) i v) : kErr N T n i k ↔ kLac N (vRun T n) i v := by
  have hcs := vCl_cs (hg.le (show k + 1 ≤ n by omega)) hc
  have hvn : v < vMn (vRun T n) := by
    have h1 := (vOk_run (T := T) k).2.2.1.2
    have h2 := vMn_le hg (Nat.le_of_lt hk) (Nat.le_refl n)
    have := hc.2.1
    omega
  constructor
  · rintro ⟨u, hu, ⟨e2, -⟩ | ⟨-, ⟨f, f1, f2, f3⟩, hl⟩⟩
    · exfalso
      obtain ⟨a, a1, hb⟩ := vBg_all n hg u hu.1 hu.2
      have ea : a = k := by
        have := hb.1
        omega
      obtain ⟨-, b2, b3, -⟩ := hb
      rw [ea] at b2 b3
      rw [hcs.2] at b3
      have : vMn (vRun T k) = u + 1 := b3
      omega
    · have : f = k := by omega
      rw [this] at f3
      rw [← hc.2.1, f3.2.1]; exact hl
  · intro hl
    exact ⟨v, ⟨hc.1, hvn⟩, Or.inr ⟨hm, ⟨k, hk, rfl, hc⟩, hl⟩⟩

