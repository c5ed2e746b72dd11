/-! fits, plain: the answer; bits -/
set_option maxRecDepth 100000
/-- which node value v must be of -/
def kMs (N : KN) (Q : KVS) (i : Int) : Nat → Int → Int
  | 0, _ => -6
  | g + 1, v => if vUp Q v < 0 then i else if kMs N Q i g (vUp Q v) < 0 ∨ N.2.1 (kMs N Q i g (vUp Q v)) = 46 then -6 else if N.2.1 (kMs N Q i g (vUp Q v)) = 42 then N.2.2 (kMs N Q i g (vUp Q v)) 0 else N.2.2 (kMs N Q i g (vUp Q v)) (vLt Q v)
def kMo (N : KN) (Q : KVS) (i v : Int) : Int := kMs N Q i (v.toNat + 1) v
theorem kMs_st {N : KN} {Q : KVS} {i : Int} (hu : ∀ v, 0 ≤ v → v < vMn Q → vUp Q v < v) : ∀ (g f : Nat) (v : Int), 0 ≤ v → v < vMn Q → v.toNat < g → v.toNat < f → kMs N Q i g v = kMs N Q i f v := by
  intro g
  induction g with
  | zero => intro f v v0 v1 v2; omega
  | succ g ih =>
    intro f v v0 v1 v2 v3
    cases f with
    | zero => omega
    | succ f =>
      have h := hu v v0 v1
      unfold kMs
      by_cases c : vUp Q v < 0
      · rw [if_pos c, if_pos c]
      · rw [if_neg c, if_neg c, ih f (vUp Q v) (by omega) (by omega) (by omega) (by omega)]
theorem kMo_eq {N : KN} {Q : KVS} {i v : Int} (hu : ∀ v, 0 ≤ v → v < vMn Q → vUp Q v < v) (v0 : 0 ≤ v) (v1 : v < vMn Q) : kMo N Q i v = (if vUp Q v < 0 then i else if kMo N Q i (vUp Q v) < 0 ∨ N.2.1 (kMo N Q i (vUp Q v)) = 46 then -6 else if N.2.1 (kMo N Q i (vUp Q v)) = 42 then N.2.2 (kMo N Q i (vUp Q v)) 0 else N.2.2 (kMo N Q i (vUp Q v)) (vLt Q v)) := by
  have h := hu v v0 v1
  show kMs N Q i (v.toNat + 1) v = _
  unfold kMs
  by_cases c : vUp Q v < 0
  · rw [if_pos c, if_pos c]
  · rw [if_neg c, if_neg c, kMs_st hu v.toNat ((vUp Q v).toNat + 1) (vUp Q v) (by omega) (by omega) (by omega) (by omega)]
    rfl
def kIsOf (N : KN) (m c l : Int) : Prop := (N.2.1 m = 110 ∧ 48 ≤ c ∧ c ≤ 57) ∨ (N.2.1 m = 116 ∧ (c = 84 ∨ c = 70)) ∨ (N.2.1 m = 115 ∧ c = 36) ∨ (N.2.1 m = 123 ∧ c = 123) ∨ (N.2.1 m = 91 ∧ c = 91 ∧ N.2.2 m l ≠ -6) ∨ (N.2.1 m = 42 ∧ c = 40)
def kAny (N : KN) (m : Int) : Prop := m < 0 ∨ N.2.1 m = 46
def kMis (N : KN) (T : Int → Int) (Q : KVS) (i v : Int) : Prop := ¬ kAny N (kMo N Q i v) ∧ ¬ kIsOf N (kMo N Q i v) (T (vAt Q v)) (T (vAt Q v + 1) - 97)
def kLac (N : KN) (Q : KVS) (i v : Int) : Prop := 0 ≤ kMo N Q i v ∧ N.2.1 (kMo N Q i v) = 123 ∧ ∃ l, (0 ≤ l ∧ l < 8) ∧ N.2.2 (kMo N Q i v) l ≠ -6 ∧ ¬ vMem Q v l
def kErr (N : KN) (T : Int → Int) (n : Nat) (i z : Int) : Prop := ∃ v, (0 ≤ v ∧ v < vMn (vRun T n)) ∧ ((vAt (vRun T n) v = z ∧ kMis N T (vRun T n) i v) ∨ (¬ kMis N T (vRun T n) i v ∧ (∃ e : Nat, e < n ∧ (e : Int) = z ∧ vCl T v e) ∧ kLac N (vRun T n) i v))
def kFst (E : Int → Prop) (r : Int) : Prop := (∃ z, E z ∧ (∀ y, y < z → ¬ E y) ∧ r = z) ∨ ((∀ y, ¬ E y) ∧ r = -6)
theorem kFst_uniq {E : Int → Prop} {z u : Int} (h1 : kFst E z) (h2 : kFst E u) : z = u := by
  rcases h1 with ⟨a, a1, a2, rfl⟩ | ⟨a1, rfl⟩ <;> rcases h2 with ⟨b, b1, b2, rfl⟩ | ⟨b1, rfl⟩
  · rcases Int.lt_trichotomy z u with c | c | c
    · exact absurd a1 (b2 z c)
    · exact c
    · exact absurd b1 (a2 u c)
  · exact absurd a1 (b1 z)
  · exact absurd b1 (a1 u)
  · rfl
/-- the answer of fits -/
def kFtA (N : KN) (T : Int → Int) (n : Int) (i r : Int) : Prop := (¬ (0 ≤ i ∧ i < N.1) ∧ r = -1) ∨ ((0 ≤ i ∧ i < N.1) ∧ ∃ u, kSlA T n u ∧ ((0 ≤ u ∧ r = -5) ∨ (u < 0 ∧ kFst (kErr N T n.toNat i) r)))
theorem kFtA_uniq {N : KN} {T : Int → Int} {n i z u : Int} (h1 : kFtA N T n i z) (h2 : kFtA N T n i u) : z = u := by
  rcases h1 with ⟨a1, a2⟩ | ⟨a1, a, a2, a3⟩ <;> rcases h2 with ⟨b1, b2⟩ | ⟨b1, b, b2, b3⟩
  · omega
  · exact absurd b1 a1
  · exact absurd a1 b1
  · have e := kSlA_uniq a2 b2
    rcases a3 with ⟨c1, c2⟩ | ⟨c1, c2⟩ <;> rcases b3 with ⟨d1, d2⟩ | ⟨d1, d2⟩
    · omega
    · omega
    · omega
    · exact kFst_uniq c2 d2
/-- bits -/
theorem kBit_all : ∀ x : Fin 256, ∀ j : Fin 8, ∀ k : Fin 8, kAnd (kShr (kOr (x.val : Int) (kShl 1 (j.val : Int))) (k.val : Int)) 1 = (if k = j then 1 else kAnd (kShr (x.val : Int) (k.val : Int)) 1) := by decide +kernel
theorem kBit_r : ∀ x : Fin 256, ∀ j : Fin 8, (0 ≤ kOr (x.val : Int) (kShl 1 (j.val : Int)) ∧ kOr (x.val : Int) (kShl 1 (j.val : Int)) < 256) ∧ kOr (x.val : Int) 0 = (x.val : Int) ∧ (kAnd (kShr (x.val : Int) (j.val : Int)) 1 = 0 ∨ kAnd (kShr (x.val : Int) (j.val : Int)) 1 = 1) := by decide +kernel
def kBs (x : Int) (P : Int → Prop) : Prop := (0 ≤ x ∧ x < 256) ∧ ∀ k, 0 ≤ k → k < 8 → (kAnd (kShr x k) 1 = 0 ∧ ¬ P k) ∨ (kAnd (kShr x k) 1 = 1 ∧ P k)
theorem kFin {n : Nat} {x : Int} (h : 0 ≤ x ∧ x < n) : ∃ f : Fin n, (f.val : Int) = x := ⟨⟨x.toNat, by omega⟩, by show ((x.toNat : Nat) : Int) = x; omega⟩
theorem kBs_or {x j : Int} {P : Int → Prop} (h : kBs x P) (hj : 0 ≤ j ∧ j < 8) : kBs (kOr x (kShl 1 j)) (fun k => P k ∨ k = j) := by
  obtain ⟨X, eX⟩ := kFin (n := 256) h.1
  obtain ⟨J, eJ⟩ := kFin (n := 8) hj
  refine ⟨?_, fun k k0 k1 => ?_⟩
  · have := (kBit_r X J).1
    rw [eX, eJ] at this
    exact this
  · obtain ⟨K, eK⟩ := kFin (n := 8) ⟨k0, k1⟩
    have e := kBit_all X J K
    rw [eX, eJ, eK] at e
    rw [e]
    by_cases c : K = J
    · rw [if_pos c]
      exact Or.inr ⟨rfl, Or.inr (by rw [← eK, ← eJ, c])⟩
    · rw [if_neg c]
      have c' : k ≠ j := by
        intro z
        apply c
        apply Fin.eq_of_val_eq
        omega
      rcases h.2 k k0 k1 with ⟨a, b⟩ | ⟨a, b⟩
      · exact Or.inl ⟨a, fun z => z.elim b c'⟩
      · exact Or.inr ⟨a, Or.inl b⟩
theorem kBs_or0 {x : Int} {P : Int → Prop} (h : kBs x P) : kOr x 0 = x := by
  obtain ⟨X, eX⟩ := kFin (n := 256) h.1
  have := (kBit_r X ⟨0, by decide⟩).2.1
  rw [eX] at this
  exact this
theorem kBs_0 : kBs 0 (fun _ => False) := by
  refine ⟨by omega, fun k k0 k1 => ?_⟩
  obtain ⟨K, eK⟩ := kFin (n := 8) ⟨k0, k1⟩
  have : ∀ K : Fin 8, kAnd (kShr 0 (K.val : Int)) 1 = 0 := by decide +kernel
  have := this K
  rw [eK] at this
  exact Or.inl ⟨this, id⟩
theorem kBs_iff {x : Int} {P R : Int → Prop} (h : kBs x P) (e : ∀ k, 0 ≤ k → k < 8 → (P k ↔ R k)) : kBs x R := ⟨h.1, fun k k0 k1 => by
  rcases h.2 k k0 k1 with ⟨a, b⟩ | ⟨a, b⟩
  · exact Or.inl ⟨a, fun z => b ((e k k0 k1).2 z)⟩
  · exact Or.inr ⟨a, (e k k0 k1).1 b⟩⟩

