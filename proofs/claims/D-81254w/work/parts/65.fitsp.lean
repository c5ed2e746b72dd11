/-! values on a pad, plain: depth, chain, closings, members -/
set_option maxRecDepth 100000
def kBr (x : Int) : Int := if x = 123 ∨ x = 91 ∨ x = 40 then 1 else if x = 125 ∨ x = 93 ∨ x = 41 then -1 else 0
def kD (T : Int → Int) : Nat → Int
  | 0 => 0
  | k + 1 => kD T k + kBr (T k)
def kHc (T : Int → Int) : Nat → Int → Int
  | 0 => fun _ => 0
  | k + 1 => if T k = 123 ∨ T k = 91 ∨ T k = 40 then fU (kHc T k) (kD T k) (vMn (vRun T k)) else kHc T k
/-- a value at x, in a fine run -/
def vNew (q : KVS) (x ltr : Int) : Prop := (vSt q = 0 ∧ ltr = (if 0 ≤ vOp q then vLa q (vOp q) else -1)) ∨ (vSt q = 5 ∧ x ≠ 41 ∧ ltr = -1)
def vCase (T : Int → Int) (q : KVS) (k x : Int) (r : KVS) : Prop :=
  (∃ ltr s1, vNew q x ltr ∧ ((((48 ≤ x ∧ x ≤ 57) ∨ x = 84 ∨ x = 70) ∧ s1 = vBeh T (vOp q) (fU (vAt q) (vMn q) k)) ∨ (x = 36 ∧ s1 = 1)) ∧ r = vBeg T q k x ltr (vOp q) s1) ∨
  (∃ ltr s1, vNew q x ltr ∧ ((x = 123 ∧ s1 = 2) ∨ (x = 91 ∧ s1 = 3) ∨ (x = 40 ∧ s1 = 5)) ∧ r = vBeg T q k x ltr (vMn q) s1) ∨
  (((vSt q = 2 ∧ x = 125) ∨ (vSt q = 4 ∧ x = 93) ∨ (vSt q = 5 ∧ x = 41)) ∧ r = vClo T q) ∨
  (((vSt q = 2 ∧ vLa q (vOp q) < x - 97) ∨ vSt q = 3) ∧ (97 ≤ x ∧ x < 105) ∧ r = vTak q x) ∨
  (vSt q = 1 ∧ (97 ≤ x ∧ x ≤ 122) ∧ r = (vBeh T (vOp q) (vAt q), q.2))
theorem vFail_no {q : KVS} (h : 0 ≤ vSt (vFail q)) : False := by
  have : (0 : Int) ≤ -1 := h
  omega
theorem vVal_cases {T : Int → Int} {q : KVS} {k ltr : Int} (hm : 0 ≤ vMn q) (h : 0 ≤ vSt (vVal T q k (T k) ltr)) (hn : vNew q (T k) ltr) : vCase T q k (T k) (vVal T q k (T k) ltr) := by
  obtain ⟨x, ex⟩ : ∃ x, x = T k := ⟨_, rfl⟩
  have hb := vBeh_ok T (vMn q) (fU (vAt q) (vMn q) k)
  rw [fU_eq, ← ex] at hb
  rw [← ex] at h hn ⊢
  unfold vVal at h ⊢
  by_cases c1 : (48 ≤ x ∧ x ≤ 57) ∨ x = 84 ∨ x = 70
  · rw [if_pos c1]
    exact Or.inl ⟨_, _, hn, Or.inl ⟨c1, rfl⟩, rfl⟩
  · rw [if_neg c1] at h ⊢
    by_cases c2 : x = 36
    · rw [if_pos c2]
      exact Or.inl ⟨_, _, hn, Or.inr ⟨c2, rfl⟩, rfl⟩
    · rw [if_neg c2] at h ⊢
      by_cases c3 : x = 91
      · rw [if_pos c3]
        exact Or.inr (Or.inl ⟨_, _, hn, Or.inr (Or.inl ⟨c3, rfl⟩), rfl⟩)
      · rw [if_neg c3] at h ⊢
        by_cases c4 : x = 123 ∨ x = 40
        · rw [if_pos c4]
          refine Or.inr (Or.inl ⟨_, _, hn, ?_, rfl⟩)
          omega
        · rw [if_neg c4] at h
          exact (vFail_no h).elim
theorem vStep_cases {T : Int → Int} {q : KVS} {k : Int} (hm : 0 ≤ vMn q) (h : 0 ≤ vSt (vStep T q k)) : vCase T q k (T k) (vStep T q k) := by
  unfold vStep at h ⊢
  by_cases c0 : vSt q = 0
  · rw [if_pos c0] at h ⊢
    exact vVal_cases hm h (Or.inl ⟨c0, rfl⟩)
  rw [if_neg c0] at h ⊢
  by_cases c1 : vSt q = 1
  · rw [if_pos c1] at h ⊢
    by_cases e : 97 ≤ T k ∧ T k ≤ 122
    · rw [if_pos e]
      exact Or.inr (Or.inr (Or.inr (Or.inr ⟨c1, e, rfl⟩)))
    · rw [if_neg e] at h
      exact (vFail_no h).elim
  rw [if_neg c1] at h ⊢
  by_cases c2 : vSt q = 2
  · rw [if_pos c2] at h ⊢
    by_cases e : T k = 125
    · rw [if_pos e]
      exact Or.inr (Or.inr (Or.inl ⟨Or.inl ⟨c2, e⟩, rfl⟩))
    · rw [if_neg e] at h ⊢
      by_cases e2 : (97 ≤ T k ∧ T k < 105) ∧ vLa q (vOp q) < T k - 97
      · rw [if_pos e2]
        exact Or.inr (Or.inr (Or.inr (Or.inl ⟨Or.inl ⟨c2, e2.2⟩, e2.1, rfl⟩)))
      · rw [if_neg e2] at h
        exact (vFail_no h).elim
  rw [if_neg c2] at h ⊢
  by_cases c3 : vSt q = 3
  · rw [if_pos c3] at h ⊢
    by_cases e : 97 ≤ T k ∧ T k < 105
    · rw [if_pos e]
      exact Or.inr (Or.inr (Or.inr (Or.inl ⟨Or.inr c3, e, rfl⟩)))
    · rw [if_neg e] at h
      exact (vFail_no h).elim
  rw [if_neg c3] at h ⊢
  by_cases c4 : vSt q = 4
  · rw [if_pos c4] at h ⊢
    by_cases e : T k = 93
    · rw [if_pos e]
      exact Or.inr (Or.inr (Or.inl ⟨Or.inr (Or.inl ⟨c4, e⟩), rfl⟩))
    · rw [if_neg e] at h
      exact (vFail_no h).elim
  rw [if_neg c4] at h ⊢
  by_cases c5 : vSt q = 5
  · rw [if_pos c5] at h ⊢
    by_cases e : T k = 41
    · rw [if_pos e]
      exact Or.inr (Or.inr (Or.inl ⟨Or.inr (Or.inr ⟨c5, e⟩), rfl⟩))
    · rw [if_neg e] at h ⊢
      exact vVal_cases hm h (Or.inr ⟨c5, e, rfl⟩)
  rw [if_neg c5] at h
  exact (vFail_no h).elim
/-- the run is fine up to k -/
def vGd (T : Int → Int) (k : Nat) : Prop := ∀ j : Nat, j ≤ k → 0 ≤ vSt (vRun T j)
theorem vGd.le {T : Int → Int} {k j : Nat} (h : vGd T k) (hj : j ≤ k) : vGd T j := fun i hi => h i (Nat.le_trans hi hj)
theorem vGd.cs {T : Int → Int} {k : Nat} (h : vGd T (k + 1)) : vCase T (vRun T k) k (T k) (vRun T (k + 1)) := vStep_cases (vOk_run k).2.1.1 (h (k + 1) (Nat.le_refl _))
def vPl (T : Int → Int) (k : Nat) : Prop := ∃ A B, kPl A B T (vRun T k) (kHc T k) (kD T k)
theorem vPl_all {T : Int → Int} : ∀ k : Nat, vGd T k → vPl T k
  | 0, _ => ⟨fun _ => 0, fun _ => 0, Int.le_refl 0, Or.inl ⟨rfl, rfl⟩, fun i i1 i2 => by have : i < (0 : Int) := i2; omega, fun i j i1 i2 i3 => by have : j < (0 : Int) := i3; omega⟩
  | k + 1, hg => by
    obtain ⟨A, B, h⟩ := vPl_all k (hg.le (Nat.le_succ k))
    have ho := vOk_run (T := T) k
    have hc := hg.cs
    unfold vPl kD kHc
    rcases hc with ⟨ltr, s1, hn, hx, e⟩ | ⟨ltr, s1, hn, hx, e⟩ | ⟨hx, e⟩ | ⟨hx, hx2, e⟩ | ⟨hx, hx2, e⟩
    · rw [e, if_neg (show ¬ (T k = 123 ∨ T k = 91 ∨ T k = 40) by omega)]
      have hb : kBr (T k) = 0 := by
        unfold kBr
        rw [if_neg (show ¬ (T k = 123 ∨ T k = 91 ∨ T k = 40) by omega), if_neg (show ¬ (T k = 125 ∨ T k = 93 ∨ T k = 41) by omega)]
      rw [hb, Int.add_zero]
      exact ⟨A, B, kPl_leaf h ho.2.2.1.2⟩
    · have hz : T k = 123 ∨ T k = 91 ∨ T k = 40 := by omega
      have hb : kBr (T k) = 1 := by
        unfold kBr
        rw [if_pos hz]
      rw [e, if_pos hz, hb]
      exact ⟨_, _, kPl_nest h ho.2.2.1 rfl⟩
    · have hz : T k = 125 ∨ T k = 93 ∨ T k = 41 := by omega
      have hb : kBr (T k) = -1 := by
        unfold kBr
        rw [if_neg (show ¬ (T k = 123 ∨ T k = 91 ∨ T k = 40) by omega), if_pos hz]
      have h0 : 0 ≤ vOp (vRun T k) := by
        rcases hx with x | x | x
        · exact (ho.2.2.2.2.1 x.1).1
        · exact (ho.2.2.2.2.2.2.1 x.1).1
        · exact (ho.2.2.2.2.2.2.2.1 x.1).1
      rw [e, if_neg (show ¬ (T k = 123 ∨ T k = 91 ∨ T k = 40) by omega), hb]
      exact ⟨_, _, kPl_clo h (kPl_top h h0).1⟩
    · have hb : kBr (T k) = 0 := by
        unfold kBr
        rw [if_neg (show ¬ (T k = 123 ∨ T k = 91 ∨ T k = 40) by omega), if_neg (show ¬ (T k = 125 ∨ T k = 93 ∨ T k = 41) by omega)]
      have h0 : 0 ≤ vOp (vRun T k) := by
        rcases hx with x | x
        · exact (ho.2.2.2.2.1 x.1).1
        · exact (ho.2.2.2.2.2.1 x).1
      rw [e, if_neg (show ¬ (T k = 123 ∨ T k = 91 ∨ T k = 40) by omega), hb, Int.add_zero]
      exact ⟨_, _, kPl_tak h (kPl_top h h0).1⟩
    · have hb : kBr (T k) = 0 := by
        unfold kBr
        rw [if_neg (show ¬ (T k = 123 ∨ T k = 91 ∨ T k = 40) by omega), if_neg (show ¬ (T k = 125 ∨ T k = 93 ∨ T k = 41) by omega)]
      rw [e, if_neg (show ¬ (T k = 123 ∨ T k = 91 ∨ T k = 40) by omega), hb, Int.add_zero]
      exact ⟨A, B, h⟩
/-- what is begun stays -/
def vSm (q r : KVS) : Prop := vMn q ≤ vMn r ∧ ∀ v, 0 ≤ v → v < vMn q → vAt r v = vAt q v ∧ vUp r v = vUp q v ∧ vLt r v = vLt q v
theorem vSm.rf {q : KVS} : vSm q q := ⟨Int.le_refl _, fun _ _ _ => ⟨rfl, rfl, rfl⟩⟩
theorem vSm.tr {q r s : KVS} (h : vSm q r) (g : vSm r s) : vSm q s := ⟨Int.le_trans h.1 g.1, fun v v1 v2 => by
  obtain ⟨a, b, c⟩ := h.2 v v1 v2
  obtain ⟨a', b', c'⟩ := g.2 v v1 (Int.lt_of_lt_of_le v2 h.1)
  exact ⟨a'.trans a, b'.trans b, c'.trans c⟩⟩
theorem vSm_beg {T : Int → Int} {q : KVS} {k x ltr o s1 : Int} : vSm q (vBeg T q k x ltr o s1) := ⟨by show vMn q ≤ vMn q + 1; omega, fun v v1 v2 => by
  show fU (vAt q) (vMn q) k v = _ ∧ fU (vUp q) (vMn q) (vOp q) v = _ ∧ fU (vLt q) (vMn q) ltr v = _
  have e : v ≠ vMn q := by omega
  rw [fU_ne e, fU_ne e, fU_ne e]
  exact ⟨rfl, rfl, rfl⟩⟩
theorem vSm_1 {T : Int → Int} {k : Nat} (h : vGd T (k + 1)) : vSm (vRun T k) (vRun T (k + 1)) := by
  rcases h.cs with ⟨ltr, s1, hn, hx, e⟩ | ⟨ltr, s1, hn, hx, e⟩ | ⟨hx, e⟩ | ⟨hx, hx2, e⟩ | ⟨hx, hx2, e⟩
  · rw [e]; exact vSm_beg
  · rw [e]; exact vSm_beg
  · rw [e]; exact vSm.rf
  · rw [e]; exact vSm.rf
  · rw [e]; exact vSm.rf
theorem vSm_le {T : Int → Int} {k : Nat} : ∀ j : Nat, vGd T (k + j) → vSm (vRun T k) (vRun T (k + j))
  | 0, _ => vSm.rf
  | j + 1, h => (vSm_le j (h.le (Nat.le_succ _))).tr (vSm_1 h)

