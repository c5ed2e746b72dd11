/-! values on a pad, plain: a machine over the signs T; its state, what is open, and where each value begins, lies in, its letter, its last letter -/
set_option maxRecDepth 100000
def fU (f : Int → Int) (k v : Int) : Int → Int := fun j => if j = k then v else f j
theorem fU_eq {f : Int → Int} {k v : Int} : fU f k v k = v := if_pos rfl
theorem fU_ne {f : Int → Int} {k v j : Int} (h : j ≠ k) : fU f k v j = f j := if_neg h
/-- state, open, many, at, up, letter, last -/
abbrev KVS : Type := Int × Int × Int × (Int → Int) × (Int → Int) × (Int → Int) × (Int → Int)
abbrev vSt (q : KVS) : Int := q.1
abbrev vOp (q : KVS) : Int := q.2.1
abbrev vMn (q : KVS) : Int := q.2.2.1
abbrev vAt (q : KVS) : Int → Int := q.2.2.2.1
abbrev vUp (q : KVS) : Int → Int := q.2.2.2.2.1
abbrev vLt (q : KVS) : Int → Int := q.2.2.2.2.2.1
abbrev vLa (q : KVS) : Int → Int := q.2.2.2.2.2.2
def vBeh (T : Int → Int) (o : Int) (at1 : Int → Int) : Int := if o < 0 then 6 else if T (at1 o) = 123 then 2 else if T (at1 o) = 91 then 4 else 5
def vFail (q : KVS) : KVS := (-1, q.2)
def kWh (x : Int) : Prop := (48 ≤ x ∧ x ≤ 57) ∨ x = 84 ∨ x = 70
def kNst (x : Int) : Prop := x = 123 ∨ x = 91 ∨ x = 40
/-- a value begins at k -/
def vBeg (T : Int → Int) (q : KVS) (k x ltr o1 s1 : Int) : KVS := (s1, o1, vMn q + 1, fU (vAt q) (vMn q) k, fU (vUp q) (vMn q) (vOp q), fU (vLt q) (vMn q) ltr, fU (vLa q) (vMn q) (-1))
def vVal (T : Int → Int) (q : KVS) (k x ltr : Int) : KVS :=
  if (48 ≤ x ∧ x ≤ 57) ∨ x = 84 ∨ x = 70 then vBeg T q k x ltr (vOp q) (vBeh T (vOp q) (fU (vAt q) (vMn q) k))
  else if x = 36 then vBeg T q k x ltr (vOp q) 1
  else if x = 91 then vBeg T q k x ltr (vMn q) 3
  else if x = 123 ∨ x = 40 then vBeg T q k x ltr (vMn q) (vBeh T (vMn q) (fU (vAt q) (vMn q) k))
  else vFail q
def vClo (T : Int → Int) (q : KVS) : KVS := (vBeh T (vUp q (vOp q)) (vAt q), vUp q (vOp q), q.2.2)
def vTak (q : KVS) (x : Int) : KVS := (0, vOp q, vMn q, vAt q, vUp q, vLt q, fU (vLa q) (vOp q) (x - 97))
def vStep (T : Int → Int) (q : KVS) (k : Int) : KVS :=
  if vSt q = 0 then vVal T q k (T k) (if 0 ≤ vOp q then vLa q (vOp q) else -1)
  else if vSt q = 1 then (if 97 ≤ T k ∧ T k ≤ 122 then (vBeh T (vOp q) (vAt q), q.2) else vFail q)
  else if vSt q = 2 then (if T k = 125 then vClo T q else if (97 ≤ T k ∧ T k < 105) ∧ vLa q (vOp q) < T k - 97 then vTak q (T k) else vFail q)
  else if vSt q = 3 then (if 97 ≤ T k ∧ T k < 105 then vTak q (T k) else vFail q)
  else if vSt q = 4 then (if T k = 93 then vClo T q else vFail q)
  else if vSt q = 5 then (if T k = 41 then vClo T q else vVal T q k (T k) (-1))
  else vFail q
def vRun (T : Int → Int) : Nat → KVS
  | 0 => (0, -1, 0, fun _ => 0, fun _ => 0, fun _ => 0, fun _ => 0)
  | k + 1 => vStep T (vRun T k) k
theorem vRun_1 {T : Int → Int} {k : Int} (hk : 0 ≤ k) : vRun T (k + 1).toNat = vStep T (vRun T k.toNat) k := by
  rw [show (k + 1).toNat = k.toNat + 1 by omega]
  show vStep T (vRun T k.toNat) ((k.toNat : Nat) : Int) = _
  rw [show ((k.toNat : Nat) : Int) = k by omega]
/-- what holds of the machine's state ahead of sign k -/
def vOk (T : Int → Int) (k : Int) (q : KVS) : Prop := (-1 ≤ vSt q ∧ vSt q ≤ 6) ∧ (0 ≤ vMn q ∧ vMn q ≤ k) ∧ (-1 ≤ vOp q ∧ vOp q < vMn q) ∧
  (∀ v, 0 ≤ v → v < vMn q → (0 ≤ vAt q v ∧ vAt q v < k) ∧ (-1 ≤ vUp q v ∧ vUp q v < v) ∧ (-1 ≤ vLt q v ∧ vLt q v < 8) ∧ (-1 ≤ vLa q v ∧ vLa q v < 8)) ∧
  ((vSt q = 2 → 0 ≤ vOp q ∧ T (vAt q (vOp q)) = 123) ∧ (vSt q = 3 → 0 ≤ vOp q ∧ T (vAt q (vOp q)) = 91) ∧ (vSt q = 4 → 0 ≤ vOp q ∧ T (vAt q (vOp q)) = 91) ∧ (vSt q = 5 → 0 ≤ vOp q ∧ T (vAt q (vOp q)) ≠ 123 ∧ T (vAt q (vOp q)) ≠ 91) ∧ (vSt q = 6 → vOp q = -1))
theorem vBeh_ok (T : Int → Int) (o : Int) (a : Int → Int) : (o < 0 ∧ vBeh T o a = 6) ∨ (0 ≤ o ∧ T (a o) = 123 ∧ vBeh T o a = 2) ∨ (0 ≤ o ∧ T (a o) = 91 ∧ vBeh T o a = 4) ∨ (0 ≤ o ∧ (T (a o) ≠ 123 ∧ T (a o) ≠ 91) ∧ vBeh T o a = 5) := by
  unfold vBeh
  by_cases h : o < 0
  · rw [if_pos h]; exact Or.inl ⟨h, rfl⟩
  · rw [if_neg h]
    by_cases h1 : T (a o) = 123
    · rw [if_pos h1]; exact Or.inr (Or.inl ⟨by omega, h1, rfl⟩)
    · rw [if_neg h1]
      by_cases h2 : T (a o) = 91
      · rw [if_pos h2]; exact Or.inr (Or.inr (Or.inl ⟨by omega, h2, rfl⟩))
      · rw [if_neg h2]; exact Or.inr (Or.inr (Or.inr ⟨by omega, ⟨h1, h2⟩, rfl⟩))
theorem vOk_fail {T : Int → Int} {k : Int} {q : KVS} (h : vOk T k q) : vOk T (k + 1) (vFail q) := by
  obtain ⟨h1, h2, h3, h4, h5⟩ := h
  refine ⟨?_, ?_, h3, fun v v1 v2 => ?_, ?_⟩
  · show -1 ≤ (-1 : Int) ∧ (-1 : Int) ≤ 6
    omega
  · show 0 ≤ vMn q ∧ vMn q ≤ k + 1
    omega
  · obtain ⟨a, b⟩ := h4 v v1 v2
    exact ⟨⟨a.1, by have := a.2; show vAt q v < k + 1; omega⟩, b⟩
  · show ((-1 : Int) = 2 → _) ∧ ((-1 : Int) = 3 → _) ∧ ((-1 : Int) = 4 → _) ∧ ((-1 : Int) = 5 → _) ∧ ((-1 : Int) = 6 → _)
    exact ⟨fun z => by omega, fun z => by omega, fun z => by omega, fun z => by omega, fun z => by omega⟩
theorem vOk_beh {T : Int → Int} {o : Int} {a : Int → Int} {s : Int} (hs : s = vBeh T o a) (ho : -1 ≤ o) : (-1 ≤ s ∧ s ≤ 6) ∧ ((s = 2 → 0 ≤ o ∧ T (a o) = 123) ∧ (s = 3 → 0 ≤ o ∧ T (a o) = 91) ∧ (s = 4 → 0 ≤ o ∧ T (a o) = 91) ∧ (s = 5 → 0 ≤ o ∧ T (a o) ≠ 123 ∧ T (a o) ≠ 91) ∧ (s = 6 → o = -1)) := by
  have := vBeh_ok T o a
  rw [← hs] at this
  rcases this with ⟨u, e⟩ | ⟨u, u2, e⟩ | ⟨u, u2, e⟩ | ⟨u, u2, e⟩
  all_goals refine ⟨by omega, fun z => ?_, fun z => ?_, fun z => ?_, fun z => ?_, fun z => ?_⟩
  all_goals first | omega | (exact ⟨u, u2⟩)
theorem vOk_beg {T : Int → Int} {k x ltr o1 s1 : Int} {q : KVS} (h : vOk T k q) (hl : -1 ≤ ltr ∧ ltr < 8) (ho : o1 = vOp q ∨ o1 = vMn q) (hs : (-1 ≤ s1 ∧ s1 ≤ 6) ∧ ((s1 = 2 → 0 ≤ o1 ∧ T (fU (vAt q) (vMn q) k o1) = 123) ∧ (s1 = 3 → 0 ≤ o1 ∧ T (fU (vAt q) (vMn q) k o1) = 91) ∧ (s1 = 4 → 0 ≤ o1 ∧ T (fU (vAt q) (vMn q) k o1) = 91) ∧ (s1 = 5 → 0 ≤ o1 ∧ T (fU (vAt q) (vMn q) k o1) ≠ 123 ∧ T (fU (vAt q) (vMn q) k o1) ≠ 91) ∧ (s1 = 6 → o1 = -1))) (hk : 0 ≤ k) : vOk T (k + 1) (vBeg T q k x ltr o1 s1) := by
  obtain ⟨h1, h2, h3, h4, h5⟩ := h
  refine ⟨hs.1, ?_, ?_, fun v v1 v2 => ?_, hs.2⟩
  · show 0 ≤ vMn q + 1 ∧ vMn q + 1 ≤ k + 1
    omega
  · show -1 ≤ o1 ∧ o1 < vMn q + 1
    omega
  · have v2 : v < vMn q + 1 := v2
    show (0 ≤ fU (vAt q) (vMn q) k v ∧ fU (vAt q) (vMn q) k v < k + 1) ∧ (-1 ≤ fU (vUp q) (vMn q) (vOp q) v ∧ fU (vUp q) (vMn q) (vOp q) v < v) ∧ (-1 ≤ fU (vLt q) (vMn q) ltr v ∧ fU (vLt q) (vMn q) ltr v < 8) ∧ (-1 ≤ fU (vLa q) (vMn q) (-1) v ∧ fU (vLa q) (vMn q) (-1) v < 8)
    by_cases e : v = vMn q
    · rw [e, fU_eq, fU_eq, fU_eq, fU_eq]
      omega
    · rw [fU_ne e, fU_ne e, fU_ne e, fU_ne e]
      obtain ⟨a, b⟩ := h4 v v1 (by omega)
      exact ⟨⟨a.1, by have := a.2; omega⟩, b⟩
theorem vOk_val {T : Int → Int} {k ltr : Int} {q : KVS} (h : vOk T k q) (hl : -1 ≤ ltr ∧ ltr < 8) (hk : 0 ≤ k) : vOk T (k + 1) (vVal T q k (T k) ltr) := by
  unfold vVal
  split
  · exact vOk_beg h hl (Or.inl rfl) (vOk_beh rfl h.2.2.1.1) hk
  · split
    · exact vOk_beg h hl (Or.inl rfl) ⟨by omega, fun z => by omega, fun z => by omega, fun z => by omega, fun z => by omega, fun z => by omega⟩ hk
    · split
      · rename_i e
        exact vOk_beg h hl (Or.inr rfl) ⟨by omega, fun z => by omega, fun _ => ⟨h.2.1.1, by rw [fU_eq]; exact e⟩, fun z => by omega, fun z => by omega, fun z => by omega⟩ hk
      · split
        · exact vOk_beg h hl (Or.inr rfl) (vOk_beh rfl (by have := h.2.1.1; omega)) hk
        · exact vOk_fail h
theorem vOk_clo {T : Int → Int} {k : Int} {q : KVS} (h : vOk T k q) (ho : 0 ≤ vOp q) : vOk T (k + 1) (vClo T q) := by
  obtain ⟨h1, h2, h3, h4, h5⟩ := h
  obtain ⟨-, b, -, -⟩ := h4 (vOp q) ho h3.2
  have hb := vOk_beh (T := T) (o := vUp q (vOp q)) (a := vAt q) rfl b.1
  refine ⟨hb.1, ?_, ?_, fun v v1 v2 => ?_, hb.2⟩
  · show 0 ≤ vMn q ∧ vMn q ≤ k + 1
    omega
  · show -1 ≤ vUp q (vOp q) ∧ vUp q (vOp q) < vMn q
    omega
  · obtain ⟨a, b⟩ := h4 v v1 v2
    exact ⟨⟨a.1, by have := a.2; show vAt q v < k + 1; omega⟩, b⟩
theorem vOk_tak {T : Int → Int} {k : Int} {q : KVS} (h : vOk T k q) (hx : 97 ≤ T k ∧ T k < 105) : vOk T (k + 1) (vTak q (T k)) := by
  obtain ⟨h1, h2, h3, h4, h5⟩ := h
  refine ⟨?_, ?_, h3, fun v v1 v2 => ?_, ?_⟩
  · show -1 ≤ (0 : Int) ∧ (0 : Int) ≤ 6
    omega
  · show 0 ≤ vMn q ∧ vMn q ≤ k + 1
    omega
  · obtain ⟨a, b, d, e⟩ := h4 v v1 v2
    refine ⟨⟨a.1, by have := a.2; show vAt q v < k + 1; omega⟩, b, d, ?_⟩
    show -1 ≤ fU (vLa q) (vOp q) (T k - 97) v ∧ fU (vLa q) (vOp q) (T k - 97) v < 8
    by_cases z : v = vOp q
    · rw [z, fU_eq]; omega
    · rw [fU_ne z]; exact e
  · show ((0 : Int) = 2 → _) ∧ ((0 : Int) = 3 → _) ∧ ((0 : Int) = 4 → _) ∧ ((0 : Int) = 5 → _) ∧ ((0 : Int) = 6 → _)
    exact ⟨fun z => by omega, fun z => by omega, fun z => by omega, fun z => by omega, fun z => by omega⟩
theorem vOk_step {T : Int → Int} {k : Int} {q : KVS} (h : vOk T k q) (hk : 0 ≤ k) : vOk T (k + 1) (vStep T q k) := by
  unfold vStep
  split
  · refine vOk_val h ?_ hk
    split
    · rename_i z
      exact (h.2.2.2.1 _ z h.2.2.1.2).2.2.2
    · omega
  · split
    · split
      · have hb := vOk_beh (T := T) (o := vOp q) (a := vAt q) rfl h.2.2.1.1
        obtain ⟨h1, h2, h3, h4, h5⟩ := h
        refine ⟨hb.1, ?_, h3, fun v v1 v2 => ?_, hb.2⟩
        · show 0 ≤ vMn q ∧ vMn q ≤ k + 1
          omega
        · obtain ⟨a, b⟩ := h4 v v1 v2
          exact ⟨⟨a.1, by have := a.2; show vAt q v < k + 1; omega⟩, b⟩
      · exact vOk_fail h
    · split
      · rename_i e
        split
        · exact vOk_clo h (h.2.2.2.2.1 e).1
        · split
          · rename_i z
            exact vOk_tak h z.1
          · exact vOk_fail h
      · split
        · split
          · rename_i z
            exact vOk_tak h z
          · exact vOk_fail h
        · split
          · rename_i e
            split
            · exact vOk_clo h (h.2.2.2.2.2.2.1 e).1
            · exact vOk_fail h
          · split
            · rename_i e
              split
              · exact vOk_clo h (h.2.2.2.2.2.2.2.1 e).1
              · exact vOk_val h (by omega) hk
            · exact vOk_fail h
theorem vOk_run {T : Int → Int} : ∀ k : Nat, vOk T k (vRun T k)
  | 0 => by
    refine ⟨?_, ?_, ?_, fun v v1 v2 => ?_, ?_⟩
    · show -1 ≤ (0 : Int) ∧ (0 : Int) ≤ 6
      omega
    · show (0 : Int) ≤ 0 ∧ (0 : Int) ≤ ((0 : Nat) : Int)
      omega
    · show (-1 : Int) ≤ -1 ∧ (-1 : Int) < 0
      omega
    · have : v < (0 : Int) := v2
      omega
    · show ((0 : Int) = 2 → _) ∧ ((0 : Int) = 3 → _) ∧ ((0 : Int) = 4 → _) ∧ ((0 : Int) = 5 → _) ∧ ((0 : Int) = 6 → _)
      exact ⟨fun z => by omega, fun z => by omega, fun z => by omega, fun z => by omega, fun z => by omega⟩
  | k + 1 => by
    have := vOk_step (vOk_run (T := T) k) (by omega)
    exact this
/-- the answer of slip over n signs -/
def kSlA (T : Int → Int) (n z : Int) : Prop := (∃ k, (0 ≤ k ∧ k < n) ∧ (∀ j : Int, 0 ≤ j → j ≤ k → 0 ≤ vSt (vRun T j.toNat)) ∧ vSt (vRun T (k + 1).toNat) < 0 ∧ z = k) ∨ ((∀ j : Int, 0 ≤ j → j ≤ n → 0 ≤ vSt (vRun T j.toNat)) ∧ ((vSt (vRun T n.toNat) = 6 ∧ z = -6) ∨ (vSt (vRun T n.toNat) ≠ 6 ∧ z = n)))
theorem kSlA_uniq {T : Int → Int} {n z u : Int} (h1 : kSlA T n z) (h2 : kSlA T n u) : z = u := by
  rcases h1 with ⟨k, k1, k2, k3, rfl⟩ | ⟨k1, k2⟩ <;> rcases h2 with ⟨j, j1, j2, j3, rfl⟩ | ⟨j1, j2⟩
  · rcases Int.lt_trichotomy z u with r | r | r
    · have := j2 (z + 1) (by omega) (by omega); omega
    · exact r
    · have := k2 (u + 1) (by omega) (by omega); omega
  · have := j1 (z + 1) (by omega) (by omega); omega
  · have := k1 (u + 1) (by omega) (by omega); omega
  · omega

