/-! values on a pad, plain: where each began, where each ends, its members -/
set_option maxRecDepth 100000
/-- v began at a -/
def vBg (T : Int → Int) (q : KVS) (v : Int) (a : Nat) : Prop := vAt q v = a ∧ vMn (vRun T a) = v ∧ vMn (vRun T (a + 1)) = v + 1 ∧ vUp q v = vOp (vRun T a) ∧ vNew (vRun T a) (T a) (vLt q v) ∧ (((48 ≤ T a ∧ T a ≤ 57) ∨ T a = 84 ∨ T a = 70) ∨ T a = 36 ∨ T a = 123 ∨ T a = 91 ∨ T a = 40) ∧ ((T a = 123 ∨ T a = 91 ∨ T a = 40) → vOp (vRun T (a + 1)) = v)
theorem vBg_beg {T : Int → Int} {k : Nat} {ltr o s1 : Int} (e : vRun T (k + 1) = vBeg T (vRun T k) k (T k) ltr o s1) (hn : vNew (vRun T k) (T k) ltr) (hs : ((48 ≤ T k ∧ T k ≤ 57) ∨ T k = 84 ∨ T k = 70) ∨ T k = 36 ∨ T k = 123 ∨ T k = 91 ∨ T k = 40) (ho : (T k = 123 ∨ T k = 91 ∨ T k = 40) → o = vMn (vRun T k)) : vBg T (vRun T (k + 1)) (vMn (vRun T k)) k := by
  refine ⟨?_, rfl, ?_, ?_, ?_, hs, ?_⟩
  · rw [e]; exact fU_eq
  · rw [e]; rfl
  · rw [e]; exact fU_eq
  · rw [e, show vLt (vBeg T (vRun T k) k (T k) ltr o s1) = fU (vLt (vRun T k)) (vMn (vRun T k)) ltr from rfl, fU_eq]; exact hn
  · rw [e]; exact ho
theorem vBg_sm {T : Int → Int} {q r : KVS} {v : Int} {a : Nat} (h : vBg T q v a) (hs : vSm q r) (h0 : 0 ≤ v) (h1 : v < vMn q) : vBg T r v a := by
  obtain ⟨a1, a2, a3, a4, a5, a6⟩ := h
  obtain ⟨b1, b2, b3⟩ := hs.2 v h0 h1
  exact ⟨b1.trans a1, a2, a3, b2.trans a4, b3.symm ▸ a5, a6⟩
theorem vBg_all {T : Int → Int} : ∀ k : Nat, vGd T k → ∀ v, 0 ≤ v → v < vMn (vRun T k) → ∃ a : Nat, a < k ∧ vBg T (vRun T k) v a
  | 0, _, v, v0, v1 => by
    have : v < (0 : Int) := v1
    omega
  | k + 1, hg, v, v0, v1 => by
    have ih := vBg_all k (hg.le (Nat.le_succ k)) v v0
    have hs := vSm_1 hg
    have hc := hg.cs
    by_cases old : v < vMn (vRun T k)
    · obtain ⟨a, h1, h2⟩ := ih old
      exact ⟨a, by omega, vBg_sm h2 hs v0 old⟩
    · refine ⟨k, by omega, ?_⟩
      rcases hc with ⟨ltr, s1, hn, hx, e⟩ | ⟨ltr, s1, hn, hx, e⟩ | ⟨hx, e⟩ | ⟨hx, hx2, e⟩ | ⟨hx, hx2, e⟩
      · have z : vMn (vRun T (k + 1)) = vMn (vRun T k) + 1 := by rw [e]; rfl
        have := vBg_beg e hn (by omega) (by omega)
        rw [show v = vMn (vRun T k) by omega]
        exact this
      · have z : vMn (vRun T (k + 1)) = vMn (vRun T k) + 1 := by rw [e]; rfl
        have := vBg_beg e hn (by omega) (fun _ => rfl)
        rw [show v = vMn (vRun T k) by omega]
        exact this
      · have z : vMn (vRun T (k + 1)) = vMn (vRun T k) := by rw [e]; rfl
        omega
      · have z : vMn (vRun T (k + 1)) = vMn (vRun T k) := by rw [e]; rfl
        omega
      · have z : vMn (vRun T (k + 1)) = vMn (vRun T k) := by rw [e]
        omega
theorem vMn_le {T : Int → Int} {n a b : Nat} (hg : vGd T n) (hab : a ≤ b) (hb : b ≤ n) : vMn (vRun T a) ≤ vMn (vRun T b) := by
  have := vSm_le (T := T) (k := a) (b - a) (by rw [show a + (b - a) = b by omega]; exact hg.le hb)
  rw [show a + (b - a) = b by omega] at this
  exact this.1
theorem vSm_ab {T : Int → Int} {n a b : Nat} (hg : vGd T n) (hab : a ≤ b) (hb : b ≤ n) : vSm (vRun T a) (vRun T b) := by
  have := vSm_le (T := T) (k := a) (b - a) (by rw [show a + (b - a) = b by omega]; exact hg.le hb)
  rw [show a + (b - a) = b by omega] at this
  exact this
/-- later values begin later -/
theorem vAt_lt {T : Int → Int} {n : Nat} (hg : vGd T n) {u v : Int} (h0 : 0 ≤ u) (h1 : u < v) (h2 : v < vMn (vRun T n)) : vAt (vRun T n) u < vAt (vRun T n) v := by
  obtain ⟨a, a1, a2, a3, a4, -⟩ := vBg_all n hg u h0 (by omega)
  obtain ⟨b, b1, b2, b3, b4, -⟩ := vBg_all n hg v (by omega) h2
  rw [a2, b2]
  by_cases c : a < b
  · omega
  · have := vMn_le hg (show b ≤ a by omega) (by omega)
    omega
/-- at k the open value v is closed -/
def vCl (T : Int → Int) (v : Int) (k : Nat) : Prop := 0 ≤ v ∧ vOp (vRun T k) = v ∧ (T k = 125 ∨ T k = 93 ∨ T k = 41)
theorem vCl_cs {T : Int → Int} {k : Nat} {v : Int} (hg : vGd T (k + 1)) (h : vCl T v k) : ((vSt (vRun T k) = 2 ∧ T k = 125) ∨ (vSt (vRun T k) = 4 ∧ T k = 93) ∨ (vSt (vRun T k) = 5 ∧ T k = 41)) ∧ vRun T (k + 1) = vClo T (vRun T k) := by
  obtain ⟨-, -, hx⟩ := h
  rcases hg.cs with ⟨ltr, s1, hn, hx2, e⟩ | ⟨ltr, s1, hn, hx2, e⟩ | ⟨hx2, e⟩ | ⟨hx3, hx2, e⟩ | ⟨hx3, hx2, e⟩
  · omega
  · omega
  · exact ⟨hx2, e⟩
  · omega
  · omega
/-- v is not open at k -/
def vNo (T : Int → Int) (v : Int) (k : Nat) : Prop := v < vMn (vRun T k) ∧ ∀ t, 0 ≤ t → t < kD T k → kHc T k t ≠ v
theorem kD_o {T : Int → Int} {k : Nat} (h : T k = 123 ∨ T k = 91 ∨ T k = 40) : kD T (k + 1) = kD T k + 1 := by
  show kD T k + kBr (T k) = _
  unfold kBr
  rw [if_pos h]
theorem kD_c {T : Int → Int} {k : Nat} (h : T k = 125 ∨ T k = 93 ∨ T k = 41) : kD T (k + 1) = kD T k - 1 := by
  show kD T k + kBr (T k) = _
  unfold kBr
  rw [if_neg (by omega), if_pos h]
  omega
theorem kD_z {T : Int → Int} {k : Nat} (h : ¬ (T k = 123 ∨ T k = 91 ∨ T k = 40)) (h2 : ¬ (T k = 125 ∨ T k = 93 ∨ T k = 41)) : kD T (k + 1) = kD T k := by
  show kD T k + kBr (T k) = _
  unfold kBr
  rw [if_neg h, if_neg h2]
  omega
theorem kHc_o {T : Int → Int} {k : Nat} (h : T k = 123 ∨ T k = 91 ∨ T k = 40) : kHc T (k + 1) = fU (kHc T k) (kD T k) (vMn (vRun T k)) := if_pos h
theorem kHc_z {T : Int → Int} {k : Nat} (h : ¬ (T k = 123 ∨ T k = 91 ∨ T k = 40)) : kHc T (k + 1) = kHc T k := if_neg h
theorem vPl_op {T : Int → Int} {k : Nat} (h : vPl T k) : 0 ≤ kD T k ∧ ((kD T k = 0 ∧ vOp (vRun T k) = -1) ∨ (0 < kD T k ∧ vOp (vRun T k) = kHc T k (kD T k - 1))) := by
  obtain ⟨A, B, a, b, -, -⟩ := h
  exact ⟨a, b⟩
theorem vNo_cl {T : Int → Int} {k : Nat} {v : Int} (hg : vGd T (k + 1)) (h : vCl T v k) : vNo T v (k + 1) := by
  obtain ⟨-, e⟩ := vCl_cs hg h
  obtain ⟨h0, h1, h2⟩ := h
  have ho := vOk_run (T := T) k
  have hp := vPl_all k (hg.le (Nat.le_succ k))
  have hop := vPl_op hp
  obtain ⟨A, B, -, -, -, d⟩ := hp
  refine ⟨?_, fun t t0 t1 => ?_⟩
  · rw [e]
    have := ho.2.2.1.2
    show v < vMn (vRun T k)
    omega
  · rw [kD_c h2] at t1
    rw [kHc_z (by omega)]
    have := d t (kD T k - 1) t0 (by omega) (by omega)
    omega
theorem vNo_1 {T : Int → Int} {k : Nat} {v : Int} (hg : vGd T (k + 1)) (h : vNo T v k) : vNo T v (k + 1) := by
  obtain ⟨h1, h2⟩ := h
  have hm := (vSm_1 hg).1
  refine ⟨by omega, fun t t0 t1 => ?_⟩
  by_cases c : T k = 123 ∨ T k = 91 ∨ T k = 40
  · rw [kD_o c] at t1
    rw [kHc_o c]
    by_cases e : t = kD T k
    · rw [e, fU_eq]; omega
    · rw [fU_ne e]; exact h2 t t0 (by omega)
  · rw [kHc_z c]
    by_cases c2 : T k = 125 ∨ T k = 93 ∨ T k = 41
    · rw [kD_c c2] at t1
      exact h2 t t0 (by omega)
    · rw [kD_z c c2] at t1
      exact h2 t t0 t1
theorem vNo_le {T : Int → Int} {k : Nat} {v : Int} (h : vNo T v k) : ∀ j : Nat, vGd T (k + j) → vNo T v (k + j)
  | 0, _ => h
  | j + 1, hg => vNo_1 hg (vNo_le h j (hg.le (Nat.le_succ _)))
theorem vNo_op {T : Int → Int} {k : Nat} {v : Int} (hg : vGd T k) (h : vNo T v k) (h0 : 0 ≤ v) : vOp (vRun T k) ≠ v := by
  obtain ⟨a, b⟩ := vPl_op (vPl_all k hg)
  rcases b with b | b
  · omega
  · rw [b.2]
    exact h.2 _ (by omega) (by omega)
theorem vCl_op {T : Int → Int} {k j n : Nat} {v : Int} (hg : vGd T n) (h : vCl T v k) (hj : k < j) (hn : j ≤ n) : vOp (vRun T j) ≠ v := by
  have := vNo_le (vNo_cl (hg.le (by omega)) h) (j - (k + 1)) (hg.le (by omega))
  rw [show k + 1 + (j - (k + 1)) = j by omega] at this
  exact vNo_op (hg.le hn) this h.1
theorem vCl_uniq {T : Int → Int} {n k j : Nat} {v : Int} (hg : vGd T n) (h1 : vCl T v k) (h2 : vCl T v j) (hk : k < n) (hj : j < n) : k = j := by
  rcases Nat.lt_trichotomy k j with c | c | c
  · exact absurd h2.2.1 (vCl_op hg h1 c (by omega))
  · exact c
  · exact absurd h1.2.1 (vCl_op hg h2 c (by omega))
/-- u has a member by letter l -/
def vMem (q : KVS) (u l : Int) : Prop := ∃ c, (0 ≤ c ∧ c < vMn q) ∧ vUp q c = u ∧ vLt q c = l
theorem vMem_cl {T : Int → Int} {n k : Nat} {u l : Int} (hg : vGd T n) (h : vCl T u k) (hk : k < n) : vMem (vRun T n) u l ↔ vMem (vRun T k) u l := by
  have hs := vSm_ab hg (Nat.le_of_lt hk) (Nat.le_refl n)
  constructor
  · rintro ⟨c, hc, e1, e2⟩
    by_cases o : c < vMn (vRun T k)
    · obtain ⟨-, b2, b3⟩ := hs.2 c hc.1 o
      exact ⟨c, ⟨hc.1, o⟩, by rw [← b2]; exact e1, by rw [← b3]; exact e2⟩
    · exfalso
      obtain ⟨a, a1, a2, a3, a4, a5, a6, a7, -⟩ := vBg_all n hg c hc.1 hc.2
      rcases Nat.lt_trichotomy a k with x | x | x
      · have := vMn_le hg (show a + 1 ≤ k by omega) (Nat.le_of_lt hk)
        omega
      · have := h.2.2
        rw [x] at a7
        omega
      · exact vCl_op hg h x (by omega) (a5.symm.trans e1)
  · rintro ⟨c, hc, e1, e2⟩
    obtain ⟨-, b2, b3⟩ := hs.2 c hc.1 hc.2
    exact ⟨c, ⟨hc.1, by have := hs.1; omega⟩, by rw [b2]; exact e1, by rw [b3]; exact e2⟩
/-- the chain stays below its depth -/
theorem kHc_st {T : Int → Int} {a : Nat} {d : Int} : ∀ j : Nat, (∀ i : Nat, a < i → i ≤ a + j → d < kD T i) → d < kD T a → kHc T (a + j) d = kHc T a d
  | 0, _, _ => rfl
  | j + 1, h, h0 => by
    have ih := kHc_st j (fun i i1 i2 => h i i1 (by omega)) h0
    have hd : d < kD T (a + j) := by
      by_cases z : j = 0
      · rw [z]; exact h0
      · exact h (a + j) (by omega) (by omega)
    rw [← ih, show a + (j + 1) = a + j + 1 by omega]
    by_cases c : T ((a + j : Nat) : Int) = 123 ∨ T ((a + j : Nat) : Int) = 91 ∨ T ((a + j : Nat) : Int) = 40
    · rw [kHc_o c, fU_ne (by omega)]
    · rw [kHc_z c]
/-- the end of a value that opened: where the depth first is back -/
theorem vEnd {T : Int → Int} {n a e : Nat} {v : Int} (hg : vGd T n) (hv : 0 ≤ v) (hb : vBg T (vRun T n) v a) (ha : a < n) (hT : T a = 123 ∨ T a = 91 ∨ T a = 40) (h1 : a ≤ e) (h2 : e < n) (h3 : kD T (e + 1) ≤ kD T a) (h4 : ∀ j : Nat, a ≤ j → j < e → kD T a < kD T (j + 1)) : vCl T v e := by
  have hd := kD_o hT
  have hne : a ≠ e := by
    intro z
    rw [← z, hd] at h3
    omega
  have hc := kHc_o hT
  have hst := kHc_st (T := T) (a := a + 1) (d := kD T a) (e - (a + 1)) (fun i i1 i2 => by
    have := h4 (i - 1) (by omega) (by omega)
    rw [show i - 1 + 1 = i by omega] at this
    exact this) (by omega)
  rw [show a + 1 + (e - (a + 1)) = e by omega, hc, fU_eq, hb.2.1] at hst
  have h5 := h4 (e - 1) (by omega) (by omega)
  rw [show e - 1 + 1 = e by omega] at h5
  have hcl : T e = 125 ∨ T e = 93 ∨ T e = 41 := by
    by_cases c : T e = 123 ∨ T e = 91 ∨ T e = 40
    · rw [kD_o c] at h3; omega
    · by_cases c2 : T e = 125 ∨ T e = 93 ∨ T e = 41
      · exact c2
      · rw [kD_z c c2] at h3; omega
  rw [kD_c hcl] at h3
  refine ⟨hv, ?_, hcl⟩
  obtain ⟨p1, p2⟩ := vPl_op (vPl_all e (hg.le (by omega)))
  have h6 : 0 ≤ kD T a := (vPl_op (vPl_all a (hg.le (by omega)))).1
  rcases p2 with p2 | p2
  · omega
  · rw [p2.2, show kD T e - 1 = kD T a by omega]
    exact hst
/-- lists' letters -/
def vLi (T : Int → Int) (k : Nat) (q : KVS) : Prop := (vSt q = 3 → vAt q (vOp q) + 1 = k) ∧ ∀ v, 0 ≤ v → v < vMn q → T (vAt q v) = 91 → (vSt q = 3 ∧ v = vOp q) ∨ (vLa q v = T (vAt q v + 1) - 97 ∧ 97 ≤ T (vAt q v + 1) ∧ T (vAt q v + 1) < 105)
theorem vLi_all {T : Int → Int} : ∀ k : Nat, vGd T k → vLi T k (vRun T k)
  | 0, _ => ⟨fun e => by have : (0 : Int) = 3 := e; omega, fun v v0 v1 => by have : v < (0 : Int) := v1; omega⟩
  | k + 1, hg => by
    obtain ⟨i1, i2⟩ := vLi_all k (hg.le (Nat.le_succ k))
    have ho := vOk_run (T := T) k
    rcases hg.cs with ⟨ltr, s1, hn, hx, e⟩ | ⟨ltr, s1, hn, hx, e⟩ | ⟨hx, e⟩ | ⟨hx3, hx2, e⟩ | ⟨hx3, hx2, e⟩
    · have hb := vBeh_ok T (vOp (vRun T k)) (fU (vAt (vRun T k)) (vMn (vRun T k)) k)
      have hst : s1 ≠ 3 := by
        rcases hx with hx | hx
        · rw [← hx.2] at hb
          omega
        · omega
      have hs3 : vSt (vRun T k) ≠ 3 := by
        rcases hn with z | z <;> omega
      rw [e]
      refine ⟨fun z => absurd z hst, fun v v0 v1 vT => Or.inr ?_⟩
      have vT : T (fU (vAt (vRun T k)) (vMn (vRun T k)) k v) = 91 := vT
      have v1 : v < vMn (vRun T k) + 1 := v1
      show fU (vLa (vRun T k)) (vMn (vRun T k)) (-1) v = T (fU (vAt (vRun T k)) (vMn (vRun T k)) k v + 1) - 97 ∧ 97 ≤ T (fU (vAt (vRun T k)) (vMn (vRun T k)) k v + 1) ∧ T (fU (vAt (vRun T k)) (vMn (vRun T k)) k v + 1) < 105
      by_cases z : v = vMn (vRun T k)
      · rw [z, fU_eq] at vT
        omega
      · rw [fU_ne z] at vT ⊢
        rw [fU_ne z]
        rcases i2 v v0 (by omega) vT with r | r
        · exact absurd r.1 hs3
        · exact r
    · have hs3 : vSt (vRun T k) ≠ 3 := by
        rcases hn with z | z <;> omega
      rw [e]
      refine ⟨fun z => ?_, fun v v0 v1 vT => ?_⟩
      · show fU (vAt (vRun T k)) (vMn (vRun T k)) k (vMn (vRun T k)) + 1 = _
        rw [fU_eq]
        omega
      · have vT : T (fU (vAt (vRun T k)) (vMn (vRun T k)) k v) = 91 := vT
        have v1 : v < vMn (vRun T k) + 1 := v1
        show (s1 = 3 ∧ v = vMn (vRun T k)) ∨ (fU (vLa (vRun T k)) (vMn (vRun T k)) (-1) v = T (fU (vAt (vRun T k)) (vMn (vRun T k)) k v + 1) - 97 ∧ 97 ≤ T (fU (vAt (vRun T k)) (vMn (vRun T k)) k v + 1) ∧ T (fU (vAt (vRun T k)) (vMn (vRun T k)) k v + 1) < 105)
        by_cases z : v = vMn (vRun T k)
        · rw [z, fU_eq] at vT
          exact Or.inl ⟨by omega, z⟩
        · rw [fU_ne z] at vT ⊢
          rw [fU_ne z]
          rcases i2 v v0 (by omega) vT with r | r
          · exact absurd r.1 hs3
          · exact Or.inr r
    · have hb := vBeh_ok T (vUp (vRun T k) (vOp (vRun T k))) (vAt (vRun T k))
      have hst : vBeh T (vUp (vRun T k) (vOp (vRun T k))) (vAt (vRun T k)) ≠ 3 := by omega
      have hs3 : vSt (vRun T k) ≠ 3 := by omega
      rw [e]
      refine ⟨fun z => absurd z hst, fun v v0 v1 vT => Or.inr ?_⟩
      rcases i2 v v0 v1 vT with r | r
      · exact absurd r.1 hs3
      · exact r
    · rw [e]
      have hst : vSt (vTak (vRun T k) (T k)) = 0 := rfl
      refine ⟨fun z => by omega, fun v v0 v1 vT => Or.inr ?_⟩
      show fU (vLa (vRun T k)) (vOp (vRun T k)) (T k - 97) v = T (vAt (vRun T k) v + 1) - 97 ∧ 97 ≤ T (vAt (vRun T k) v + 1) ∧ T (vAt (vRun T k) v + 1) < 105
      have vT : T (vAt (vRun T k) v) = 91 := vT
      by_cases z : v = vOp (vRun T k)
      · rw [z] at vT ⊢
        rw [fU_eq]
        by_cases s3 : vSt (vRun T k) = 3
        · rw [i1 s3]
          exact ⟨rfl, hx2⟩
        · have := (ho.2.2.2.2.1 (by omega)).2
          omega
      · rw [fU_ne z]
        rcases i2 v v0 v1 vT with r | r
        · exact absurd r.2 z
        · exact r
    · have hb := vBeh_ok T (vOp (vRun T k)) (vAt (vRun T k))
      have hst : vBeh T (vOp (vRun T k)) (vAt (vRun T k)) ≠ 3 := by omega
      have hs3 : vSt (vRun T k) ≠ 3 := by omega
      rw [e]
      refine ⟨fun z => absurd z hst, fun v v0 v1 vT => Or.inr ?_⟩
      rcases i2 v v0 v1 vT with r | r
      · exact absurd r.1 hs3
      · exact r

