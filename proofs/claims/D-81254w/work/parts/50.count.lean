/-! counts by sizes, plain: held at a thousand million -/
set_option maxRecDepth 100000
/-- the sum over u = 1 .. n of T(u, q) times S(s - u), held -/
def kCvo (T : Int → Int → Int) (q : Int) (S : Int → Int) (s : Int) : Nat → Int
  | 0 => 0
  | n + 1 => min 1000000000 (kCvo T q S s n + T ((n : Int) + 1) q * S (s - ((n : Int) + 1)))
theorem kCvo_1 {T : Int → Int → Int} {q : Int} {S : Int → Int} {s u : Int} (hu : 1 ≤ u) : kCvo T q S s u.toNat = min 1000000000 (kCvo T q S s (u - 1).toNat + T u q * S (s - u)) := by
  rw [show u.toNat = (u - 1).toNat + 1 by omega]
  show min 1000000000 (kCvo T q S s (u - 1).toNat + T (((u - 1).toNat : Int) + 1) q * S (s - (((u - 1).toNat : Int) + 1))) = _
  rw [show (((u - 1).toNat : Int) + 1) = u by omega]
theorem kCvo_congr {T T' : Int → Int → Int} {q : Int} {S S' : Int → Int} {s : Int} : ∀ n : Nat, (∀ u : Int, 1 ≤ u → u ≤ n → T u q = T' u q ∧ S (s - u) = S' (s - u)) → kCvo T q S s n = kCvo T' q S' s n
  | 0, _ => rfl
  | n + 1, h => by
    have ih := kCvo_congr n (fun u h1 h2 => h u h1 (by omega))
    obtain ⟨a, b⟩ := h ((n : Int) + 1) (by omega) (by omega)
    unfold kCvo
    rw [ih, a, b]
def kHd (x : Int) : Prop := 0 ≤ x ∧ x ≤ 1000000000
theorem kMul_b {a b : Int} (ha : kHd a) (hb : kHd b) : 0 ≤ a * b ∧ a * b ≤ 1000000000000000000 := by
  refine ⟨Int.mul_nonneg ha.1 hb.1, ?_⟩
  have := Int.mul_le_mul ha.2 hb.2 hb.1 (by omega)
  omega
theorem kCvo_b {T : Int → Int → Int} {q : Int} {S : Int → Int} {s : Int} : ∀ n : Nat, (∀ u : Int, 1 ≤ u → u ≤ n → kHd (T u q) ∧ kHd (S (s - u))) → kHd (kCvo T q S s n)
  | 0, _ => by unfold kHd kCvo; omega
  | n + 1, h => by
    have ih := kCvo_b n (fun u h1 h2 => h u h1 (by omega))
    obtain ⟨a, b⟩ := h ((n : Int) + 1) (by omega) (by omega)
    have := kMul_b a b
    unfold kCvo
    unfold kHd at ih ⊢
    omega
/-- rows of values of one part -/
def kLt (T : Int → Int → Int) (q : Int) : Nat → Int → Int
  | 0 => fun s => if s = 0 then 1 else 0
  | m + 1 => fun s => if s = (m : Int) + 1 then kCvo T q (kLt T q m) s (m + 1) else kLt T q m s
def kLf (T : Int → Int → Int) (q s : Int) : Int := kLt T q s.toNat s
theorem kLt_lf {T : Int → Int → Int} {q : Int} : ∀ (m : Nat) (x : Int), 0 ≤ x → x ≤ m → kLt T q m x = kLf T q x
  | 0, x, h1, h2 => by
    have : x = 0 := by omega
    subst this
    rfl
  | m + 1, x, h1, h2 => by
    by_cases e : x = (m : Int) + 1
    · unfold kLf
      rw [show x.toNat = m + 1 by omega]
    · have ih := kLt_lf (T := T) (q := q) m x h1 (by omega)
      rw [← ih]
      show (if x = (m : Int) + 1 then _ else kLt T q m x) = _
      rw [if_neg e]
theorem kLf_0 {T : Int → Int → Int} {q : Int} : kLf T q 0 = 1 := rfl
theorem kLf_1 {T : Int → Int → Int} {q s : Int} (hs : 1 ≤ s) : kLf T q s = kCvo T q (kLf T q) s s.toNat := by
  unfold kLf
  rw [show s.toNat = (s - 1).toNat + 1 by omega]
  show (if s = (((s - 1).toNat : Nat) : Int) + 1 then kCvo T q (kLt T q (s - 1).toNat) s ((s - 1).toNat + 1) else _) = _
  rw [if_pos (by omega)]
  refine kCvo_congr _ (fun u h1 h2 => ⟨rfl, ?_⟩)
  exact kLt_lf _ _ (by omega) (by omega)
theorem kLf_b {T : Int → Int → Int} {q : Int} : ∀ (n : Nat) (s : Int), 0 ≤ s → s ≤ n → (∀ u : Int, 1 ≤ u → u ≤ s → kHd (T u q)) → kHd (kLf T q s)
  | 0, s, h1, h2, _ => by
    have : s = 0 := by omega
    subst this
    rw [kLf_0]; unfold kHd; omega
  | n + 1, s, h1, h2, hT => by
    by_cases e : s = 0
    · subst e
      rw [kLf_0]; unfold kHd; omega
    · rw [kLf_1 (by omega)]
      exact kCvo_b _ (fun u u1 u2 => ⟨hT u u1 (by omega), kLf_b n (s - u) (by omega) (by omega) (fun v v1 v2 => hT v v1 (by omega))⟩)
theorem kLf_congr {T T' : Int → Int → Int} {q : Int} : ∀ (n : Nat) (s : Int), 0 ≤ s → s ≤ n → (∀ u : Int, 1 ≤ u → u ≤ s → T u q = T' u q) → kLf T q s = kLf T' q s
  | 0, s, h1, h2, _ => by
    have : s = 0 := by omega
    subst this
    rfl
  | n + 1, s, h1, h2, hT => by
    by_cases e : s = 0
    · subst e
      rfl
    · rw [kLf_1 (by omega), kLf_1 (by omega)]
      exact kCvo_congr _ (fun u u1 u2 => ⟨hT u u1 (by omega), kLf_congr n (s - u) (by omega) (by omega) (fun v v1 v2 => hT v v1 (by omega))⟩)
/-- records' values behind the letters below l -/
def kRt2 (N : KN) (T : Int → Int → Int) (i : Int) : Nat → Int → Int
  | 0 => fun s => if s = 0 then 1 else 0
  | l + 1 => fun s => if N.2.2 i l = -6 then kRt2 N T i l s else kCvo T (N.2.2 i l) (kRt2 N T i l) s s.toNat
theorem kRt2_1 {N : KN} {T : Int → Int → Int} {i l s : Int} (hl : 0 ≤ l) : kRt2 N T i (l + 1).toNat s = if N.2.2 i l = -6 then kRt2 N T i l.toNat s else kCvo T (N.2.2 i l) (kRt2 N T i l.toNat) s s.toNat := by
  rw [show (l + 1).toNat = l.toNat + 1 by omega]
  show (if N.2.2 i (l.toNat : Int) = -6 then kRt2 N T i l.toNat s else kCvo T (N.2.2 i (l.toNat : Int)) (kRt2 N T i l.toNat) s s.toNat) = _
  rw [show ((l.toNat : Nat) : Int) = l by omega]
theorem kRt2_b {N : KN} (hN : kWF N) {T : Int → Int → Int} {i : Int} (hi : kRn N i) {m : Int} (hT : ∀ u j : Int, 1 ≤ u → u ≤ m → kRn N j → kHd (T u j)) : ∀ (l : Nat) (s : Int), l ≤ 8 → 0 ≤ s → s ≤ m → kHd (kRt2 N T i l s)
  | 0, s, _, _, _ => by
    show kHd (if s = 0 then 1 else 0)
    unfold kHd
    split <;> omega
  | l + 1, s, hl, h1, h2 => by
    show kHd (if N.2.2 i l = -6 then kRt2 N T i l s else kCvo T (N.2.2 i l) (kRt2 N T i l) s s.toNat)
    split
    · exact kRt2_b hN hi hT l s (by omega) h1 h2
    · rename_i q
      have := hN.2.2.1 i l hi.1 hi.2 (by omega) (by omega)
      exact kCvo_b _ (fun u u1 u2 => ⟨hT u _ u1 (by omega) (by unfold kRn; omega), kRt2_b hN hi hT l (s - u) (by omega) (by omega) (by omega)⟩)
theorem kRt2_congr {N : KN} (hN : kWF N) {T T' : Int → Int → Int} {i : Int} (hi : kRn N i) {m : Int} (hT : ∀ u j : Int, 1 ≤ u → u ≤ m → kRn N j → T u j = T' u j) : ∀ (l : Nat) (s : Int), l ≤ 8 → 0 ≤ s → s ≤ m → kRt2 N T i l s = kRt2 N T' i l s
  | 0, s, _, _, _ => rfl
  | l + 1, s, hl, h1, h2 => by
    show (if N.2.2 i l = -6 then kRt2 N T i l s else kCvo T (N.2.2 i l) (kRt2 N T i l) s s.toNat) = (if N.2.2 i l = -6 then kRt2 N T' i l s else kCvo T' (N.2.2 i l) (kRt2 N T' i l) s s.toNat)
    split
    · exact kRt2_congr hN hi hT l s (by omega) h1 h2
    · rename_i q
      have := hN.2.2.1 i l hi.1 hi.2 (by omega) (by omega)
      exact kCvo_congr _ (fun u u1 u2 => ⟨hT u _ u1 (by omega) (by unfold kRn; omega), kRt2_congr hN hi hT l (s - u) (by omega) (by omega) (by omega)⟩)
/-- choices: the parts' values of a size -/
def kCh (N : KN) (T : Int → Int → Int) (i s : Int) (n : Nat) : Int := kSum (fun l => if N.2.2 i l = -6 then 0 else T s (N.2.2 i l)) n
theorem kCh_1 {N : KN} {T : Int → Int → Int} {i s l : Int} (hl : 0 ≤ l) : kCh N T i s (l + 1).toNat = kCh N T i s l.toNat + (if N.2.2 i l = -6 then 0 else T s (N.2.2 i l)) := kSum_1 _ hl
theorem kCh_b {N : KN} (hN : kWF N) {T : Int → Int → Int} {i s : Int} (hi : kRn N i) (hT : ∀ j : Int, kRn N j → kHd (T s j)) : ∀ n : Nat, n ≤ 8 → 0 ≤ kCh N T i s n ∧ kCh N T i s n ≤ 1000000000 * n
  | 0, _ => ⟨Int.le_refl _, Int.le_refl _⟩
  | n + 1, hn => by
    have ih := kCh_b hN hi hT n (by omega)
    unfold kCh at ih ⊢
    show 0 ≤ kSum _ n + (if N.2.2 i n = -6 then 0 else T s (N.2.2 i n)) ∧ kSum _ n + (if N.2.2 i n = -6 then 0 else T s (N.2.2 i n)) ≤ 1000000000 * ((n + 1 : Nat) : Int)
    split
    · omega
    · have := hT (N.2.2 i n) (by have := hN.2.2.1 i n hi.1 hi.2 (by omega) (by omega); unfold kRn; omega)
      unfold kHd at this
      omega
theorem kCh_congr {N : KN} (hN : kWF N) {T T' : Int → Int → Int} {i s : Int} (hi : kRn N i) (hT : ∀ j : Int, kRn N j → T s j = T' s j) (n : Nat) (hn : n ≤ 8) : kCh N T i s n = kCh N T' i s n := by
  refine kSum_congr (fun l h1 h2 => ?_)
  split
  · rfl
  · exact hT _ (by have := hN.2.2.1 i l hi.1 hi.2 h1 (by omega); unfold kRn; omega)
/-- a node's count of a size, out of those of smaller sizes -/
def kCt (N : KN) (T : Int → Int → Int) (s i : Int) : Int :=
  if N.2.1 i = 123 then kRt2 N T i 8 (s - 1) else if N.2.1 i = 42 then kLf T (N.2.2 i 0) (s - 1) else if N.2.1 i = 91 then (if s = 1 then 0 else min 1000000000 (kCh N T i (s - 1) 8))
  else if s = 1 then (if N.2.1 i = 110 then 10 else if N.2.1 i = 116 then 2 else if N.2.1 i = 115 then 26 else 0) else 0
theorem kCt_congr {N : KN} (hN : kWF N) {T T' : Int → Int → Int} {s i : Int} (hi : kRn N i) (hs : 1 ≤ s) (hT : ∀ u j : Int, 1 ≤ u → u < s → kRn N j → T u j = T' u j) : kCt N T s i = kCt N T' s i := by
  unfold kCt
  split
  · exact kRt2_congr hN hi (m := s - 1) (fun u j h1 h2 hj => hT u j h1 (by omega) hj) 8 (s - 1) (by omega) (by omega) (Int.le_refl _)
  · split
    · rename_i h1 h2
      have := hN.2.2.2.1 i hi.1 hi.2 h2
      have a := hN.2.2.1 i 0 hi.1 hi.2 (by omega) (by omega)
      exact kLf_congr (s - 1).toNat (s - 1) (by omega) (by omega) (fun u u1 u2 => hT u _ u1 (by omega) (by unfold kRn; omega))
    · split
      · split
        · rfl
        · rw [kCh_congr hN hi (fun j hj => hT (s - 1) j (by omega) (by omega) hj) 8 (Nat.le_refl _)]
      · rfl
theorem kCt_b {N : KN} (hN : kWF N) {T : Int → Int → Int} {s i : Int} (hi : kRn N i) (hs : 1 ≤ s) (hT : ∀ u j : Int, 1 ≤ u → u < s → kRn N j → kHd (T u j)) : kHd (kCt N T s i) := by
  unfold kCt
  split
  · exact kRt2_b hN hi (m := s - 1) (fun u j h1 h2 hj => hT u j h1 (by omega) hj) 8 (s - 1) (by omega) (by omega) (Int.le_refl _)
  · split
    · rename_i h1 h2
      have := hN.2.2.2.1 i hi.1 hi.2 h2
      have a := hN.2.2.1 i 0 hi.1 hi.2 (by omega) (by omega)
      exact kLf_b (s - 1).toNat (s - 1) (by omega) (by omega) (fun u u1 u2 => hT u _ u1 (by omega) (by unfold kRn; omega))
    · split
      · split
        · unfold kHd; omega
        · have := kCh_b hN hi (fun j hj => hT (s - 1) j (by omega) (by omega) hj) 8 (Nat.le_refl _)
          unfold kHd
          omega
      · unfold kHd
        repeat' split
        all_goals omega
/-- T holds the counts up to size m -/
def kTb (N : KN) (T : Int → Int → Int) (m : Int) : Prop := ∀ s j : Int, 1 ≤ s → s ≤ m → kRn N j → T s j = kCt N T s j
theorem kTb_uniq {N : KN} (hN : kWF N) {T T' : Int → Int → Int} {m : Int} (h1 : kTb N T m) (h2 : kTb N T' m) : ∀ (n : Nat) (s j : Int), s ≤ n → 1 ≤ s → s ≤ m → kRn N j → T s j = T' s j
  | 0, s, j, a, b, _, _ => by omega
  | n + 1, s, j, a, b, d, hj => by
    rw [h1 s j b d hj, h2 s j b d hj]
    exact kCt_congr hN hj b (fun u i u1 u2 hi => kTb_uniq hN h1 h2 n u i (by omega) u1 (by omega) hi)
theorem kTb_b {N : KN} (hN : kWF N) {T : Int → Int → Int} {m : Int} (h1 : kTb N T m) : ∀ (n : Nat) (s j : Int), s ≤ n → 1 ≤ s → s ≤ m → kRn N j → kHd (T s j)
  | 0, s, j, a, b, _, _ => by omega
  | n + 1, s, j, a, b, d, hj => by
    rw [h1 s j b d hj]
    exact kCt_b hN hj b (fun u i u1 u2 hi => kTb_b hN h1 n u i (by omega) u1 (by omega) hi)
/-- the answer of count -/
def kCntA (N : KN) (i s z : Int) : Prop := ∃ T, kTb N T s ∧ z = T s i
theorem kCntA_uniq {N : KN} (hN : kWF N) {i s z u : Int} (hs : 1 ≤ s) (hi : kRn N i) (h1 : kCntA N i s z) (h2 : kCntA N i s u) : z = u := by
  obtain ⟨T, a, rfl⟩ := h1
  obtain ⟨T', b, rfl⟩ := h2
  exact kTb_uniq hN a b s.toNat s i (by omega) hs (Int.le_refl _) hi
/-- on the way: the sizes below s, and of size s the nodes below a -/
def kTw (N : KN) (T : Int → Int → Int) (s a : Int) : Prop := ∀ v j : Int, 1 ≤ v → kRn N j → (v < s ∨ (v = s ∧ j < a)) → T v j = kCt N T v j
theorem kTw_row {N : KN} {T : Int → Int → Int} {s : Int} (h : kTw N T s N.1) : kTw N T (s + 1) 0 := fun v j h1 hj hb => h v j h1 hj (by have := hj.1; have := hj.2; omega)
theorem kTw_set {N : KN} (hN : kWF N) {T T' : Int → Int → Int} {s a : Int} (h : kTw N T s a) (hT : ∀ v j : Int, 1 ≤ v → v ≤ s → kRn N j → T' v j = if v = s ∧ j = a then kCt N T s a else T v j) : kTw N T' s (a + 1) := by
  intro v j hv hj hb
  have e : kCt N T' v j = kCt N T v j := kCt_congr hN hj hv (fun u i u1 u2 hi => by rw [hT u i u1 (by omega) hi, if_neg (by omega)])
  rw [e, hT v j hv (by omega) hj]
  by_cases q : v = s ∧ j = a
  · obtain ⟨rfl, rfl⟩ := q
    rw [if_pos ⟨rfl, rfl⟩]
  · rw [if_neg q]
    exact h v j hv hj (by omega)
theorem kTw_b {N : KN} (hN : kWF N) {T : Int → Int → Int} {s a : Int} (h : kTw N T s a) : ∀ u j : Int, 1 ≤ u → u < s → kRn N j → kHd (T u j) := by
  intro u j u1 u2 hj
  exact kTb_b hN (m := s - 1) (fun v i v1 v2 hi => h v i v1 hi (Or.inl (by omega))) u.toNat u j (by omega) u1 (by omega) hj

