/-! THE NET in plain numbers, and who stands for whom: rounds, ranks, the way down. No program in sight but the two pictures kXnet, kMnet -/
set_option maxRecDepth 100000
abbrev KN : Type := Int × (Int → Int) × (Int → Int → Int)
def kXnet (M : KM) : KN := (M 7 0 1, fun i => if 0 ≤ i ∧ i < M 7 0 1 then M 1 i 0 else 0, fun i l => if (0 ≤ i ∧ i < M 7 0 1) ∧ 0 ≤ l ∧ l < 8 then M 2 i l else -6)
def kMnet (M : KM) : KN := (M 30 0 2, fun i => if 0 ≤ i ∧ i < M 30 0 2 then M 32 0 i else 0, fun i l => if (0 ≤ i ∧ i < M 30 0 2) ∧ 0 ≤ l ∧ l < 8 then M 33 0 (8 * i + l) else -6)
theorem kXnet_s {M : KM} {i : Int} (h : 0 ≤ i ∧ i < M 7 0 1) : (kXnet M).2.1 i = M 1 i 0 := if_pos h
theorem kXnet_p {M : KM} {i l : Int} (h : 0 ≤ i ∧ i < M 7 0 1) (hl : 0 ≤ l ∧ l < 8) : (kXnet M).2.2 i l = M 2 i l := if_pos ⟨h, hl⟩
theorem kMnet_s {M : KM} {i : Int} (h : 0 ≤ i ∧ i < M 30 0 2) : (kMnet M).2.1 i = M 32 0 i := if_pos h
theorem kMnet_p {M : KM} {i l : Int} (h : 0 ≤ i ∧ i < M 30 0 2) (hl : 0 ≤ l ∧ l < 8) : (kMnet M).2.2 i l = M 33 0 (8 * i + l) := if_pos ⟨h, hl⟩
theorem kXnet_n (M : KM) : (kXnet M).1 = M 7 0 1 := rfl
theorem kMnet_n (M : KM) : (kMnet M).1 = M 30 0 2 := rfl
def kSign (x : Int) : Prop := x = 110 ∨ x = 116 ∨ x = 115 ∨ x = 46 ∨ x = 33 ∨ x = 123 ∨ x = 91 ∨ x = 42 ∨ x = 62
def kWF (N : KN) : Prop := (0 ≤ N.1 ∧ N.1 ≤ 60) ∧ (∀ i, 0 ≤ i → i < N.1 → kSign (N.2.1 i)) ∧ (∀ i l, 0 ≤ i → i < N.1 → 0 ≤ l → l < 8 → N.2.2 i l = -6 ∨ (0 ≤ N.2.2 i l ∧ N.2.2 i l < N.1)) ∧
  (∀ i, 0 ≤ i → i < N.1 → N.2.1 i = 42 → 0 ≤ N.2.2 i 0 ∧ ∀ l, 1 ≤ l → l < 8 → N.2.2 i l = -6) ∧ (∀ i, 0 ≤ i → i < N.1 → N.2.1 i = 62 → (0 ≤ N.2.2 i 0 ∧ 0 ≤ N.2.2 i 1) ∧ ∀ l, 2 ≤ l → l < 8 → N.2.2 i l = -6)
def kIn2 (N : KN) (i k : Int) : Prop := (0 ≤ i ∧ i < N.1) ∧ 0 ≤ k ∧ k < N.1
/-- two do not fit by their own signs and letters -/
def kUnl (N : KN) (i k : Int) : Prop := (N.2.1 i ≠ 33 ∧ N.2.1 k ≠ 46) ∧ (N.2.1 i ≠ N.2.1 k ∨ (N.2.1 i = 123 ∧ ∃ l, 0 ≤ l ∧ l < 8 ∧ N.2.2 i l = -6 ∧ N.2.2 k l ≠ -6) ∨ (N.2.1 i = 91 ∧ ∃ l, 0 ≤ l ∧ l < 8 ∧ N.2.2 k l = -6 ∧ N.2.2 i l ≠ -6))
/-- where step c leads from two; (-6, -6): nowhere -/
def kStep (N : KN) (i k c : Int) : Int × Int :=
  if N.2.1 i = 33 ∨ N.2.1 k = 46 ∨ N.2.1 i ≠ N.2.1 k then (-6, -6)
  else if c = 8 then (if N.2.1 i = 42 then (N.2.2 i 0, N.2.2 k 0) else (-6, -6))
  else if c = 9 then (if N.2.1 i = 62 then (N.2.2 k 0, N.2.2 i 0) else (-6, -6))
  else if c = 10 then (if N.2.1 i = 62 then (N.2.2 i 1, N.2.2 k 1) else (-6, -6))
  else if (N.2.1 i = 123 ∨ N.2.1 i = 91) ∧ N.2.2 i c ≠ -6 ∧ N.2.2 k c ≠ -6 then (N.2.2 i c, N.2.2 k c) else (-6, -6)
theorem kStep_in {N : KN} (hN : kWF N) {i k c : Int} (hik : kIn2 N i k) (hc : 0 ≤ c ∧ c < 11) : kStep N i k c = (-6, -6) ∨ ((kStep N i k c).1 ≠ -6 ∧ kIn2 N (kStep N i k c).1 (kStep N i k c).2) := by
  obtain ⟨hn, hs, hp, hl, hf⟩ := hN
  obtain ⟨hi, hk⟩ := hik
  have P := fun l (h : 0 ≤ l ∧ l < 8) => And.intro (hp i l hi.1 hi.2 h.1 h.2) (hp k l hk.1 hk.2 h.1 h.2)
  have P0 := P 0 (by omega)
  have P1 := P 1 (by omega)
  unfold kStep kIn2
  split
  · exact Or.inl rfl
  · rename_i hq
    have hq1 : N.2.1 i = N.2.1 k := by omega
    split
    · split
      · rename_i h1
        have a := (hl i hi.1 hi.2 h1).1
        have b := (hl k hk.1 hk.2 (by omega)).1
        right
        dsimp only
        omega
      · exact Or.inl rfl
    · split
      · split
        · rename_i h1
          have a := (hf i hi.1 hi.2 h1).1
          have b := (hf k hk.1 hk.2 (by omega)).1
          right
          dsimp only
          omega
        · exact Or.inl rfl
      · split
        · split
          · rename_i h1
            have a := (hf i hi.1 hi.2 h1).1
            have b := (hf k hk.1 hk.2 (by omega)).1
            right
            dsimp only
            omega
          · exact Or.inl rfl
        · split
          · have Pc := P c (by omega)
            right
            dsimp only
            omega
          · exact Or.inl rfl
/-- two have fallen by round r -/
def kFell (N : KN) : Nat → Int → Int → Prop
  | 0, i, k => kUnl N i k
  | r + 1, i, k => kFell N r i k ∨ ∃ c, 0 ≤ c ∧ c < 11 ∧ (kStep N i k c).1 ≠ -6 ∧ kFell N r (kStep N i k c).1 (kStep N i k c).2
theorem kFell_mono {N : KN} {i k : Int} {r s : Nat} (h : r ≤ s) (hf : kFell N r i k) : kFell N s i k := by
  induction h with
  | refl => exact hf
  | step _ ih => exact Or.inl ih
/-- v is the round in which two fall, as far as is known behind round r (-6: not yet) -/
def kRA (N : KN) (r i k v : Int) : Prop := (v = -6 ∧ ¬ kFell N r.toNat i k) ∨ ((0 ≤ v ∧ v ≤ r) ∧ kFell N v.toNat i k ∧ ∀ s : Nat, (s : Int) < v → ¬ kFell N s i k)
/-- v is the round in which two fall; -6: never -/
def kFN (N : KN) (i k v : Int) : Prop := (v = -6 ∧ ∀ r, ¬ kFell N r i k) ∨ (0 ≤ v ∧ kFell N v.toNat i k ∧ ∀ s : Nat, (s : Int) < v → ¬ kFell N s i k)
theorem kFN_uniq {N : KN} {i k v u : Int} (h1 : kFN N i k v) (h2 : kFN N i k u) : v = u := by
  rcases h1 with ⟨e1, a1⟩ | ⟨p1, a1, b1⟩ <;> rcases h2 with ⟨e2, a2⟩ | ⟨p2, a2, b2⟩
  · omega
  · exact absurd a2 (a1 _)
  · exact absurd a1 (a2 _)
  · rcases Int.lt_trichotomy v u with q | q | q
    · exact absurd a1 (b2 _ (by omega))
    · exact q
    · exact absurd a2 (b1 _ (by omega))
theorem kRA_keep {N : KN} {r i k v : Int} (h : kRA N r i k v) (hv : v ≠ -6) : kRA N (r + 1) i k v := by
  rcases h with ⟨e, -⟩ | ⟨p, a, b⟩
  · exact absurd e hv
  · exact Or.inr ⟨by omega, a, b⟩
/-- what an entry of two others tells, whether it was visited in this round or not -/
theorem kRA_iff {N : KN} {r i k v : Int} (hr : 0 ≤ r) (h : kRA N r i k v ∨ kRA N (r + 1) i k v) : (0 ≤ v ∧ v ≤ r) ↔ kFell N r.toNat i k := by
  constructor
  · intro hv
    have : kFell N v.toNat i k := by
      rcases h with (⟨e, -⟩ | ⟨p, a, b⟩) | (⟨e, -⟩ | ⟨p, a, b⟩)
      · omega
      · exact a
      · omega
      · exact a
    exact kFell_mono (by omega) this
  · intro hf
    rcases h with (⟨e, a⟩ | ⟨p, a, b⟩) | (⟨e, a⟩ | ⟨p, a, b⟩)
    · exact absurd hf a
    · exact p
    · exact absurd (kFell_mono (by omega) hf) a
    · refine ⟨p.1, ?_⟩
      rcases Int.lt_or_le r v with q | q
      · exact absurd hf (b _ (by omega))
      · exact q
theorem kRA_new {N : KN} {r i k c : Int} (hr : 0 ≤ r) (h : kRA N r i k (-6)) (hc : 0 ≤ c ∧ c < 11) (h1 : (kStep N i k c).1 ≠ -6) (hf : kFell N r.toNat (kStep N i k c).1 (kStep N i k c).2) : kRA N (r + 1) i k (r + 1) := by
  rcases h with ⟨-, a⟩ | ⟨p, -⟩
  · refine Or.inr ⟨by omega, ?_, fun s hs q => a (kFell_mono (by omega) q)⟩
    rw [show (r + 1).toNat = r.toNat + 1 by omega]
    exact Or.inr ⟨c, hc.1, hc.2, h1, hf⟩
  · omega
theorem kRA_not {N : KN} {r i k : Int} (hr : 0 ≤ r) (h : kRA N r i k (-6)) (hn : ∀ c, 0 ≤ c → c < 11 → (kStep N i k c).1 ≠ -6 → ¬ kFell N r.toNat (kStep N i k c).1 (kStep N i k c).2) : kRA N (r + 1) i k (-6) := by
  rcases h with ⟨-, a⟩ | ⟨p, -⟩
  · refine Or.inl ⟨rfl, ?_⟩
    rw [show (r + 1).toNat = r.toNat + 1 by omega]
    rintro (q | ⟨c, c1, c2, c3, c4⟩)
    · exact a q
    · exact hn c c1 c2 c3 c4
  · omega
theorem kRA_0 {N : KN} {i k : Int} : (kUnl N i k → kRA N 0 i k 0) ∧ (¬ kUnl N i k → kRA N 0 i k (-6)) :=
  ⟨fun h => Or.inr ⟨by omega, h, fun s hs => by omega⟩, fun h => Or.inl ⟨rfl, h⟩⟩
/-- a round in which nothing fell is the last -/
theorem kRA_last {N : KN} (hN : kWF N) {r : Int} (hr : 0 ≤ r) {F : Int → Int → Int} (h0 : ∀ i k, kIn2 N i k → kRA N r i k (F i k)) (h1 : ∀ i k, kIn2 N i k → kRA N (r + 1) i k (F i k)) : ∀ i k, kIn2 N i k → kFN N i k (F i k) := by
  have key : ∀ i k, kIn2 N i k → kFell N (r.toNat + 1) i k → kFell N r.toNat i k := by
    intro i k hik hf
    have a := (kRA_iff hr (Or.inl (h0 i k hik))).mp
    apply a
    have b := (kRA_iff (r := r + 1) (by omega) (Or.inl (h1 i k hik))).mpr (by rw [show (r + 1).toNat = r.toNat + 1 by omega]; exact hf)
    refine ⟨b.1, ?_⟩
    rcases h0 i k hik with ⟨e, -⟩ | ⟨p, -⟩
    · omega
    · exact p.2
  have all : ∀ (s : Nat) (i k : Int), kIn2 N i k → kFell N s i k → kFell N r.toNat i k := by
    intro s
    induction s with
    | zero => intro i k _ hf; exact kFell_mono (Nat.zero_le _) hf
    | succ s ih =>
      intro i k hik hf
      rcases hf with hf | ⟨c, c1, c2, c3, c4⟩
      · exact ih i k hik hf
      · rcases kStep_in hN hik ⟨c1, c2⟩ with q | q
        · rw [q] at c3; exact absurd rfl c3
        · exact key i k hik (Or.inr ⟨c, c1, c2, c3, ih _ _ q.2 c4⟩)
  intro i k hik
  rcases h0 i k hik with ⟨e, a⟩ | ⟨p, a, b⟩
  · exact Or.inl ⟨e, fun s q => a (all s i k hik q)⟩
  · exact Or.inr ⟨p.1, a, b⟩
/-! how many pairs have not fallen: it falls with each round but the last -/
theorem kSum_mono {g f : Int → Int} {n : Nat} (h : ∀ k : Int, 0 ≤ k → k < n → g k ≤ f k) : kSum g n ≤ kSum f n := by
  induction n with
  | zero => exact Int.le_refl _
  | succ n ih =>
    have a := ih (fun k h1 h2 => h k h1 (by omega))
    have b := h n (by omega) (by omega)
    show kSum g n + g n ≤ kSum f n + f n
    omega
theorem kSum_lt {g f : Int → Int} {n : Nat} (h : ∀ k : Int, 0 ≤ k → k < n → g k ≤ f k) {j : Int} (hj : 0 ≤ j ∧ j < n) (hlt : g j < f j) : kSum g n < kSum f n := by
  induction n with
  | zero => omega
  | succ n ih =>
    have b := h n (by omega) (by omega)
    show kSum g n + g n < kSum f n + f n
    by_cases hjn : j = n
    · subst hjn
      have a := kSum_mono (g := g) (f := f) (n := n) (fun k h1 h2 => h k h1 (by omega))
      omega
    · have a := ih (fun k h1 h2 => h k h1 (by omega)) (by omega)
      omega
def kMu (F : Int → Int → Int) (n : Int) : Int := kSum (fun i => kSum (fun k => if F i k = -6 then 1 else 0) n.toNat) n.toNat
theorem kMu_pos (F : Int → Int → Int) (n : Int) : 0 ≤ kMu F n := by
  unfold kMu
  have key : ∀ (g : Int → Int) (m : Nat), (∀ k, 0 ≤ g k) → 0 ≤ kSum g m := by
    intro g m hg
    induction m with
    | zero => exact Int.le_refl _
    | succ m ih => have := hg m; show 0 ≤ kSum g m + g m; omega
  exact key _ _ (fun i => key _ _ (fun k => by split <;> omega))
theorem kMu_lt {F G : Int → Int → Int} {n : Int} (h : ∀ i k, 0 ≤ i → i < n → 0 ≤ k → k < n → G i k = -6 → F i k = -6) {i k : Int} (hi : 0 ≤ i ∧ i < n) (hk : 0 ≤ k ∧ k < n) (hF : F i k = -6) (hG : G i k ≠ -6) : kMu G n < kMu F n := by
  have row : ∀ i, 0 ≤ i → i < n → ∀ k, 0 ≤ k → k < (n.toNat : Int) → (if G i k = -6 then (1 : Int) else 0) ≤ if F i k = -6 then 1 else 0 := by
    intro i h1 h2 k h3 h4
    by_cases q : G i k = -6
    · rw [if_pos q, if_pos (h i k h1 h2 h3 (by omega) q)]
      exact Int.le_refl _
    · rw [if_neg q]
      split <;> omega
  unfold kMu
  refine kSum_lt (j := i) (fun i h1 h2 => kSum_mono (row i h1 (by omega))) ⟨hi.1, by omega⟩ ?_
  refine kSum_lt (j := k) (row i hi.1 hi.2) ⟨hk.1, by omega⟩ ?_
  rw [if_pos hF, if_neg hG]
  omega
/-- one round's sweep over all pairs, at the pair (a, b): F0 as the round began, F now, mr: whether any fell -/
def kSW (N : KN) (r : Int) (F0 F : Int → Int → Int) (a b mr : Int) : Prop :=
  (∀ i k, kIn2 N i k → (i < a ∨ (i = a ∧ k < b)) → kRA N (r + 1) i k (F i k)) ∧ (∀ i k, kIn2 N i k → ¬ (i < a ∨ (i = a ∧ k < b)) → kRA N r i k (F i k)) ∧
  (∀ i k, kIn2 N i k → F i k = F0 i k ∨ (F0 i k = -6 ∧ mr = 1)) ∧ (mr = 0 ∨ (mr = 1 ∧ ∃ i k, kIn2 N i k ∧ F0 i k = -6 ∧ F i k ≠ -6))
theorem kSW_0 {N : KN} {r : Int} {F : Int → Int → Int} (h : ∀ i k, kIn2 N i k → kRA N r i k (F i k)) : kSW N r F F 0 0 0 :=
  ⟨fun i k hik hb => by obtain ⟨⟨h1, -⟩, h3, -⟩ := hik; omega, fun i k hik _ => h i k hik, fun _ _ _ => Or.inl rfl, Or.inl rfl⟩
theorem kSW_row {N : KN} {r : Int} {F0 F : Int → Int → Int} {a mr : Int} (h : kSW N r F0 F a N.1 mr) : kSW N r F0 F (a + 1) 0 mr := by
  obtain ⟨h1, h2, h3, h4⟩ := h
  refine ⟨fun i k hik hb => h1 i k hik ?_, fun i k hik hb => h2 i k hik ?_, h3, h4⟩
  · obtain ⟨_, _, _⟩ := hik; omega
  · obtain ⟨_, _, _⟩ := hik; omega
theorem kSW_any {N : KN} {r : Int} {F0 F : Int → Int → Int} {a b mr i k : Int} (h : kSW N r F0 F a b mr) (hik : kIn2 N i k) : kRA N r i k (F i k) ∨ kRA N (r + 1) i k (F i k) := by
  by_cases q : i < a ∨ (i = a ∧ k < b)
  · exact Or.inr (h.1 i k hik q)
  · exact Or.inl (h.2.1 i k hik q)
/-- the pair is left as it is -/
theorem kSW_skip {N : KN} {r : Int} {F0 F : Int → Int → Int} {a b mr : Int} (h : kSW N r F0 F a b mr) (hn : kIn2 N a b → kRA N (r + 1) a b (F a b)) : kSW N r F0 F a (b + 1) mr := by
  obtain ⟨h1, h2, h3, h4⟩ := h
  refine ⟨fun i k hik hb => ?_, fun i k hik hb => h2 i k hik (by omega), h3, h4⟩
  by_cases q : i = a ∧ k = b
  · obtain ⟨rfl, rfl⟩ := q
    exact hn hik
  · exact h1 i k hik (by omega)
/-- the pair falls in this round -/
theorem kSW_set {N : KN} {r : Int} {F0 F G : Int → Int → Int} {a b mr : Int} (hr : 0 ≤ r) (h : kSW N r F0 F a b mr) (hab : kIn2 N a b) (hF : F a b = -6) (hn : kRA N (r + 1) a b (r + 1)) (hG : ∀ i k, kIn2 N i k → G i k = if i = a ∧ k = b then r + 1 else F i k) : kSW N r F0 G a (b + 1) 1 := by
  obtain ⟨h1, h2, h3, h4⟩ := h
  have h0 : F0 a b = -6 := by
    rcases h3 a b hab with q | q
    · omega
    · exact q.1
  refine ⟨fun i k hik hb => ?_, fun i k hik hb => ?_, fun i k hik => ?_, Or.inr ⟨rfl, a, b, hab, h0, ?_⟩⟩
  · rw [hG i k hik]
    by_cases q : i = a ∧ k = b
    · obtain ⟨rfl, rfl⟩ := q
      rw [if_pos ⟨rfl, rfl⟩]
      exact hn
    · rw [if_neg q]
      exact h1 i k hik (by omega)
  · rw [hG i k hik, if_neg (by omega)]
    exact h2 i k hik (by omega)
  · rw [hG i k hik]
    by_cases q : i = a ∧ k = b
    · obtain ⟨rfl, rfl⟩ := q
      exact Or.inr ⟨h0, rfl⟩
    · rw [if_neg q]
      rcases h3 i k hik with q | q
      · exact Or.inl q
      · exact Or.inr ⟨q.1, rfl⟩
  · rw [hG a b hab, if_pos ⟨rfl, rfl⟩]
    omega
/-- behind a sweep -/
theorem kSW_end {N : KN} (hN : kWF N) {r : Int} (hr : 0 ≤ r) {F0 F : Int → Int → Int} {mr : Int} (h0 : ∀ i k, kIn2 N i k → kRA N r i k (F0 i k)) (h : kSW N r F0 F N.1 0 mr) :
    (∀ i k, kIn2 N i k → kRA N (r + 1) i k (F i k)) ∧ ((mr = 0 ∧ ∀ i k, kIn2 N i k → kFN N i k (F i k)) ∨ (mr = 1 ∧ kMu F N.1 < kMu F0 N.1)) := by
  obtain ⟨h1, h2, h3, h4⟩ := h
  have a : ∀ i k, kIn2 N i k → kRA N (r + 1) i k (F i k) := fun i k hik => h1 i k hik (Or.inl hik.1.2)
  refine ⟨a, ?_⟩
  rcases h4 with q | ⟨q, i, k, hik, e1, e2⟩
  · refine Or.inl ⟨q, fun i k hik => ?_⟩
    refine kRA_last hN hr (F := F) (fun i k hik => ?_) a i k hik
    rcases h3 i k hik with z | z
    · rw [z]; exact h0 i k hik
    · omega
  · refine Or.inr ⟨q, kMu_lt (fun i k i1 i2 k1 k2 e => ?_) hik.1 hik.2 e1 e2⟩
    rcases h3 i k ⟨⟨i1, i2⟩, k1, k2⟩ with z | z
    · omega
    · exact z.1

