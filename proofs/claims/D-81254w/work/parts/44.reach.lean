/-! what is reached from a node, and the count of pieces: plain -/
set_option maxRecDepth 100000
def kRch (N : KN) (i : Int) : Nat → Int → Prop
  | 0, k => k = i
  | r + 1, k => kRch N i r k ∨ ∃ j l, (0 ≤ l ∧ l < 8) ∧ kRch N i r j ∧ N.2.2 j l = k ∧ k ≠ -6
def kReach (N : KN) (i k : Int) : Prop := ∃ r, kRch N i r k
theorem kReach_self {N : KN} {i : Int} : kReach N i i := ⟨0, rfl⟩
theorem kReach_part {N : KN} {i j l : Int} (h : kReach N i j) (hl : 0 ≤ l ∧ l < 8) (hp : N.2.2 j l ≠ -6) : kReach N i (N.2.2 j l) := by
  obtain ⟨r, h⟩ := h
  exact ⟨r + 1, Or.inr ⟨j, l, hl, h, rfl, hp⟩⟩
theorem kReach_trans {N : KN} {i p j : Int} (h1 : kReach N i p) (h2 : kReach N p j) : kReach N i j := by
  obtain ⟨r, h2⟩ := h2
  induction r generalizing j with
  | zero => rw [show j = p from h2]; exact h1
  | succ r ih =>
    rcases h2 with h | ⟨q, l, hl, h, rfl, hne⟩
    · exact ih h
    · exact kReach_part (ih h) hl hne
theorem kReach_in {N : KN} (hN : kWF N) {i k : Int} (hi : kRn N i) (h : kReach N i k) : kRn N k := by
  obtain ⟨r, h⟩ := h
  induction r generalizing k with
  | zero => rw [show k = i from h]; exact hi
  | succ r ih =>
    rcases h with h | ⟨q, l, hl, h, rfl, hne⟩
    · exact ih h
    · have := ih h
      have := hN.2.2.1 q l this.1 this.2 hl.1 hl.2
      unfold kRn
      omega
/-- H holds, on the net's nodes, a closed set -/
def kCl2 (N : KN) (H : Int → Int) : Prop := ∀ j l, kRn N j → 0 ≤ l → l < 8 → H j = 1 → N.2.2 j l ≠ -6 → H (N.2.2 j l) = 1
def k01 (N : KN) (H : Int → Int) : Prop := ∀ j, kRn N j → H j = 0 ∨ H j = 1
/-- H is what is reached from i -/
def kHis (N : KN) (i : Int) (H : Int → Int) : Prop := ∀ k, kRn N k → (H k = 1 ∧ kReach N i k) ∨ (H k = 0 ∧ ¬ kReach N i k)
theorem kHis_of {N : KN} (hN : kWF N) {i : Int} {H : Int → Int} (hi : kRn N i) (h0 : k01 N H) (h1 : H i = 1) (h2 : kCl2 N H) (h3 : ∀ j, kRn N j → H j = 1 → kReach N i j) : kHis N i H := by
  have key : ∀ r k, kRch N i r k → H k = 1 := by
    intro r
    induction r with
    | zero => intro k h; rw [show k = i from h]; exact h1
    | succ r ih =>
      intro k h
      rcases h with h | ⟨q, l, hl, h, rfl, hne⟩
      · exact ih k h
      · exact h2 q l (kReach_in hN hi ⟨r, h⟩) hl.1 hl.2 (ih q h) hne
  intro k hk
  rcases h0 k hk with q | q
  · refine Or.inr ⟨q, fun ⟨r, h⟩ => ?_⟩
    have := key r k h
    omega
  · exact Or.inl ⟨q, h3 k hk q⟩
def kUnh (N : KN) (H : Int → Int) : Int := kSum (fun k => if H k = 0 then 1 else 0) N.1.toNat
theorem kUnh_mono {N : KN} {H G : Int → Int} (h : ∀ j, kRn N j → H j = 1 → G j = 1) (h0 : k01 N H) : kUnh N G ≤ kUnh N H := by
  refine kSum_mono (fun k k1 k2 => ?_)
  have hk : kRn N k := ⟨k1, by omega⟩
  rcases h0 k hk with q | q
  · rw [if_pos q]; split <;> omega
  · rw [if_neg (show ¬ G k = 0 by have := h k hk q; omega), if_neg (show ¬ H k = 0 by omega)]
    exact Int.le_refl _
theorem kUnh_lt {N : KN} {H G : Int → Int} (h : ∀ j, kRn N j → H j = 1 → G j = 1) (h0 : k01 N H) {i : Int} (hi : kRn N i) (h1 : H i = 0) (h2 : G i = 1) : kUnh N G < kUnh N H := by
  refine kSum_lt (fun k k1 k2 => ?_) ⟨hi.1, by have := hi.2; omega⟩ ?_
  · have hk : kRn N k := ⟨k1, by omega⟩
    rcases h0 k hk with q | q
    · rw [if_pos q]; split <;> omega
    · rw [if_neg (show ¬ G k = 0 by have := h k hk q; omega), if_neg (show ¬ H k = 0 by omega)]
      exact Int.le_refl _
  · rw [if_pos h1, if_neg (by omega)]
    omega
theorem kUnh_nn {N : KN} {H : Int → Int} : 0 ≤ kUnh N H := kSum_nn (fun k _ _ => by split <;> omega)
theorem kUnh_le {N : KN} (hN : 0 ≤ N.1) {H : Int → Int} : kUnh N H ≤ N.1 := by
  have := kSum_b1 (g := fun k => if H k = 0 then 1 else 0) (fun k => by split <;> omega) N.1.toNat
  unfold kUnh
  omega
/-- what hold(i) does: from H to G -/
def kHp (N : KN) (i : Int) (H G : Int → Int) : Prop := k01 N G ∧ (∀ j, kRn N j → H j = 1 → G j = 1) ∧ G i = 1 ∧ (∀ j l, kRn N j → 0 ≤ l → l < 8 → H j = 0 → G j = 1 → N.2.2 j l ≠ -6 → G (N.2.2 j l) = 1) ∧ ∀ j, kRn N j → G j = 1 → H j = 1 ∨ kReach N i j
/-- within hold(i), its parts ahead of l held -/
def kHl (N : KN) (i : Int) (H G : Int → Int) (l0 : Int) : Prop := k01 N G ∧ (∀ j, kRn N j → H j = 1 → G j = 1) ∧ G i = 1 ∧ (∀ j l, kRn N j → 0 ≤ l → l < 8 → H j = 0 → G j = 1 → (j = i → l < l0) → N.2.2 j l ≠ -6 → G (N.2.2 j l) = 1) ∧ ∀ j, kRn N j → G j = 1 → H j = 1 ∨ kReach N i j
theorem kHl_end {N : KN} {i : Int} {H G : Int → Int} (h : kHl N i H G 8) : kHp N i H G := ⟨h.1, h.2.1, h.2.2.1, fun j l a b c d e f => h.2.2.2.1 j l a b c d e (fun _ => c) f, h.2.2.2.2⟩
theorem kHl_0 {N : KN} {i : Int} {H G : Int → Int} (h0 : k01 N H) (hi : H i = 0) (hG : ∀ j, kRn N j → G j = if j = i then 1 else H j) (hir : kRn N i) : kHl N i H G 0 := by
  refine ⟨fun j hj => ?_, fun j hj q => ?_, by rw [hG i hir, if_pos rfl], fun j l hj l1 l2 q1 q2 q3 q4 => ?_, fun j hj q => ?_⟩
  · rw [hG j hj]
    split
    · exact Or.inr rfl
    · exact h0 j hj
  · rw [hG j hj]
    split
    · rfl
    · exact q
  · rw [hG j hj] at q2
    by_cases e : j = i
    · have := q3 e; omega
    · rw [if_neg e] at q2; omega
  · rw [hG j hj] at q
    by_cases e : j = i
    · subst e; exact Or.inr kReach_self
    · rw [if_neg e] at q; exact Or.inl q
theorem kHl_skip {N : KN} {i l0 : Int} {H G : Int → Int} (h : kHl N i H G l0) (hp : N.2.2 i l0 ≠ -6 → G (N.2.2 i l0) = 1) : kHl N i H G (l0 + 1) := by
  refine ⟨h.1, h.2.1, h.2.2.1, fun j l hj l1 l2 q1 q2 q3 q4 => ?_, h.2.2.2.2⟩
  by_cases e : j = i ∧ l = l0
  · obtain ⟨rfl, rfl⟩ := e; exact hp q4
  · exact h.2.2.2.1 j l hj l1 l2 q1 q2 (fun z => by have := q3 z; omega) q4
theorem kHl_call {N : KN} (hN : kWF N) {i l0 : Int} {H G G2 : Int → Int} (h : kHl N i H G l0) (hi : kRn N i) (hl : 0 ≤ l0 ∧ l0 < 8) (hne : N.2.2 i l0 ≠ -6) (g : kHp N (N.2.2 i l0) G G2) : kHl N i H G2 (l0 + 1) := by
  obtain ⟨a1, a2, a3, a4, a5⟩ := h
  obtain ⟨b1, b2, b3, b4, b5⟩ := g
  refine ⟨b1, fun j hj q => b2 j hj (a2 j hj q), b2 i hi a3, fun j l hj l1 l2 q1 q2 q3 q4 => ?_, fun j hj q => ?_⟩
  · have hpr : kRn N (N.2.2 j l) := by
      have := hN.2.2.1 j l hj.1 hj.2 l1 l2
      unfold kRn
      omega
    rcases a1 j hj with z | z
    · exact b4 j l hj l1 l2 z q2 q4
    · by_cases e : j = i ∧ l = l0
      · obtain ⟨rfl, rfl⟩ := e; exact b3
      · exact b2 _ hpr (a4 j l hj l1 l2 q1 z (fun z => by have := q3 z; omega) q4)
  · rcases b5 j hj q with z | z
    · exact a5 j hj z
    · exact Or.inr (kReach_trans (kReach_part kReach_self hl hne) z)
/-- the reference's sweeps: H0 as a sweep began, H now, at node a, letter b -/
def kSp (N : KN) (i : Int) (H0 H : Int → Int) (a b : Int) : Prop := k01 N H ∧ (∀ j, kRn N j → H0 j = 1 → H j = 1) ∧ (∀ j l, kRn N j → 0 ≤ l → l < 8 → (j < a ∨ (j = a ∧ l < b)) → H0 j = 1 → N.2.2 j l ≠ -6 → H (N.2.2 j l) = 1) ∧ (∀ j, kRn N j → H j = 1 → kReach N i j) ∧ (kCl2 N H0 → ∀ j, kRn N j → H j = H0 j)
theorem kSp_0 {N : KN} {i : Int} {H : Int → Int} (h0 : k01 N H) (h : ∀ j, kRn N j → H j = 1 → kReach N i j) : kSp N i H H 0 0 := ⟨h0, fun _ _ q => q, fun j l hj l1 l2 q => by have := hj.1; omega, h, fun _ _ _ => rfl⟩
theorem kSp_row {N : KN} {i : Int} {H0 H : Int → Int} {a b : Int} (h : kSp N i H0 H a b) (hb : kRn N a → b = 8 ∨ H a = 0) : kSp N i H0 H (a + 1) 0 := by
  obtain ⟨h1, h2, h3, h4, h5⟩ := h
  refine ⟨h1, h2, fun j l hj l1 l2 q1 q2 q3 => ?_, h4, h5⟩
  by_cases e : j = a
  · subst e
    rcases hb hj with z | z
    · exact h3 j l hj l1 l2 (by omega) q2 q3
    · have := h2 j hj q2; omega
  · exact h3 j l hj l1 l2 (by omega) q2 q3
theorem kSp_skip {N : KN} {i : Int} {H0 H : Int → Int} {a b : Int} (h : kSp N i H0 H a b) (hp : N.2.2 a b = -6) : kSp N i H0 H a (b + 1) := by
  obtain ⟨h1, h2, h3, h4, h5⟩ := h
  refine ⟨h1, h2, fun j l hj l1 l2 q1 q2 q3 => ?_, h4, h5⟩
  by_cases e : j = a ∧ l = b
  · obtain ⟨rfl, rfl⟩ := e; exact absurd hp q3
  · exact h3 j l hj l1 l2 (by omega) q2 q3
theorem kSp_set {N : KN} (hN : kWF N) {i : Int} {H0 H G : Int → Int} {a b : Int} (h : kSp N i H0 H a b) (ha : kRn N a) (hb : 0 ≤ b ∧ b < 8) (hH : H a = 1) (hp : N.2.2 a b ≠ -6) (hG : ∀ j, kRn N j → G j = if j = N.2.2 a b then 1 else H j) : kSp N i H0 G a (b + 1) := by
  obtain ⟨h1, h2, h3, h4, h5⟩ := h
  have up : ∀ j, kRn N j → H j = 1 → G j = 1 := by
    intro j hj q
    rw [hG j hj]
    split
    · rfl
    · exact q
  have hpr : ∀ j l, kRn N j → 0 ≤ l → l < 8 → N.2.2 j l ≠ -6 → kRn N (N.2.2 j l) := by
    intro j l hj l1 l2 q
    have := hN.2.2.1 j l hj.1 hj.2 l1 l2
    unfold kRn
    omega
  refine ⟨fun j hj => ?_, fun j hj q => up j hj (h2 j hj q), fun j l hj l1 l2 q1 q2 q3 => ?_, fun j hj q => ?_, fun hc j hj => ?_⟩
  · rw [hG j hj]
    split
    · exact Or.inr rfl
    · exact h1 j hj
  · by_cases e : j = a ∧ l = b
    · obtain ⟨rfl, rfl⟩ := e
      rw [hG _ (hpr j l hj l1 l2 q3), if_pos rfl]
    · exact up _ (hpr j l hj l1 l2 q3) (h3 j l hj l1 l2 (by omega) q2 q3)
  · rw [hG j hj] at q
    by_cases e : j = N.2.2 a b
    · rw [e]; exact kReach_part (h4 a ha hH) hb hp
    · rw [if_neg e] at q; exact h4 j hj q
  · rw [hG j hj]
    by_cases e : j = N.2.2 a b
    · rw [if_pos e, e]
      exact (hc a b ha hb.1 hb.2 (by rw [← h5 hc a ha]; exact hH) hp).symm
    · rw [if_neg e]; exact h5 hc j hj
theorem kSp_end {N : KN} {i : Int} {H0 H : Int → Int} (h : kSp N i H0 H N.1 0) (h0 : k01 N H0) (hN : kWF N) : kCl2 N H ∨ kUnh N H < kUnh N H0 := by
  obtain ⟨h1, h2, h3, h4, h5⟩ := h
  by_cases hc : kCl2 N H0
  · left
    intro j l hj l1 l2 q1 q2
    have hpr : kRn N (N.2.2 j l) := by
      have := hN.2.2.1 j l hj.1 hj.2 l1 l2
      unfold kRn
      omega
    rw [h5 hc _ hpr]
    exact hc j l hj l1 l2 (by rw [← h5 hc j hj]; exact q1) q2
  · right
    have : ∃ j l, kRn N j ∧ (0 ≤ l ∧ l < 8) ∧ H0 j = 1 ∧ N.2.2 j l ≠ -6 ∧ H0 (N.2.2 j l) ≠ 1 := by
      refine Classical.byContradiction (fun hn => hc ?_)
      intro j l hj l1 l2 q1 q2
      exact Classical.byContradiction (fun q3 => hn ⟨j, l, hj, ⟨l1, l2⟩, q1, q2, q3⟩)
    obtain ⟨j, l, hj, hl, q1, q2, q3⟩ := this
    have hpr : kRn N (N.2.2 j l) := by
      have := hN.2.2.1 j l hj.1 hj.2 hl.1 hl.2
      unfold kRn
      omega
    have q4 : H0 (N.2.2 j l) = 0 := by
      rcases h0 _ hpr with z | z
      · exact z
      · exact absurd z q3
    exact kUnh_lt h2 h0 hpr q4 (h3 j l hj hl.1 hl.2 (Or.inl hj.2) q1 q2)
def kAl (N : KN) (i k : Int) : Prop := kFN N i k (-6) ∧ kFN N k i (-6)
/-- a node that is reached, and like none ahead of it that is -/
def kFrs (N : KN) (i k e : Int) : Prop := kReach N i k ∧ ∀ j, 0 ≤ j → j < e → ¬ (kReach N i j ∧ kAl N j k)
noncomputable def kPc (N : KN) (i : Int) (n : Nat) : Int := kSum (fun k => kIf (kFrs N i k k) 1 0) n
theorem kPc_1 {N : KN} {i k : Int} (hk : 0 ≤ k) : kPc N i (k + 1).toNat = kPc N i k.toNat + kIf (kFrs N i k k) 1 0 := kSum_1 _ hk

