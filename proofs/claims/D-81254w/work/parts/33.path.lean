/-! the way down from two that do not fit: plain -/
set_option maxRecDepth 100000
/-- c is the first step down from two that fall in round v > 0 -/
def kDn (N : KN) (i k c : Int) : Prop := (0 ≤ c ∧ c < 11) ∧ ∃ v, kFN N i k v ∧ 0 < v ∧ (kStep N i k c).1 ≠ -6 ∧ kFN N (kStep N i k c).1 (kStep N i k c).2 (v - 1) ∧
  ∀ d, 0 ≤ d → d < c → (kStep N i k d).1 ≠ -6 → ¬ kFN N (kStep N i k d).1 (kStep N i k d).2 (v - 1)
theorem kDn_uniq {N : KN} {i k c d : Int} (h1 : kDn N i k c) (h2 : kDn N i k d) : c = d := by
  obtain ⟨a1, v, a2, a3, a4, a5, a6⟩ := h1
  obtain ⟨b1, u, b2, b3, b4, b5, b6⟩ := h2
  have e := kFN_uniq a2 b2
  subst e
  rcases Int.lt_trichotomy c d with q | q | q
  · exact absurd a5 (b6 c a1.1 q a4)
  · exact q
  · exact absurd b5 (a6 d b1.1 q b4)
/-- some step goes down -/
theorem kDn_ex {N : KN} {i k v : Int} (h : kFN N i k v) (hv : 0 < v) : ∃ c, (0 ≤ c ∧ c < 11) ∧ (kStep N i k c).1 ≠ -6 ∧ kFN N (kStep N i k c).1 (kStep N i k c).2 (v - 1) := by
  rcases h with ⟨e, -⟩ | ⟨p, a, b⟩
  · omega
  · have e : v.toNat = (v - 1).toNat + 1 := by omega
    rw [e] at a
    rcases a with a | ⟨c, c1, c2, c3, c4⟩
    · exact absurd a (b _ (by omega))
    · refine ⟨c, ⟨c1, c2⟩, c3, Or.inr ⟨by omega, c4, fun s hs q => ?_⟩⟩
      exact b (s + 1) (by omega) (Or.inr ⟨c, c1, c2, c3, q⟩)
/-- (a, b) is where j steps down lead from (i, k) -/
def kPath (N : KN) : Nat → Int → Int → Int → Int → Prop
  | 0, i, k, a, b => a = i ∧ b = k
  | j + 1, i, k, a, b => ∃ a1 b1 c, kPath N j i k a1 b1 ∧ kDn N a1 b1 c ∧ a = (kStep N a1 b1 c).1 ∧ b = (kStep N a1 b1 c).2
theorem kPath_uniq {N : KN} {j : Nat} {i k a b x y : Int} (h1 : kPath N j i k a b) (h2 : kPath N j i k x y) : a = x ∧ b = y := by
  induction j generalizing a b x y with
  | zero => exact ⟨h1.1.trans h2.1.symm, h1.2.trans h2.2.symm⟩
  | succ j ih =>
    obtain ⟨a1, b1, c, p1, p2, p3, p4⟩ := h1
    obtain ⟨x1, y1, d, q1, q2, q3, q4⟩ := h2
    obtain ⟨rfl, rfl⟩ := ih p1 q1
    have := kDn_uniq p2 q2
    subst this
    exact ⟨p3.trans q3.symm, p4.trans q4.symm⟩
theorem kDn_to {N : KN} (hN : kWF N) {i k c v : Int} (hik : kIn2 N i k) (h : kDn N i k c) (hv : kFN N i k v) : 0 < v ∧ kIn2 N (kStep N i k c).1 (kStep N i k c).2 ∧ kFN N (kStep N i k c).1 (kStep N i k c).2 (v - 1) := by
  obtain ⟨a1, u, a2, a3, a4, a5, a6⟩ := h
  have e := kFN_uniq hv a2
  subst e
  refine ⟨a3, ?_, a5⟩
  rcases kStep_in hN hik a1 with q | q
  · rw [q] at a4; exact absurd rfl a4
  · exact q.2
theorem kPath_to {N : KN} (hN : kWF N) {j : Nat} {i k a b v : Int} (hik : kIn2 N i k) (h : kPath N j i k a b) (hv : kFN N i k v) : kIn2 N a b ∧ kFN N a b (v - j) := by
  induction j generalizing a b with
  | zero =>
    obtain ⟨rfl, rfl⟩ := h
    exact ⟨hik, by simpa using hv⟩
  | succ j ih =>
    obtain ⟨a1, b1, c, p1, p2, rfl, rfl⟩ := h
    obtain ⟨q1, q2⟩ := ih p1
    obtain ⟨z1, z2, z3⟩ := kDn_to hN q1 p2 q2
    refine ⟨z2, ?_⟩
    rw [show v - ((j + 1 : Nat) : Int) = v - j - 1 by omega]
    exact z3
/-- the answer of way -/
def kWay (N : KN) (i k j z : Int) : Prop := ∃ v, kFN N i k v ∧ ((v = -6 ∧ z = -6) ∨ (0 ≤ v ∧ j = -1 ∧ z = v) ∨ ((0 ≤ j ∧ j < v) ∧ ∃ a b, kPath N j.toNat i k a b ∧ kDn N a b z) ∨ (0 ≤ v ∧ (j < -1 ∨ v ≤ j) ∧ z = -6))
theorem kWay_uniq {N : KN} {i k j z u : Int} (h1 : kWay N i k j z) (h2 : kWay N i k j u) : z = u := by
  obtain ⟨v, a1, a2⟩ := h1
  obtain ⟨v', b1, b2⟩ := h2
  have e := kFN_uniq a1 b1
  subst e
  rcases a2 with a | a | ⟨a, x, y, p, q⟩ | a <;> rcases b2 with b | b | ⟨b, x', y', p', q'⟩ | b
  all_goals first | omega | skip
  obtain ⟨rfl, rfl⟩ := kPath_uniq p p'
  exact kDn_uniq q q'
/-- the answer of end -/
def kEndA (N : KN) (i k z : Int) : Prop := ∃ v, kFN N i k v ∧ ((v = -6 ∧ z = -6) ∨ (0 ≤ v ∧ ∃ a b, kPath N v.toNat i k a b ∧ z = 100 * a + b))
theorem kEndA_uniq {N : KN} {i k z u : Int} (h1 : kEndA N i k z) (h2 : kEndA N i k u) : z = u := by
  obtain ⟨v, a1, a2⟩ := h1
  obtain ⟨v', b1, b2⟩ := h2
  have e := kFN_uniq a1 b1
  subst e
  rcases a2 with a | ⟨a, x, y, p, q⟩ <;> rcases b2 with b | ⟨b, x', y', p', q'⟩
  all_goals first | omega | skip
  obtain ⟨rfl, rfl⟩ := kPath_uniq p p'
  omega

