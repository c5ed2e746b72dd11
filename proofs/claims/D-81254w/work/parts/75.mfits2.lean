/-! KindNetsModel: fits -/
set_option maxRecDepth 100000
def kMf (M M' : KM) : Prop := (∀ t, t ≠ 30 → t ≠ 47 → t ≠ 48 → t ≠ 49 → t ≠ 50 → M' t = M t) ∧ ∀ i k, k ≠ 24 → k ≠ 27 → M' 30 i k = M 30 i k
theorem kMf.of {M M' : KM} (h : kSf M M') : kMf M M' := ⟨fun t a b c _ _ => h.1 t a b c, h.2⟩
theorem kMf.up {M M' : KM} {t : Nat} {i k z : Int} (h : kMf M M') (ht : t = 47 ∨ t = 49 ∨ t = 50) : kMf M (kUp M' t i k z) := ⟨fun t' a b c d e => by rw [kUp_t (by omega)]; exact h.1 t' a b c d e, fun i' k' h1 h2 => by rw [kUp_ne (by omega)]; exact h.2 i' k' h1 h2⟩
theorem kMf.sl {M M' : KM} {i z : Int} (h : kMf M M') : kMf M (kUp M' 30 i 27 z) := ⟨fun t' a b c d e => by rw [kUp_t a]; exact h.1 t' a b c d e, fun i' k' h1 h2 => by rw [kUp_nk (by omega)]; exact h.2 i' k' h1 h2⟩
theorem kInn_nx {M : KM} {Q : KVS} {i o x : Int} (hp : 0 < M 30 0 27) (hB : M 49 0 (M 30 0 27 - 1) = kMn (kMnet M) Q i o) (ho : 0 ≤ o) (hx : 0 ≤ x ∧ x < 8) (hm : kMo (kMnet M) Q i o = -6 ∨ (0 ≤ kMo (kMnet M) Q i o ∧ kMo (kMnet M) Q i o < M 30 0 2)) : kInn M x = kNx (kMnet M) Q i o x := by
  unfold kInn kNx
  rw [if_neg (show ¬ M 30 0 27 = 0 by omega), if_neg (show ¬ o < 0 by omega), hB]
  unfold kMn
  by_cases c : kMo (kMnet M) Q i o < 0 ∨ (kMnet M).2.1 (kMo (kMnet M) Q i o) = 46
  · rw [if_pos c, if_pos (by omega), if_pos c]
  · have hr : 0 ≤ kMo (kMnet M) Q i o ∧ kMo (kMnet M) Q i o < M 30 0 2 := by
      rcases hm with z | z
      · exact absurd (Or.inl (by omega)) c
      · exact z
    rw [if_neg c, if_neg (show ¬ kMo (kMnet M) Q i o < 0 by omega), if_neg c, kMnet_s hr, kMnet_p hr (by omega), kMnet_p hr hx, Int.add_zero]
/-- no fault below: open values fit -/
theorem kErr_fit {N : KN} {T : Int → Int} {n k : Nat} {i v : Int} (hg : vGd T n) (hk : k ≤ n) (h : ∀ z, z < (k : Int) → ¬ kErr N T n i z) (v0 : 0 ≤ v) (v1 : v < vMn (vRun T k)) : ¬ kMis N T (vRun T n) i v := by
  intro hm
  have hs := vSm_ab hg hk (Nat.le_refl n)
  have h1 := hs.2 v v0 v1
  have h2 := ((vOk_run (T := T) k).2.2.2.1 v v0 v1).1.2
  exact h (vAt (vRun T n) v) (by rw [h1.1]; exact h2) ⟨v, ⟨v0, by have := hs.1; omega⟩, Or.inl ⟨rfl, hm⟩⟩
/-- what a nest that fits is of -/
theorem kFit_nest {N : KN} {T : Int → Int} {Q : KVS} {i v : Int} (h : ¬ kMis N T Q i v) (ha : ¬ (kMo N Q i v < 0 ∨ N.2.1 (kMo N Q i v) = 46)) : (T (vAt Q v) = 123 → N.2.1 (kMo N Q i v) = 123) ∧ (T (vAt Q v) = 91 → N.2.1 (kMo N Q i v) = 91) ∧ (T (vAt Q v) = 40 → N.2.1 (kMo N Q i v) = 42) := by
  have io : kIsOf N (kMo N Q i v) (T (vAt Q v)) (T (vAt Q v + 1) - 97) := Classical.byContradiction fun x => h ⟨ha, x⟩
  unfold kIsOf at io
  rcases io with io | io | io | io | io | io
  all_goals refine ⟨fun z => ?_, fun z => ?_, fun z => ?_⟩
  all_goals omega
theorem kNx_rng {N : KN} {Q : KVS} {i o x : Int} (hN : kWF N) (hout : ∀ i l, ¬ (0 ≤ l ∧ l < 8) → N.2.2 i l = -6) (hi : 0 ≤ i ∧ i < N.1) (hm : 0 ≤ o → kMo N Q i o = -6 ∨ (0 ≤ kMo N Q i o ∧ kMo N Q i o < N.1)) : kNx N Q i o x = -6 ∨ (0 ≤ kNx N Q i o x ∧ kNx N Q i o x < N.1) := by
  unfold kNx
  by_cases c : o < 0
  · rw [if_pos c]; exact Or.inr hi
  · rw [if_neg c]
    by_cases c2 : kMo N Q i o < 0 ∨ N.2.1 (kMo N Q i o) = 46
    · rw [if_pos c2]; exact Or.inl rfl
    · rw [if_neg c2]
      have ir : 0 ≤ kMo N Q i o ∧ kMo N Q i o < N.1 := by
        have c3 : ¬ kMo N Q i o < 0 := fun z => c2 (Or.inl z)
        have := hm (by omega)
        omega
      split
      · exact hN.2.2.1 _ 0 ir.1 ir.2 (by omega) (by omega)
      · by_cases c4 : 0 ≤ x ∧ x < 8
        · exact hN.2.2.1 _ _ ir.1 ir.2 c4.1 c4.2
        · exact Or.inl (hout _ _ c4)
theorem kMf.net {M M' : KM} (h : kMf M M') : kMnet M' = kMnet M := by
  unfold kMnet
  rw [h.1 32 (by decide) (by decide) (by decide) (by decide) (by decide), h.1 33 (by decide) (by decide) (by decide) (by decide) (by decide), h.2 0 2 (by decide) (by decide)]
theorem kMn_rng {N : KN} {Q : KVS} {i v b : Int} (h : kMo N Q i v = -6 ∨ (0 ≤ kMo N Q i v ∧ kMo N Q i v < b)) (hb : 0 ≤ b) : kMn N Q i v = -6 ∨ (0 ≤ kMn N Q i v ∧ kMn N Q i v < b) := by
  unfold kMn
  by_cases c : kMo N Q i v < 0 ∨ N.2.1 (kMo N Q i v) = 46
  · rw [if_pos c]; exact Or.inl rfl
  · rw [if_neg c]; exact h

