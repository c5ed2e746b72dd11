/-! least sizes, plain: the greatest fixed point below 41, from both computations -/
set_option maxRecDepth 100000
def kLsum (N : KN) (g : Int → Int) (i : Int) (n : Nat) : Int := kSum (fun l => if N.2.2 i l = -6 then 0 else g (N.2.2 i l)) n
def kLmin (N : KN) (C : Int) (g : Int → Int) (i : Int) : Nat → Int
  | 0 => C
  | n + 1 => if N.2.2 i n = -6 then kLmin N C g i n else min (kLmin N C g i n) (g (N.2.2 i n))
/-- a node's size out of its parts' sizes -/
def kLv (N : KN) (C : Int) (g : Int → Int) (i : Int) : Int :=
  if N.2.1 i = 110 ∨ N.2.1 i = 116 ∨ N.2.1 i = 115 ∨ N.2.1 i = 42 then 1 else if N.2.1 i = 123 then 1 + kLsum N g i 8 else if N.2.1 i = 91 then kLmin N C g i 8 + 1 else C
def kRn (N : KN) (i : Int) : Prop := 0 ≤ i ∧ i < N.1
theorem kLsum_mono {N : KN} (hN : kWF N) {g f : Int → Int} (h : ∀ i, kRn N i → g i ≤ f i) {i : Int} (hi : kRn N i) : ∀ n : Nat, n ≤ 8 → kLsum N g i n ≤ kLsum N f i n := by
  intro n hn
  unfold kLsum
  refine kSum_mono (fun l h1 h2 => ?_)
  split
  · exact Int.le_refl _
  · rename_i q
    exact h _ (by have := hN.2.2.1 i l hi.1 hi.2 h1 (by omega); unfold kRn; omega)
theorem kLmin_mono {N : KN} (hN : kWF N) {C D : Int} (hCD : C ≤ D) {g f : Int → Int} (h : ∀ i, kRn N i → g i ≤ f i) {i : Int} (hi : kRn N i) : ∀ n : Nat, n ≤ 8 → kLmin N C g i n ≤ kLmin N D f i n
  | 0, _ => hCD
  | n + 1, hn => by
    have ih := kLmin_mono hN hCD h hi n (by omega)
    unfold kLmin
    split
    · exact ih
    · have := h (N.2.2 i n) (by have := hN.2.2.1 i n hi.1 hi.2 (by omega) (by omega); unfold kRn; omega)
      omega
theorem kLv_mono {N : KN} (hN : kWF N) {C D : Int} (hCD : C ≤ D) {g f : Int → Int} (h : ∀ i, kRn N i → g i ≤ f i) {i : Int} (hi : kRn N i) : kLv N C g i ≤ kLv N D f i := by
  have a := kLsum_mono hN h hi 8 (Nat.le_refl _)
  have b := kLmin_mono hN hCD h hi 8 (Nat.le_refl _)
  unfold kLv
  split
  · omega
  · split
    · omega
    · split
      · omega
      · exact hCD
theorem kLsum_pos {N : KN} (hN : kWF N) {g : Int → Int} (h : ∀ i, kRn N i → 0 ≤ g i) {i : Int} (hi : kRn N i) : ∀ n : Nat, n ≤ 8 → 0 ≤ kLsum N g i n
  | 0, _ => Int.le_refl _
  | n + 1, hn => by
    have ih := kLsum_pos hN h hi n (by omega)
    unfold kLsum at ih ⊢
    show 0 ≤ kSum _ n + (if N.2.2 i n = -6 then 0 else g (N.2.2 i n))
    split
    · omega
    · have := h (N.2.2 i n) (by have := hN.2.2.1 i n hi.1 hi.2 (by omega) (by omega); unfold kRn; omega)
      omega
theorem kLmin_pos {N : KN} (hN : kWF N) {C : Int} (hC : 0 ≤ C) {g : Int → Int} (h : ∀ i, kRn N i → 0 ≤ g i) {i : Int} (hi : kRn N i) : ∀ n : Nat, n ≤ 8 → 0 ≤ kLmin N C g i n ∧ kLmin N C g i n ≤ C
  | 0, _ => ⟨hC, Int.le_refl _⟩
  | n + 1, hn => by
    have ih := kLmin_pos hN hC h hi n (by omega)
    unfold kLmin
    split
    · exact ih
    · have := h (N.2.2 i n) (by have := hN.2.2.1 i n hi.1 hi.2 (by omega) (by omega); unfold kRn; omega)
      omega
/-- cut at 41 first or last -/
theorem kLsum_cut {N : KN} (hN : kWF N) {g : Int → Int} (h : ∀ i, kRn N i → 0 ≤ g i) {i : Int} (hi : kRn N i) : ∀ n : Nat, n ≤ 8 → min 41 (1 + kLsum N (fun j => min 41 (g j)) i n) = min 41 (1 + kLsum N g i n)
  | 0, _ => rfl
  | n + 1, hn => by
    have ih := kLsum_cut hN h hi n (by omega)
    have p1 := kLsum_pos hN h hi n (by omega)
    have p2 := kLsum_pos hN (g := fun j => min 41 (g j)) (fun j hj => by have := h j hj; omega) hi n (by omega)
    unfold kLsum at ih p1 p2 ⊢
    show min 41 (1 + (kSum _ n + (if N.2.2 i n = -6 then 0 else min 41 (g (N.2.2 i n))))) = min 41 (1 + (kSum _ n + (if N.2.2 i n = -6 then 0 else g (N.2.2 i n))))
    by_cases q : N.2.2 i n = -6
    · rw [if_pos q, if_pos q]
      omega
    · rw [if_neg q, if_neg q]
      have := h (N.2.2 i n) (by have := hN.2.2.1 i n hi.1 hi.2 (by omega) (by omega); unfold kRn; omega)
      omega
theorem kLmin_cut {N : KN} {C : Int} (hC : 41 ≤ C) {g : Int → Int} {i : Int} : ∀ n : Nat, kLmin N 41 (fun j => min 41 (g j)) i n = min 41 (kLmin N C g i n)
  | 0 => by show (41 : Int) = min 41 C; omega
  | n + 1 => by
    have ih := kLmin_cut (N := N) hC (g := g) (i := i) n
    unfold kLmin
    by_cases q : N.2.2 i n = -6
    · rw [if_pos q, if_pos q]
      exact ih
    · rw [if_neg q, if_neg q, ih]
      omega
theorem kLv_cut {N : KN} (hN : kWF N) {C : Int} (hC : 41 ≤ C) {g : Int → Int} (h : ∀ i, kRn N i → 0 ≤ g i) {i : Int} (hi : kRn N i) : min 41 (kLv N 41 (fun j => min 41 (g j)) i) = min 41 (kLv N C g i) := by
  have a := kLsum_cut hN h hi 8 (Nat.le_refl _)
  have b := kLmin_cut (N := N) hC (g := g) (i := i) 8
  unfold kLv
  split
  · rfl
  · split
    · exact a
    · split
      · rw [b]; omega
      · omega
/-- g holds the least sizes, cut at 41 -/
def kLst (N : KN) (g : Int → Int) : Prop := (∀ i, kRn N i → (0 ≤ g i ∧ g i ≤ 41) ∧ g i = min 41 (kLv N 41 g i)) ∧ ∀ f : Int → Int, (∀ i, kRn N i → (0 ≤ f i ∧ f i ≤ 41) ∧ f i = min 41 (kLv N 41 f i)) → ∀ i, kRn N i → f i ≤ g i
theorem kLst_uniq {N : KN} {g f : Int → Int} (h1 : kLst N g) (h2 : kLst N f) {i : Int} (hi : kRn N i) : g i = f i := by
  have a := h1.2 f h2.1 i hi
  have b := h2.2 g h1.1 i hi
  omega
/-- the component's sweep at node a: G0 as it began, G now -/
def kXL (N : KN) (G : Int → Int) : Prop := (∀ i, kRn N i → 0 ≤ G i ∧ G i ≤ 41) ∧ (∀ i, kRn N i → min 41 (kLv N 41 G i) ≤ G i) ∧ ∀ f : Int → Int, (∀ i, kRn N i → (0 ≤ f i ∧ f i ≤ 41) ∧ f i = min 41 (kLv N 41 f i)) → ∀ i, kRn N i → f i ≤ G i
def kEx (N : KN) (G0 G : Int → Int) : Prop := ∃ i, kRn N i ∧ G i < G0 i
def kXLs (N : KN) (G0 G : Int → Int) (a mr : Int) : Prop := kXL N G ∧ (∀ i, kRn N i → G i ≤ G0 i) ∧ ((mr = 0 ∧ (∀ i, kRn N i → G i = G0 i) ∧ ∀ i, kRn N i → i < a → G0 i = min 41 (kLv N 41 G0 i)) ∨ (mr = 1 ∧ kEx N G0 G))
theorem kLv_pos {N : KN} (hN : kWF N) {C : Int} (hC : 0 ≤ C) {g : Int → Int} (h : ∀ i, kRn N i → 0 ≤ g i) {i : Int} (hi : kRn N i) : 0 ≤ kLv N C g i := by
  have a := kLsum_pos hN h hi 8 (Nat.le_refl _)
  have b := kLmin_pos hN hC h hi 8 (Nat.le_refl _)
  unfold kLv
  split
  · omega
  · split
    · omega
    · split <;> omega
theorem kLv_congr {N : KN} (hN : kWF N) {C : Int} {g f : Int → Int} (h : ∀ i, kRn N i → g i = f i) {i : Int} (hi : kRn N i) : kLv N C g i = kLv N C f i :=
  Int.le_antisymm (kLv_mono hN (Int.le_refl _) (fun j hj => Int.le_of_eq (h j hj)) hi) (kLv_mono hN (Int.le_refl _) (fun j hj => Int.le_of_eq (h j hj).symm) hi)
/-- a node of the component's sweep -/
theorem kXLs_set {N : KN} (hN : kWF N) {G0 G G' : Int → Int} {a mr v mr' : Int} (h : kXLs N G0 G a mr) (ha : kRn N a) (hv : v = min 41 (kLv N 41 G a)) (hG : ∀ i, kRn N i → G' i = if i = a then v else G i) (hm : (G a ≤ v ∧ mr' = mr) ∨ (v < G a ∧ mr' = 1)) : kXLs N G0 G' (a + 1) mr' := by
  obtain ⟨⟨h1, h2, h3⟩, h4, h5⟩ := h
  have hva : v ≤ G a := by rw [hv]; exact h2 a ha
  have hle : ∀ i, kRn N i → G' i ≤ G i := by
    intro i hi
    rw [hG i hi]
    split
    · rename_i q; subst q; exact hva
    · exact Int.le_refl _
  have hp := kLv_pos hN (C := 41) (by omega) (fun i hi => (h1 i hi).1) ha
  refine ⟨⟨fun i hi => ?_, fun i hi => ?_, fun f hf i hi => ?_⟩, fun i hi => ?_, ?_⟩
  · rw [hG i hi]
    split
    · omega
    · exact h1 i hi
  · have m := kLv_mono hN (Int.le_refl 41) hle hi
    by_cases q : i = a
    · subst q
      rw [hG i hi, if_pos rfl]
      omega
    · have := h2 i hi
      rw [hG i hi, if_neg q]
      omega
  · have := h3 f hf
    by_cases q : i = a
    · subst q
      have m := kLv_mono hN (Int.le_refl 41) this hi
      have := (hf i hi).2
      rw [hG i hi, if_pos rfl]
      omega
    · rw [hG i hi, if_neg q]
      exact this i hi
  · have := hle i hi
    have := h4 i hi
    omega
  · rcases hm with ⟨m1, m2⟩ | ⟨m1, m2⟩
    · rcases h5 with ⟨r, r1, r2⟩ | ⟨r, j, r1, r2⟩
      · have same : ∀ i, kRn N i → G' i = G i := by
          intro i hi
          rw [hG i hi]
          split
          · rename_i q; subst q; omega
          · rfl
        refine Or.inl ⟨by omega, fun i hi => by rw [same i hi]; exact r1 i hi, fun i hi hia => ?_⟩
        by_cases q : i = a
        · subst q
          rw [← kLv_congr hN r1 hi, ← r1 i hi]
          omega
        · exact r2 i hi (by omega)
      · exact Or.inr ⟨by omega, j, r1, by have := hle j r1; omega⟩
    · refine Or.inr ⟨m2, a, ha, ?_⟩
      rw [hG a ha, if_pos rfl]
      have := h4 a ha
      omega
theorem kXLs_end {N : KN} (hN : kWF N) {G0 G : Int → Int} {mr : Int} (h : kXLs N G0 G N.1 mr) : kXL N G ∧ ((mr = 0 ∧ kLst N G) ∨ (mr = 1 ∧ kSum G N.1.toNat < kSum G0 N.1.toNat)) := by
  obtain ⟨h1, h4, h5⟩ := h
  refine ⟨h1, ?_⟩
  rcases h5 with ⟨r, r1, r2⟩ | ⟨r, j, r1, r2⟩
  · refine Or.inl ⟨r, fun i hi => ⟨h1.1 i hi, ?_⟩, h1.2.2⟩
    rw [r1 i hi, kLv_congr hN r1 hi]
    exact r2 i hi hi.2
  · exact Or.inr ⟨r, kSum_lt (fun k k1 k2 => h4 k ⟨k1, by omega⟩) ⟨r1.1, by have := r1.2; omega⟩ r2⟩
/-- the reference's sweep -/
def kML (N : KN) (G : Int → Int) : Prop := (∀ i, kRn N i → 0 ≤ G i ∧ G i ≤ 100000) ∧ (∀ i, kRn N i → min 100000 (kLv N 100000 G i) ≤ G i) ∧ ∀ f : Int → Int, (∀ i, kRn N i → (0 ≤ f i ∧ f i ≤ 41) ∧ f i = min 41 (kLv N 41 f i)) → ∀ i, kRn N i → f i ≤ G i
def kMLs (N : KN) (G0 G : Int → Int) (a mr : Int) : Prop := kML N G ∧ (∀ i, kRn N i → G i ≤ G0 i) ∧ ((mr = 0 ∧ (∀ i, kRn N i → G i = G0 i) ∧ ∀ i, kRn N i → i < a → G0 i ≤ kLv N 100000 G0 i) ∨ (mr = 1 ∧ kEx N G0 G))
theorem kMLs_set {N : KN} (hN : kWF N) {G0 G G' : Int → Int} {a mr v : Int} (h : kMLs N G0 G a mr) (ha : kRn N a) (hv : v = kLv N 100000 G a) (hlt : v < G a) (hG : ∀ i, kRn N i → G' i = if i = a then v else G i) : kMLs N G0 G' (a + 1) 1 := by
  obtain ⟨⟨h1, h2, h3⟩, h4, h5⟩ := h
  have hle : ∀ i, kRn N i → G' i ≤ G i := by
    intro i hi
    rw [hG i hi]
    split
    · rename_i q; subst q; omega
    · exact Int.le_refl _
  have hp := kLv_pos hN (C := 100000) (by omega) (fun i hi => (h1 i hi).1) ha
  have h1a := h1 a ha
  refine ⟨⟨fun i hi => ?_, fun i hi => ?_, fun f hf i hi => ?_⟩, fun i hi => ?_, ?_⟩
  · rw [hG i hi]
    split
    · omega
    · exact h1 i hi
  · have m := kLv_mono hN (Int.le_refl 100000) hle hi
    by_cases q : i = a
    · subst q
      rw [hG i hi, if_pos rfl]
      omega
    · have := h2 i hi
      rw [hG i hi, if_neg q]
      omega
  · have := h3 f hf
    by_cases q : i = a
    · subst q
      have m := kLv_mono hN (show (41 : Int) ≤ 100000 by omega) this hi
      have := (hf i hi).2
      rw [hG i hi, if_pos rfl]
      omega
    · rw [hG i hi, if_neg q]
      exact this i hi
  · have := hle i hi
    have := h4 i hi
    omega
  · refine Or.inr ⟨rfl, a, ha, ?_⟩
    rw [hG a ha, if_pos rfl]
    have := h4 a ha
    omega
theorem kMLs_skip {N : KN} (hN : kWF N) {G0 G : Int → Int} {a mr : Int} (h : kMLs N G0 G a mr) (hge : kRn N a → G a ≤ kLv N 100000 G a) : kMLs N G0 G (a + 1) mr := by
  obtain ⟨h1, h4, h5⟩ := h
  refine ⟨h1, h4, ?_⟩
  rcases h5 with ⟨r, r1, r2⟩ | ⟨r, j, r1, r2⟩
  · refine Or.inl ⟨r, r1, fun i hi hia => ?_⟩
    by_cases q : i = a
    · subst q
      rw [← kLv_congr hN r1 hi, ← r1 i hi]
      exact hge hi
    · exact r2 i hi (by omega)
  · exact Or.inr ⟨r, j, r1, r2⟩
theorem kMLs_end {N : KN} (hN : kWF N) {G0 G : Int → Int} {mr : Int} (h : kMLs N G0 G N.1 mr) : kML N G ∧ ((mr = 0 ∧ kLst N (fun i => min 41 (G i))) ∨ (mr = 1 ∧ kSum G N.1.toNat < kSum G0 N.1.toNat)) := by
  obtain ⟨h1, h4, h5⟩ := h
  refine ⟨h1, ?_⟩
  rcases h5 with ⟨r, r1, r2⟩ | ⟨r, j, r1, r2⟩
  · refine Or.inl ⟨r, fun i hi => ⟨?_, ?_⟩, fun f hf i hi => ?_⟩
    · have := h1.1 i hi
      dsimp only
      omega
    · have e := kLv_cut hN (show (41 : Int) ≤ 100000 by omega) (fun i hi => (h1.1 i hi).1) hi
      rw [e]
      have a := h1.2.1 i hi
      have b := r2 i hi hi.2
      rw [← kLv_congr hN r1 hi, ← r1 i hi] at b
      dsimp only
      omega
    · have := h1.2.2 f hf i hi
      have := (hf i hi).1.2
      dsimp only
      omega
  · exact Or.inr ⟨r, kSum_lt (fun k k1 k2 => h4 k ⟨k1, by omega⟩) ⟨r1.1, by have := r1.2; omega⟩ r2⟩
theorem kXL_0 {N : KN} {G : Int → Int} (h : ∀ i, kRn N i → G i = 41) : kXL N G :=
  ⟨fun i hi => by rw [h i hi]; omega, fun i hi => by rw [h i hi]; omega, fun f hf i hi => by rw [h i hi]; exact (hf i hi).1.2⟩
theorem kML_0 {N : KN} {G : Int → Int} (h : ∀ i, kRn N i → G i = 100000) : kML N G :=
  ⟨fun i hi => by rw [h i hi]; omega, fun i hi => by rw [h i hi]; omega, fun f hf i hi => by rw [h i hi]; have := (hf i hi).1.2; omega⟩
theorem kXLs_0 {N : KN} {G : Int → Int} (h : kXL N G) : kXLs N G G 0 0 := ⟨h, fun _ _ => Int.le_refl _, Or.inl ⟨rfl, fun _ _ => rfl, fun i hi hi0 => by have := hi.1; omega⟩⟩
theorem kMLs_0 {N : KN} {G : Int → Int} (h : kML N G) : kMLs N G G 0 0 := ⟨h, fun _ _ => Int.le_refl _, Or.inl ⟨rfl, fun _ _ => rfl, fun i hi hi0 => by have := hi.1; omega⟩⟩
theorem kSum_nn {g : Int → Int} {n : Nat} (h : ∀ k : Int, 0 ≤ k → k < n → 0 ≤ g k) : 0 ≤ kSum g n := by
  induction n with
  | zero => exact Int.le_refl _
  | succ n ih =>
    have a := ih (fun k h1 h2 => h k h1 (by omega))
    have b := h n (by omega) (by omega)
    show 0 ≤ kSum g n + g n
    omega

