/-! KindNetsModel: slipOf, slip, size -/
set_option maxRecDepth 100000
theorem kUp_fU {M : KM} {t : Nat} {i k v : Int} : kUp M t i k v t i = fU (M t i) k v := by
  funext j
  by_cases e : j = k
  · rw [e, kUp_eq, fU_eq]
  · rw [kUp_nk e, fU_ne e]
/-- the pile A, with its last letters B, is the chain C of the open values of q -/
def kPl (A B : Int → Int) (T : Int → Int) (q : KVS) (C : Int → Int) (p : Int) : Prop := 0 ≤ p ∧ ((p = 0 ∧ vOp q = -1) ∨ (0 < p ∧ vOp q = C (p - 1))) ∧
  (∀ i, 0 ≤ i → i < p → i ≤ C i ∧ vUp q (C i) = (if i = 0 then -1 else C (i - 1)) ∧ A i = T (vAt q (C i)) ∧ (T (vAt q (C i)) = 123 → B i = vLa q (C i))) ∧ ∀ i j, 0 ≤ i → i < j → j < p → C i < C j
theorem kPl_le {A B T C : Int → Int} {q : KVS} {p i : Int} (h : kPl A B T q C p) (h0 : 0 ≤ i) (h1 : i < p) : C i ≤ vOp q := by
  obtain ⟨a, b, c, d⟩ := h
  have b1 : vOp q = C (p - 1) := by omega
  by_cases e : i = p - 1
  · rw [e, b1]; exact Int.le_refl _
  · have := d i (p - 1) h0 (by omega) (by omega)
    omega
theorem kPl_p {A B T C : Int → Int} {q : KVS} {p : Int} (h : kPl A B T q C p) (ho : -1 ≤ vOp q ∧ vOp q < vMn q) : p ≤ vMn q ∧ p ≤ vOp q + 1 := by
  obtain ⟨a, b, c, d⟩ := h
  rcases b with b | b
  · omega
  · have := (c (p - 1) (by omega) (by omega)).1
    omega
theorem kPl_leaf {A B T C : Int → Int} {q : KVS} {p k x ltr s1 : Int} (h : kPl A B T q C p) (ho : vOp q < vMn q) : kPl A B T (vBeg T q k x ltr (vOp q) s1) C p := by
  have H := fun i h0 h1 => kPl_le (i := i) h h0 h1
  obtain ⟨a, b, c, d⟩ := h
  refine ⟨a, b, fun i i1 i2 => ?_, d⟩
  have := H i i1 i2
  have e : C i ≠ vMn q := by omega
  show i ≤ C i ∧ fU (vUp q) (vMn q) (vOp q) (C i) = _ ∧ A i = T (fU (vAt q) (vMn q) k (C i)) ∧ (T (fU (vAt q) (vMn q) k (C i)) = 123 → B i = fU (vLa q) (vMn q) (-1) (C i))
  rw [fU_ne e, fU_ne e, fU_ne e]
  exact c i i1 i2
theorem kPl_nest {A B T C : Int → Int} {q : KVS} {p k x ltr s1 : Int} (h : kPl A B T q C p) (ho : -1 ≤ vOp q ∧ vOp q < vMn q) (hx : x = T k) : kPl (fU A p x) (fU B p (-1)) T (vBeg T q k x ltr (vMn q) s1) (fU C p (vMn q)) (p + 1) := by
  have H := fun i h0 h1 => kPl_le (i := i) h h0 h1
  have hp := (kPl_p h ho).1
  obtain ⟨a, b, c, d⟩ := h
  refine ⟨by omega, Or.inr ⟨by omega, ?_⟩, fun i i1 i2 => ?_, fun i j i1 i2 i3 => ?_⟩
  · show vMn q = _
    rw [show p + 1 - 1 = p by omega, fU_eq]
  · show i ≤ fU C p (vMn q) i ∧ fU (vUp q) (vMn q) (vOp q) (fU C p (vMn q) i) = (if i = 0 then -1 else fU C p (vMn q) (i - 1)) ∧ fU A p x i = T (fU (vAt q) (vMn q) k (fU C p (vMn q) i)) ∧ (T (fU (vAt q) (vMn q) k (fU C p (vMn q) i)) = 123 → fU B p (-1) i = fU (vLa q) (vMn q) (-1) (fU C p (vMn q) i))
    by_cases e : i = p
    · rw [e, fU_eq, fU_eq, fU_eq, fU_eq, fU_eq, fU_eq]
      refine ⟨hp, ?_, hx, fun _ => rfl⟩
      rw [fU_ne (show p - 1 ≠ p by omega)]
      by_cases z : p = 0
      · rw [if_pos z]; omega
      · rw [if_neg z]; omega
    · have := H i i1 (by omega)
      have g : C i ≠ vMn q := by omega
      rw [fU_ne e, fU_ne (show i - 1 ≠ p by omega), fU_ne e, fU_ne e, fU_ne g, fU_ne g, fU_ne g]
      exact c i i1 (by omega)
  · rw [fU_ne (show i ≠ p by omega)]
    by_cases e : j = p
    · rw [e, fU_eq]
      have := H i i1 (by omega)
      omega
    · rw [fU_ne e]
      exact d i j i1 i2 (by omega)
theorem kPl_clo {A B T C : Int → Int} {q : KVS} {p : Int} (h : kPl A B T q C p) (h0 : 0 < p) : kPl A B T (vClo T q) C (p - 1) := by
  obtain ⟨a, b, c, d⟩ := h
  have b1 : vOp q = C (p - 1) := by omega
  refine ⟨by omega, ?_, fun i i1 i2 => c i i1 (by omega), fun i j i1 i2 i3 => d i j i1 i2 (by omega)⟩
  have := (c (p - 1) (by omega) (by omega)).2.1
  show (p - 1 = 0 ∧ vUp q (vOp q) = -1) ∨ (0 < p - 1 ∧ vUp q (vOp q) = C (p - 1 - 1))
  rw [b1, this]
  by_cases z : p - 1 = 0
  · rw [if_pos z]; exact Or.inl ⟨z, rfl⟩
  · rw [if_neg z]; exact Or.inr ⟨by omega, rfl⟩
theorem kPl_tak {A B T C : Int → Int} {q : KVS} {p x : Int} (h : kPl A B T q C p) (h0 : 0 < p) : kPl A (fU B (p - 1) (x - 97)) T (vTak q x) C p := by
  obtain ⟨a, b, c, d⟩ := h
  have b1 : vOp q = C (p - 1) := by omega
  refine ⟨a, b, fun i i1 i2 => ?_, d⟩
  obtain ⟨c1, c2, c3, c4⟩ := c i i1 i2
  refine ⟨c1, c2, c3, fun z => ?_⟩
  show _ = fU (vLa q) (vOp q) (x - 97) (C i)
  by_cases e : i = p - 1
  · rw [e, b1, fU_eq, fU_eq]
  · have := d i (p - 1) i1 (by omega) (by omega)
    rw [fU_ne e, fU_ne (by omega)]
    exact c4 z
theorem kPl_tak3 {A B T C : Int → Int} {q : KVS} {p x : Int} (h : kPl A B T q C p) (hT : T (vAt q (vOp q)) ≠ 123) : kPl A B T (vTak q x) C p := by
  obtain ⟨a, b, c, d⟩ := h
  refine ⟨a, b, fun i i1 i2 => ?_, d⟩
  obtain ⟨c1, c2, c3, c4⟩ := c i i1 i2
  refine ⟨c1, c2, c3, fun z => ?_⟩
  show _ = fU (vLa q) (vOp q) (x - 97) (C i)
  by_cases e : C i = vOp q
  · have z : T (vAt q (C i)) = 123 := z
    rw [e] at z
    exact absurd z hT
  · rw [fU_ne e]
    exact c4 z
theorem kPl_beh {A B T C : Int → Int} {q : KVS} {p : Int} (h : kPl A B T q C p) (ho : -1 ≤ vOp q) : (p = 0 ∧ vBeh T (vOp q) (vAt q) = 6) ∨ (0 < p ∧ A (p - 1) = 123 ∧ vBeh T (vOp q) (vAt q) = 2) ∨ (0 < p ∧ A (p - 1) = 91 ∧ vBeh T (vOp q) (vAt q) = 4) ∨ (0 < p ∧ (A (p - 1) ≠ 123 ∧ A (p - 1) ≠ 91) ∧ vBeh T (vOp q) (vAt q) = 5) := by
  obtain ⟨a, b, c, d⟩ := h
  have hb := vBeh_ok T (vOp q) (vAt q)
  rcases b with b | b
  · have : ¬ 0 ≤ vOp q := by omega
    rcases hb with hb | hb | hb | hb
    · exact Or.inl ⟨b.1, hb.2⟩
    · exact absurd hb.1 this
    · exact absurd hb.1 this
    · exact absurd hb.1 this
  · obtain ⟨c1, -, c3, -⟩ := c (p - 1) (by omega) (by omega)
    rw [← b.2] at c3 c1
    rw [c3]
    rcases hb with hb | hb | hb | hb
    · omega
    · exact Or.inr (Or.inl ⟨b.1, hb.2⟩)
    · exact Or.inr (Or.inr (Or.inl ⟨b.1, hb.2⟩))
    · exact Or.inr (Or.inr (Or.inr ⟨b.1, hb.2⟩))
/-- cells that slipOf leaves -/
def kSf (M M' : KM) : Prop := (∀ t, t ≠ 30 → t ≠ 47 → t ≠ 48 → M' t = M t) ∧ ∀ i k, k ≠ 24 → k ≠ 27 → M' 30 i k = M 30 i k
theorem kSf.rf {M : KM} : kSf M M := ⟨fun _ _ _ _ => rfl, fun _ _ _ _ => rfl⟩
theorem kSf.up {M M' : KM} {t : Nat} {i k z : Int} (h : kSf M M') (ht : t = 47 ∨ t = 48) : kSf M (kUp M' t i k z) := ⟨fun t' h1 h2 h3 => by rw [kUp_t (by omega)]; exact h.1 t' h1 h2 h3, fun i' k' h1 h2 => by rw [kUp_ne (by omega)]; exact h.2 i' k' h1 h2⟩
theorem kSf.sl {M M' : KM} {i k z : Int} (h : kSf M M') (ht : k = 24 ∨ k = 27) : kSf M (kUp M' 30 i k z) := ⟨fun t' h1 h2 h3 => by rw [kUp_t h1]; exact h.1 t' h1 h2 h3, fun i' k' h1 h2 => by rw [kUp_nk (by omega)]; exact h.2 i' k' h1 h2⟩
theorem kSf.tr {M M1 M2 : KM} (h : kSf M M1) (g : kSf M1 M2) : kSf M M2 := ⟨fun t h1 h2 h3 => (g.1 t h1 h2 h3).trans (h.1 t h1 h2 h3), fun i k h1 h2 => (g.2 i k h1 h2).trans (h.2 i k h1 h2)⟩
/-- pile and count of values are those of q -/
def kPV (M : KM) (T : Int → Int) (q : KVS) : Prop := M 30 0 24 = vMn q ∧ ∃ C, kPl (M 47 0) (M 48 0) T q C (M 30 0 27)
theorem kPl_top {A B T C : Int → Int} {q : KVS} {p : Int} (h : kPl A B T q C p) (h0 : 0 ≤ vOp q) : 0 < p ∧ (T (vAt q (vOp q)) = 123 → B (p - 1) = vLa q (vOp q)) := by
  obtain ⟨a, b, c, d⟩ := h
  have b1 : 0 < p ∧ vOp q = C (p - 1) := by omega
  refine ⟨b1.1, fun z => ?_⟩
  rw [b1.2] at z ⊢
  exact (c (p - 1) (by omega) (by omega)).2.2.2 z
theorem kUp_id {M : KM} {t : Nat} {i k : Int} : kUp M t i k (M t i k) = M := by
  funext t' i' k'
  unfold kUp
  split
  · rename_i z
    rw [z.1, z.2.1, z.2.2]
  · rfl
theorem kPV_v {M : KM} {T : Int → Int} {q : KVS} (h : M 30 0 24 + 1 = vMn q) (hC : ∃ C, kPl (M 47 0) (M 48 0) T q C (M 30 0 27)) : kPV (kUp M 30 0 24 (M 30 0 24 + 1)) T q := by
  refine ⟨by rw [kUp_eq]; exact h, ?_⟩
  rw [kUp_t (t' := 47) (by decide), kUp_t (t' := 48) (by decide), kUp_nk (by decide)]
  exact hC
section
variable {l : Launch} {w : KL} {h : Nat} {post : Int → KM → Prop}
theorem m_X4_slipOf (hh : 2 ≤ h) (hI : kInj w) (M : KM) (hn : 0 ≤ M 30 0 0 ∧ M 30 0 0 ≤ 100) (hp : ∀ z M', kSf M M' ∧ kSlA (M 31 0) (M 30 0 0) z ∧ (z < 0 → M' 30 0 24 = vMn (vRun (M 31 0) (M 30 0 0).toNat)) → post z M') : kMet l w yX4_slipOf cX4_slipOf 6 (some .int) 1 h [vR 30 0] M post := by
  refine kMet_of [vR 30 0, vN, vN, vN, vN, vN] (by decide) hI rfl rfl (Nat.le_of_ble_eq_true rfl) ?_
  intro p e s m args below meth c C hVok
  obtain ⟨T, eT⟩ : ∃ T, T = M 31 0 := ⟨_, rfl⟩
  obtain ⟨n, en⟩ : ∃ n, n = M 30 0 0 := ⟨_, rfl⟩
  rw [← eT, ← en] at hp
  rw [← en] at hn
  have L : ∀ (g : Nat) (k st : Int) (y3 y4 y5 : KV) (M1 : KM), 0 ≤ k → k ≤ n → n + 1 ≤ k + g → kSf M M1 → kPV M1 T (vRun T k.toNat) → st = vSt (vRun T k.toNat) → (∀ j : Int, 0 ≤ j → j ≤ k → 0 ≤ vSt (vRun T j.toNat)) → kG p l e h s m args below meth c w 6 1 post 14 [vR 30 0, vI st, vI k, y3, y4, y5] [] (M1) := by
    intro g
    induction g with
    | zero => intro k st y3 y4 y5 M1 h1 h2 h3; omega
    | succ g ih =>
      intro k st y3 y4 y5 M1 h1 h2 h3 hF hV est hall
      have ho := vOk_run (T := T) k.toNat
      rw [show ((k.toNat : Nat) : Int) = k by omega] at ho
      have hs1 := vRun_1 (T := T) h1
      obtain ⟨q, eq⟩ : ∃ q, q = vRun T k.toNat := ⟨_, rfl⟩
      rw [← eq] at hV est ho hs1
      have ho' := vOk_step ho h1
      have hst := ho.1
      rw [← est] at hst
      have hall0 := hall k h1 (Int.le_refl k)
      rw [← eq, ← est] at hall0
      obtain ⟨x, ex⟩ : ∃ x, x = T k := ⟨_, rfl⟩
      have e30 : M1 30 0 0 = n := by rw [hF.2 0 0 (by decide) (by decide), en]
      have e31 : M1 31 0 k = x := by rw [hF.1 31 (by decide) (by decide) (by decide), ex, eT]
      have S : vStep T q k = (if st = 0 then vVal T q k x (if 0 ≤ vOp q then vLa q (vOp q) else -1)
        else if st = 1 then (if 97 ≤ x ∧ x ≤ 122 then (vBeh T (vOp q) (vAt q), q.2) else vFail q)
        else if st = 2 then (if x = 125 then vClo T q else if (97 ≤ x ∧ x < 105) ∧ vLa q (vOp q) < x - 97 then vTak q x else vFail q)
        else if st = 3 then (if 97 ≤ x ∧ x < 105 then vTak q x else vFail q)
        else if st = 4 then (if x = 93 then vClo T q else vFail q)
        else if st = 5 then (if x = 41 then vClo T q else vVal T q k x (-1))
        else vFail q) := by rw [ex, est]; rfl
      have FIN : ∀ nx y5 M2, kSf M M2 → (-2147483648 ≤ nx ∧ nx < 2147483648) → ((nx < 0 ∧ vSt (vStep T q k) < 0) ∨ (nx = vSt (vStep T q k) ∧ 0 ≤ nx ∧ kPV M2 T (vStep T q k))) → k < n → kG p l e h s m args below meth c w 6 1 post 414 [vR 30 0, vI st, vI k, vI x, vI nx, vI y5] [] (M2) := by
        intro nx y5 M2 hF2 hnx hc hkn
        clear S est
        rw [← hs1] at hc
        have hc1 : nx < 0 → vSt (vRun T (k + 1).toNat) < 0 := fun u => by
          rcases hc with ⟨_, r⟩ | ⟨_, r, _⟩
          · exact r
          · omega
        have hc2 : 0 ≤ nx → nx = vSt (vRun T (k + 1).toNat) ∧ kPV M2 T (vRun T (k + 1).toNat) := fun u => by
          rcases hc with ⟨r, _⟩ | ⟨r1, _, r2⟩
          · omega
          · exact ⟨r1, r2⟩
        clear hc
        refine g_iload C dX4_slipOf_414 rfl ?_
        refine g_if_ge C 421 dX4_slipOf_416 (by decide) (by omega) (fun c_416 => ?_) (fun c_416 => ?_)
        · refine g_iload C dX4_slipOf_421 rfl ?_
          refine g_istn_1 C dX4_slipOf_423 (by decide) rfl ?_
          refine g_inc_2 C dX4_slipOf_424 (by decide) rfl ?_
          refine g_goto C 14 dX4_slipOf_427 (by decide) ?_
          exact ih (k + 1) nx _ _ _ M2 (by omega) (by omega) (by omega) hF2 (hc2 (by omega)).2 (hc2 (by omega)).1 (fun j j1 j2 => by
          by_cases e : j = k + 1
          · rw [e, ← (hc2 (by omega)).1]; omega
          · exact hall j j1 (by omega))
        · refine g_iload_n C dX4_slipOf_419 rfl ?_
          exact g_iret C dX4_slipOf_420 (hp _ _ ⟨hF2, Or.inl ⟨k, ⟨h1, hkn⟩, hall, hc1 (by assumption), rfl⟩, fun u => by omega⟩)
      have NB : ∀ nx M2, kSf M M2 → (-2147483648 ≤ nx ∧ nx < 2147483648) → ((nx < 0 ∧ vSt (vStep T q k) < 0) ∨ (nx = vSt (vStep T q k) ∧ 0 ≤ nx ∧ kPV M2 T (vStep T q k))) → k < n → kG p l e h s m args below meth c w 6 1 post 354 [vR 30 0, vI st, vI k, vI x, vI nx, vI 0] [] (M2) := by
        intro nx M2 hF2 hnx hc hkn
        refine g_iload C dX4_slipOf_354 rfl ?_
        refine g_if_eq C 414 dX4_slipOf_356 (by decide) (by omega) (fun c_356 => ?_) (fun c_356 => ?_)
        · exact FIN nx 0 M2 hF2 hnx hc hkn
        · exact absurd c_356 (by decide)
      have BEH : ∀ nx M2, kSf M M2 → kPV M2 T (vStep T q k) → vSt (vStep T q k) = vBeh T (vOp (vStep T q k)) (vAt (vStep T q k)) → k < n → kG p l e h s m args below meth c w 6 1 post 354 [vR 30 0, vI st, vI k, vI x, vI nx, vI 1] [] (M2) := by
        intro nx M2 hF2 hV2 hbe hkn
        clear S est
        obtain ⟨hV3, A, hA⟩ := id hV2
        have hb := kPl_beh hA ho'.2.2.1.1
        have hpl := kPl_p hA ho'.2.2.1
        have hmn := ho'.2.1
        rw [← hbe] at hb
        have h0 := hA.1
        have F : ∀ z, z = vSt (vStep T q k) → 0 ≤ z → z < 100 → kG p l e h s m args below meth c w 6 1 post 414 [vR 30 0, vI st, vI k, vI x, vI z, vI 1] [] (M2) := fun z z1 z2 z3 => FIN z 1 M2 hF2 (by omega) (Or.inr ⟨z1, z2, hV2⟩) hkn
        refine g_iload C dX4_slipOf_354 rfl ?_
        refine g_if_eq C 414 dX4_slipOf_356 (by decide) (by omega) (fun c_356 => ?_) (fun c_356 => ?_)
        · exact absurd c_356 (by decide)
        · refine g_aload_n C dX4_slipOf_359 rfl ?_
          refine g_getI C 27 dX4_slipOf_360 f_X4_172 ⟨rfl, rfl⟩ rfl rfl (fun r_360 => ?_)
          refine g_if_ne C 371 dX4_slipOf_363 (by decide) (by omega) (fun c_363 => ?_) (fun c_363 => ?_)
          · refine g_aload_n C dX4_slipOf_371 rfl ?_
            refine g_getR C 47 dX4_slipOf_372 f_X4_59 ⟨rfl, rfl⟩ rfl (by decide) ?_
            refine g_aload_n C dX4_slipOf_375 rfl ?_
            refine g_getI C 27 dX4_slipOf_376 f_X4_172 ⟨rfl, rfl⟩ rfl rfl (fun r_376 => ?_)
            refine g_iconst C dX4_slipOf_379 ?_
            refine g_isub C dX4_slipOf_380 ?_
            refine g_iald C 101 dX4_slipOf_381 ⟨rfl, rfl⟩ rfl (by omega) (fun r_381 => ?_)
            refine g_bipush C dX4_slipOf_382 (by decide) ?_
            refine g_ic_ne C 391 dX4_slipOf_384 (by decide) (by omega) (fun c_384 => ?_) (fun c_384 => ?_)
            · refine g_aload_n C dX4_slipOf_391 rfl ?_
              refine g_getR C 47 dX4_slipOf_392 f_X4_59 ⟨rfl, rfl⟩ rfl (by decide) ?_
              refine g_aload_n C dX4_slipOf_395 rfl ?_
              refine g_getI C 27 dX4_slipOf_396 f_X4_172 ⟨rfl, rfl⟩ rfl rfl (fun r_396 => ?_)
              refine g_iconst C dX4_slipOf_399 ?_
              refine g_isub C dX4_slipOf_400 ?_
              refine g_iald C 101 dX4_slipOf_401 ⟨rfl, rfl⟩ rfl (by omega) (fun r_401 => ?_)
              refine g_bipush C dX4_slipOf_402 (by decide) ?_
              refine g_ic_ne C 411 dX4_slipOf_404 (by decide) (by omega) (fun c_404 => ?_) (fun c_404 => ?_)
              · refine g_iconst C dX4_slipOf_411 ?_
                refine g_ist_4 C dX4_slipOf_412 (by decide) rfl ?_
                exact F _ (by omega) (by omega) (by omega)
              · refine g_iconst C dX4_slipOf_407 ?_
                refine g_goto C 412 dX4_slipOf_408 (by decide) ?_
                refine g_ist_4 C dX4_slipOf_412 (by decide) rfl ?_
                exact F _ (by omega) (by omega) (by omega)
            · refine g_iconst C dX4_slipOf_387 ?_
              refine g_goto C 412 dX4_slipOf_388 (by decide) ?_
              refine g_ist_4 C dX4_slipOf_412 (by decide) rfl ?_
              exact F _ (by omega) (by omega) (by omega)
          · refine g_bipush C dX4_slipOf_366 (by decide) ?_
            refine g_goto C 412 dX4_slipOf_368 (by decide) ?_
            refine g_ist_4 C dX4_slipOf_412 (by decide) rfl ?_
            exact F _ (by omega) (by omega) (by omega)
      have MID : (-2147483648 ≤ x ∧ x < 2147483648) → k < n → kG p l e h s m args below meth c w 6 1 post 36 [vR 30 0, vI st, vI k, vI x, vI (-6), vI 0] [] (M1) := by
        intro hxr hkn
        obtain ⟨hv24, A, hA⟩ := id hV
        have hplp := kPl_p hA ho.2.2.1
        have hp0 := hA.1
        have hmn := ho.2.1
        have hop := ho.2.2.1
        have VC : ∀ M2, kSf M M2 → st = 5 → x = 41 → M2 = M1 → kG p l e h s m args below meth c w 6 1 post 157 [vR 30 0, vI st, vI k, vI x, vI (-6), vI 0] [] (M2) := by
          intro M2 hF2 e1 e2 eM
          have e0 : 0 ≤ vOp q := (ho.2.2.2.2.2.2.2.1 (est.symm.trans e1)).1
          obtain ⟨p1, -⟩ := kPl_top hA e0
          rw [if_neg (show ¬ st = 0 by omega), if_neg (show ¬ st = 1 by omega), if_neg (show ¬ st = 2 by omega), if_neg (show ¬ st = 3 by omega), if_neg (show ¬ st = 4 by omega), if_pos e1, if_pos e2] at S
          rw [S] at BEH
          have hW : kPV (kUp M1 30 0 27 (M1 30 0 27 - 1)) T (vClo T q) := ⟨by rw [kUp_nk (by decide)]; exact hv24, A, by
            rw [kUp_t (by decide), kUp_t (by decide), kUp_eq]
            exact kPl_clo hA p1⟩
          rw [← eM] at hW hv24 hp0 hplp p1
          clear S est
          refine g_aload_n C dX4_slipOf_157 rfl ?_
          refine g_dup C dX4_slipOf_158 ⟨rfl, fun q => by cases q⟩ ?_
          refine g_getI C 24 dX4_slipOf_159 f_X4_169 ⟨rfl, rfl⟩ rfl rfl (fun r_159 => ?_)
          refine g_iload C dX4_slipOf_162 rfl ?_
          refine g_if_ne C 172 dX4_slipOf_164 (by decide) (by omega) (fun c_164 => ?_) (fun c_164 => ?_)
          · exact absurd c_164 (by decide)
          · refine g_iload C dX4_slipOf_167 rfl ?_
            refine g_if_lt C 176 dX4_slipOf_169 (by decide) (by omega) (fun c_169 => ?_) (fun c_169 => ?_)
            · refine g_iconst C dX4_slipOf_176 ?_
              refine g_iadd C dX4_slipOf_177 ?_
              refine g_putI C 24 dX4_slipOf_178 f_X4_169 ⟨rfl, rfl⟩ rfl rfl (by omega) ?_
              rw [show M2 30 0 24 + 0 = M2 30 0 24 by omega, kUp_id]
              refine g_iload_n C dX4_slipOf_181 rfl ?_
              refine g_iconst C dX4_slipOf_182 ?_
              refine g_ic_ne C 354 dX4_slipOf_183 (by decide) (by omega) (fun c_183 => ?_) (fun c_183 => ?_)
              · omega
              · refine g_iload_n C dX4_slipOf_186 rfl ?_
                refine g_bipush C dX4_slipOf_187 (by decide) ?_
                refine g_ic_ne C 354 dX4_slipOf_189 (by decide) (by omega) (fun c_189 => ?_) (fun c_189 => ?_)
                · omega
                · refine g_aload_n C dX4_slipOf_192 rfl ?_
                  refine g_dup C dX4_slipOf_193 ⟨rfl, fun q => by cases q⟩ ?_
                  refine g_getI C 27 dX4_slipOf_194 f_X4_172 ⟨rfl, rfl⟩ rfl rfl (fun r_194 => ?_)
                  refine g_iconst C dX4_slipOf_197 ?_
                  refine g_isub C dX4_slipOf_198 ?_
                  refine g_putI C 27 dX4_slipOf_199 f_X4_172 ⟨rfl, rfl⟩ rfl rfl (by omega) ?_
                  refine g_iconst C dX4_slipOf_202 ?_
                  refine g_ist_5 C dX4_slipOf_203 (by decide) rfl ?_
                  refine g_goto C 354 dX4_slipOf_205 (by decide) ?_
                  exact BEH (-6) _ (hF2.sl (by decide)) hW rfl hkn
            · exact absurd c_169 (by decide)
        have V0 : ∀ M2, kSf M M2 → (st = 5 → x ≠ 41) → vSt (vStep T q k) < 0 → M2 = M1 → kG p l e h s m args below meth c w 6 1 post 157 [vR 30 0, vI st, vI k, vI x, vI (-6), vI 0] [] (M2) := by
          intro M2 hF2 e1 e2 eM
          rw [← eM] at hv24
          clear S est
          refine g_aload_n C dX4_slipOf_157 rfl ?_
          refine g_dup C dX4_slipOf_158 ⟨rfl, fun q => by cases q⟩ ?_
          refine g_getI C 24 dX4_slipOf_159 f_X4_169 ⟨rfl, rfl⟩ rfl rfl (fun r_159 => ?_)
          refine g_iload C dX4_slipOf_162 rfl ?_
          refine g_if_ne C 172 dX4_slipOf_164 (by decide) (by omega) (fun c_164 => ?_) (fun c_164 => ?_)
          · exact absurd c_164 (by decide)
          · refine g_iload C dX4_slipOf_167 rfl ?_
            refine g_if_lt C 176 dX4_slipOf_169 (by decide) (by omega) (fun c_169 => ?_) (fun c_169 => ?_)
            · refine g_iconst C dX4_slipOf_176 ?_
              refine g_iadd C dX4_slipOf_177 ?_
              refine g_putI C 24 dX4_slipOf_178 f_X4_169 ⟨rfl, rfl⟩ rfl rfl (by omega) ?_
              refine g_iload_n C dX4_slipOf_181 rfl ?_
              refine g_iconst C dX4_slipOf_182 ?_
              refine g_ic_ne C 354 dX4_slipOf_183 (by decide) (by omega) (fun c_183 => ?_) (fun c_183 => ?_)
              · exact NB (-6) (kUp M2 30 0 24 (M2 30 0 24 + 0)) (hF2.sl (by decide)) (by omega) (Or.inl ⟨by omega, e2⟩) hkn
              · refine g_iload_n C dX4_slipOf_186 rfl ?_
                refine g_bipush C dX4_slipOf_187 (by decide) ?_
                refine g_ic_ne C 354 dX4_slipOf_189 (by decide) (by omega) (fun c_189 => ?_) (fun c_189 => ?_)
                · exact NB (-6) (kUp M2 30 0 24 (M2 30 0 24 + 0)) (hF2.sl (by decide)) (by omega) (Or.inl ⟨by omega, e2⟩) hkn
                · refine g_aload_n C dX4_slipOf_192 rfl ?_
                  refine g_dup C dX4_slipOf_193 ⟨rfl, fun q => by cases q⟩ ?_
                  refine g_getI C 27 dX4_slipOf_194 f_X4_172 ⟨rfl, rfl⟩ rfl rfl (fun r_194 => ?_)
                  refine g_iconst C dX4_slipOf_197 ?_
                  refine g_isub C dX4_slipOf_198 ?_
                  refine g_putI C 27 dX4_slipOf_199 f_X4_172 ⟨rfl, rfl⟩ rfl rfl (by omega) ?_
                  refine g_iconst C dX4_slipOf_202 ?_
                  refine g_ist_5 C dX4_slipOf_203 (by decide) rfl ?_
                  refine g_goto C 354 dX4_slipOf_205 (by decide) ?_
                  omega
            · exact absurd c_169 (by decide)
        have V2 : ∀ nx M2, kSf M M2 → (st = 5 → x ≠ 41) → (0 ≤ nx ∧ nx < 100) → nx = vSt (vStep T q k) → M2 30 0 24 + 1 = vMn (vStep T q k) → (∃ C, kPl (M2 47 0) (M2 48 0) T (vStep T q k) C (M2 30 0 27)) → kG p l e h s m args below meth c w 6 1 post 157 [vR 30 0, vI st, vI k, vI x, vI nx, vI 0] [] (M2) := by
          intro nx M2 hF2 e1 e2 e3 e4 e5
          have hW := kPV_v e4 e5
          have := ho'.2.1
          clear S est e5
          refine g_aload_n C dX4_slipOf_157 rfl ?_
          refine g_dup C dX4_slipOf_158 ⟨rfl, fun q => by cases q⟩ ?_
          refine g_getI C 24 dX4_slipOf_159 f_X4_169 ⟨rfl, rfl⟩ rfl rfl (fun r_159 => ?_)
          refine g_iload C dX4_slipOf_162 rfl ?_
          refine g_if_ne C 172 dX4_slipOf_164 (by decide) (by omega) (fun c_164 => ?_) (fun c_164 => ?_)
          · exact absurd c_164 (by decide)
          · refine g_iload C dX4_slipOf_167 rfl ?_
            refine g_if_lt C 176 dX4_slipOf_169 (by decide) (by omega) (fun c_169 => ?_) (fun c_169 => ?_)
            · omega
            · refine g_iconst C dX4_slipOf_172 ?_
              refine g_goto C 177 dX4_slipOf_173 (by decide) ?_
              refine g_iadd C dX4_slipOf_177 ?_
              refine g_putI C 24 dX4_slipOf_178 f_X4_169 ⟨rfl, rfl⟩ rfl rfl (by omega) ?_
              refine g_iload_n C dX4_slipOf_181 rfl ?_
              refine g_iconst C dX4_slipOf_182 ?_
              refine g_ic_ne C 354 dX4_slipOf_183 (by decide) (by omega) (fun c_183 => ?_) (fun c_183 => ?_)
              · exact NB nx (kUp M2 30 0 24 (M2 30 0 24 + 1)) (hF2.sl (by decide)) (by omega) (Or.inr ⟨e3, e2.1, hW⟩) hkn
              · refine g_iload_n C dX4_slipOf_186 rfl ?_
                refine g_bipush C dX4_slipOf_187 (by decide) ?_
                refine g_ic_ne C 354 dX4_slipOf_189 (by decide) (by omega) (fun c_189 => ?_) (fun c_189 => ?_)
                · exact NB nx (kUp M2 30 0 24 (M2 30 0 24 + 1)) (hF2.sl (by decide)) (by omega) (Or.inr ⟨e3, e2.1, hW⟩) hkn
                · refine g_aload_n C dX4_slipOf_192 rfl ?_
                  refine g_dup C dX4_slipOf_193 ⟨rfl, fun q => by cases q⟩ ?_
                  refine g_getI C 27 dX4_slipOf_194 f_X4_172 ⟨rfl, rfl⟩ rfl rfl (fun r_194 => ?_)
                  refine g_iconst C dX4_slipOf_197 ?_
                  refine g_isub C dX4_slipOf_198 ?_
                  refine g_putI C 27 dX4_slipOf_199 f_X4_172 ⟨rfl, rfl⟩ rfl rfl (by omega) ?_
                  refine g_iconst C dX4_slipOf_202 ?_
                  refine g_ist_5 C dX4_slipOf_203 (by decide) rfl ?_
                  refine g_goto C 354 dX4_slipOf_205 (by decide) ?_
                  omega
        have V1 : ∀ ltr, vStep T q k = vBeg T q k x ltr (vOp q) (vBeh T (vOp q) (fU (vAt q) (vMn q) k)) → (st = 5 → x ≠ 41) → kG p l e h s m args below meth c w 6 1 post 157 [vR 30 0, vI st, vI k, vI x, vI (-6), vI 1] [] (M1) := by
          intro ltr eS e1
          have hW : kPV (kUp M1 30 0 24 (M1 30 0 24 + 1)) T (vBeg T q k x ltr (vOp q) (vBeh T (vOp q) (fU (vAt q) (vMn q) k))) := kPV_v (by rw [hv24]; rfl) ⟨A, kPl_leaf hA ho.2.2.1.2⟩
          rw [eS] at BEH
          clear S est eS
          refine g_aload_n C dX4_slipOf_157 rfl ?_
          refine g_dup C dX4_slipOf_158 ⟨rfl, fun q => by cases q⟩ ?_
          refine g_getI C 24 dX4_slipOf_159 f_X4_169 ⟨rfl, rfl⟩ rfl rfl (fun r_159 => ?_)
          refine g_iload C dX4_slipOf_162 rfl ?_
          refine g_if_ne C 172 dX4_slipOf_164 (by decide) (by omega) (fun c_164 => ?_) (fun c_164 => ?_)
          · refine g_iconst C dX4_slipOf_172 ?_
            refine g_goto C 177 dX4_slipOf_173 (by decide) ?_
            refine g_iadd C dX4_slipOf_177 ?_
            refine g_putI C 24 dX4_slipOf_178 f_X4_169 ⟨rfl, rfl⟩ rfl rfl (by omega) ?_
            refine g_iload_n C dX4_slipOf_181 rfl ?_
            refine g_iconst C dX4_slipOf_182 ?_
            refine g_ic_ne C 354 dX4_slipOf_183 (by decide) (by omega) (fun c_183 => ?_) (fun c_183 => ?_)
            · exact BEH (-6) (kUp M1 30 0 24 (M1 30 0 24 + 1)) (hF.sl (by decide)) hW rfl hkn
            · refine g_iload_n C dX4_slipOf_186 rfl ?_
              refine g_bipush C dX4_slipOf_187 (by decide) ?_
              refine g_ic_ne C 354 dX4_slipOf_189 (by decide) (by omega) (fun c_189 => ?_) (fun c_189 => ?_)
              · exact BEH (-6) (kUp M1 30 0 24 (M1 30 0 24 + 1)) (hF.sl (by decide)) hW rfl hkn
              · refine g_aload_n C dX4_slipOf_192 rfl ?_
                refine g_dup C dX4_slipOf_193 ⟨rfl, fun q => by cases q⟩ ?_
                refine g_getI C 27 dX4_slipOf_194 f_X4_172 ⟨rfl, rfl⟩ rfl rfl (fun r_194 => ?_)
                refine g_iconst C dX4_slipOf_197 ?_
                refine g_isub C dX4_slipOf_198 ?_
                refine g_putI C 27 dX4_slipOf_199 f_X4_172 ⟨rfl, rfl⟩ rfl rfl (by omega) ?_
                refine g_iconst C dX4_slipOf_202 ?_
                refine g_ist_5 C dX4_slipOf_203 (by decide) rfl ?_
                refine g_goto C 354 dX4_slipOf_205 (by decide) ?_
                omega
          · exact absurd c_164 (by decide)
        have J45 : (st = 0 ∨ st = 5) → kG p l e h s m args below meth c w 6 1 post 45 [vR 30 0, vI st, vI k, vI x, vI (-6), vI 0] [] (M1) := by
          intro h05
          have E : ∃ ltr, (st = 5 → x ≠ 41) → vStep T q k = vVal T q k x ltr := by
            rcases h05 with e | e
            · rw [if_pos e] at S
              exact ⟨_, fun _ => S⟩
            · rw [if_neg (show ¬ st = 0 by omega), if_neg (show ¬ st = 1 by omega), if_neg (show ¬ st = 2 by omega), if_neg (show ¬ st = 3 by omega), if_neg (show ¬ st = 4 by omega), if_pos e] at S
              exact ⟨-1, fun u => by rw [S, if_neg (u e)]⟩
          obtain ⟨ltr, E⟩ := E
          have EL : ((48 ≤ x ∧ x ≤ 57) ∨ x = 84 ∨ x = 70) → kG p l e h s m args below meth c w 6 1 post 157 [vR 30 0, vI st, vI k, vI x, vI (-6), vI 1] [] (M1) := fun u => V1 ltr (by
            rw [E (by omega)]
            unfold vVal
            rw [if_pos u]) (by omega)
          have EN : ∀ s1, (((x = 123 ∧ s1 = 2) ∨ (x = 91 ∧ s1 = 3)) ∨ (x = 40 ∧ s1 = 5)) → kG p l e h s m args below meth c w 6 1 post 157 [vR 30 0, vI st, vI k, vI x, vI s1, vI 0] [] (kUp (kUp (kUp M1 47 0 (M1 30 0 27) x) 48 0 (M1 30 0 27) (-1)) 30 0 27 (M1 30 0 27 + 1)) := by
            intro s1 hs
            have e : vStep T q k = vBeg T q k x ltr (vMn q) s1 := by
              rw [E (by omega)]
              unfold vVal
              rw [if_neg (show ¬ ((48 ≤ x ∧ x ≤ 57) ∨ x = 84 ∨ x = 70) by omega), if_neg (show ¬ x = 36 by omega)]
              have nn : ¬ vMn q < 0 := by omega
              rcases hs with (⟨u, v⟩ | ⟨u, v⟩) | ⟨u, v⟩
              · rw [if_neg (show ¬ x = 91 by omega), if_pos (show x = 123 ∨ x = 40 by omega), v]
                unfold vBeh
                rw [if_neg nn, fU_eq, ← ex, if_pos u]
              · rw [if_pos u, v]
              · rw [if_neg (show ¬ x = 91 by omega), if_pos (show x = 123 ∨ x = 40 by omega), v]
                unfold vBeh
                rw [if_neg nn, fU_eq, ← ex, if_neg (show ¬ x = 123 by omega), if_neg (show ¬ x = 91 by omega)]
            refine V2 s1 _ (((hF.up (by decide)).up (by decide)).sl (by decide)) (by omega) (by omega) (by rw [e]; rfl) ?_ ?_
            · rw [e, kUp_nk (by decide), kUp_t (by decide), kUp_t (by decide), hv24]
              rfl
            · rw [e, kUp_eq, kUp_t (t' := 47) (by decide), kUp_t (t' := 47) (by decide), kUp_t (t' := 48) (by decide), kUp_fU, kUp_fU, kUp_t (t' := 48) (by decide)]
              exact ⟨_, kPl_nest hA ho.2.2.1 ex⟩
          have ED : x = 36 → kG p l e h s m args below meth c w 6 1 post 157 [vR 30 0, vI st, vI k, vI x, vI 1, vI 0] [] (M1) := by
            intro u
            have e : vStep T q k = vBeg T q k x ltr (vOp q) 1 := by
              rw [E (by omega)]
              unfold vVal
              rw [if_neg (show ¬ ((48 ≤ x ∧ x ≤ 57) ∨ x = 84 ∨ x = 70) by omega), if_pos u]
            exact V2 1 M1 hF (by omega) (by omega) (by rw [e]; rfl) (by rw [e, hv24]; rfl) (by rw [e]; exact ⟨A, kPl_leaf hA ho.2.2.1.2⟩)
          have EO : ¬ ((48 ≤ x ∧ x ≤ 57) ∨ x = 84 ∨ x = 70) → x ≠ 36 → x ≠ 123 → x ≠ 91 → x ≠ 40 → kG p l e h s m args below meth c w 6 1 post 157 [vR 30 0, vI st, vI k, vI x, vI (-6), vI 0] [] (M1) := by
            intro u1 u2 u3 u4 u5
            by_cases z : st = 5 ∧ x = 41
            · exact VC M1 hF z.1 z.2 rfl
            · refine V0 M1 hF (by omega) ?_ rfl
              rw [E (by omega)]
              unfold vVal
              rw [if_neg u1, if_neg u2, if_neg u4, if_neg (show ¬ (x = 123 ∨ x = 40) by omega)]
              exact (by decide : (-1 : Int) < 0)
          clear S est E FIN NB BEH V0 V1 V2 VC
          have J104 : (x = 123 ∨ x = 91 ∨ x = 40) → kG p l e h s m args below meth c w 6 1 post 104 [vR 30 0, vI st, vI k, vI x, vI (-6), vI 0] [] (M1) := by
            intro hx3
            refine g_aload_n C dX4_slipOf_104 rfl ?_
            refine g_getR C 47 dX4_slipOf_105 f_X4_59 ⟨rfl, rfl⟩ rfl (by decide) ?_
            refine g_aload_n C dX4_slipOf_108 rfl ?_
            refine g_getI C 27 dX4_slipOf_109 f_X4_172 ⟨rfl, rfl⟩ rfl rfl (fun r_109 => ?_)
            refine g_iload_n C dX4_slipOf_112 rfl ?_
            refine g_iast C 101 dX4_slipOf_113 ⟨rfl, rfl⟩ rfl (by omega) (by omega) ?_
            refine g_aload_n C dX4_slipOf_114 rfl ?_
            refine g_getR C 48 dX4_slipOf_115 f_X4_62 ⟨rfl, rfl⟩ rfl (by decide) ?_
            refine g_aload_n C dX4_slipOf_118 rfl ?_
            refine g_getI C 27 dX4_slipOf_119 f_X4_172 ⟨rfl, rfl⟩ rfl rfl (fun r_119 => ?_)
            rw [kUp_ne (by decide)] at r_119 ⊢
            refine g_iconst C dX4_slipOf_122 ?_
            refine g_iast C 101 dX4_slipOf_123 ⟨rfl, rfl⟩ rfl (by omega) (by omega) ?_
            refine g_aload_n C dX4_slipOf_124 rfl ?_
            refine g_dup C dX4_slipOf_125 ⟨rfl, fun q => by cases q⟩ ?_
            refine g_getI C 27 dX4_slipOf_126 f_X4_172 ⟨rfl, rfl⟩ rfl rfl (fun r_126 => ?_)
            simp (disch := decide) only [kUp_ne] at r_126 ⊢
            refine g_iconst C dX4_slipOf_129 ?_
            refine g_iadd C dX4_slipOf_130 ?_
            refine g_putI C 27 dX4_slipOf_131 f_X4_172 ⟨rfl, rfl⟩ rfl rfl (by omega) ?_
            refine g_iload_n C dX4_slipOf_134 rfl ?_
            refine g_bipush C dX4_slipOf_135 (by decide) ?_
            refine g_ic_ne C 144 dX4_slipOf_137 (by decide) (by omega) (fun c_137 => ?_) (fun c_137 => ?_)
            · refine g_iload_n C dX4_slipOf_144 rfl ?_
              refine g_bipush C dX4_slipOf_145 (by decide) ?_
              refine g_ic_ne C 154 dX4_slipOf_147 (by decide) (by omega) (fun c_147 => ?_) (fun c_147 => ?_)
              · refine g_iconst C dX4_slipOf_154 ?_
                refine g_ist_4 C dX4_slipOf_155 (by decide) rfl ?_
                exact EN 5 (by omega)
              · refine g_iconst C dX4_slipOf_150 ?_
                refine g_goto C 155 dX4_slipOf_151 (by decide) ?_
                refine g_ist_4 C dX4_slipOf_155 (by decide) rfl ?_
                exact EN 3 (by omega)
            · refine g_iconst C dX4_slipOf_140 ?_
              refine g_goto C 155 dX4_slipOf_141 (by decide) ?_
              refine g_ist_4 C dX4_slipOf_155 (by decide) rfl ?_
              exact EN 2 (by omega)
          clear EN
          refine g_iload_n C dX4_slipOf_45 rfl ?_
          refine g_bipush C dX4_slipOf_46 (by decide) ?_
          refine g_bipush C dX4_slipOf_48 (by decide) ?_
          refine g_callSi C dX4_slipOf_50 s_X4_84 (m_X4_in (h := 1) hI x 48 57 M1 (by omega) (fun _ _ q => q)) rfl rfl (Nat.le_of_ble_eq_true rfl) (by omega) ?_
          rintro z M' ⟨⟨hz, rfl⟩ | ⟨hz, rfl⟩, rfl⟩
          · refine g_if_ne C 68 dX4_slipOf_53 (by decide) (by omega) (fun c_53 => ?_) (fun c_53 => ?_)
            · refine g_iconst C dX4_slipOf_68 ?_
              refine g_ist_5 C dX4_slipOf_69 (by decide) rfl ?_
              refine g_goto C 157 dX4_slipOf_71 (by decide) ?_
              exact EL (by omega)
            · refine g_iload_n C dX4_slipOf_56 rfl ?_
              refine g_bipush C dX4_slipOf_57 (by decide) ?_
              refine g_ic_eq C 68 dX4_slipOf_59 (by decide) (by omega) (fun c_59 => ?_) (fun c_59 => ?_)
              · refine g_iconst C dX4_slipOf_68 ?_
                refine g_ist_5 C dX4_slipOf_69 (by decide) rfl ?_
                refine g_goto C 157 dX4_slipOf_71 (by decide) ?_
                exact EL (by omega)
              · refine g_iload_n C dX4_slipOf_62 rfl ?_
                refine g_bipush C dX4_slipOf_63 (by decide) ?_
                refine g_ic_ne C 74 dX4_slipOf_65 (by decide) (by omega) (fun c_65 => ?_) (fun c_65 => ?_)
                · refine g_iload_n C dX4_slipOf_74 rfl ?_
                  refine g_bipush C dX4_slipOf_75 (by decide) ?_
                  refine g_ic_ne C 86 dX4_slipOf_77 (by decide) (by omega) (fun c_77 => ?_) (fun c_77 => ?_)
                  · refine g_iload_n C dX4_slipOf_86 rfl ?_
                    refine g_bipush C dX4_slipOf_87 (by decide) ?_
                    refine g_ic_eq C 104 dX4_slipOf_89 (by decide) (by omega) (fun c_89 => ?_) (fun c_89 => ?_)
                    · exact J104 (by omega)
                    · refine g_iload_n C dX4_slipOf_92 rfl ?_
                      refine g_bipush C dX4_slipOf_93 (by decide) ?_
                      refine g_ic_eq C 104 dX4_slipOf_95 (by decide) (by omega) (fun c_95 => ?_) (fun c_95 => ?_)
                      · exact J104 (by omega)
                      · refine g_iload_n C dX4_slipOf_98 rfl ?_
                        refine g_bipush C dX4_slipOf_99 (by decide) ?_
                        refine g_ic_ne C 157 dX4_slipOf_101 (by decide) (by omega) (fun c_101 => ?_) (fun c_101 => ?_)
                        · exact EO (by omega) (by omega) (by omega) (by omega) (by omega)
                        · exact J104 (by omega)
                  · refine g_iconst C dX4_slipOf_80 ?_
                    refine g_ist_4 C dX4_slipOf_81 (by decide) rfl ?_
                    refine g_goto C 157 dX4_slipOf_83 (by decide) ?_
                    exact ED (by omega)
                · refine g_iconst C dX4_slipOf_68 ?_
                  refine g_ist_5 C dX4_slipOf_69 (by decide) rfl ?_
                  refine g_goto C 157 dX4_slipOf_71 (by decide) ?_
                  exact EL (by omega)
          · refine g_if_ne C 68 dX4_slipOf_53 (by decide) (by omega) (fun c_53 => ?_) (fun c_53 => ?_)
            · refine g_iconst C dX4_slipOf_68 ?_
              refine g_ist_5 C dX4_slipOf_69 (by decide) rfl ?_
              refine g_goto C 157 dX4_slipOf_71 (by decide) ?_
              exact EL (by omega)
            · refine g_iload_n C dX4_slipOf_56 rfl ?_
              refine g_bipush C dX4_slipOf_57 (by decide) ?_
              refine g_ic_eq C 68 dX4_slipOf_59 (by decide) (by omega) (fun c_59 => ?_) (fun c_59 => ?_)
              · refine g_iconst C dX4_slipOf_68 ?_
                refine g_ist_5 C dX4_slipOf_69 (by decide) rfl ?_
                refine g_goto C 157 dX4_slipOf_71 (by decide) ?_
                exact EL (by omega)
              · refine g_iload_n C dX4_slipOf_62 rfl ?_
                refine g_bipush C dX4_slipOf_63 (by decide) ?_
                refine g_ic_ne C 74 dX4_slipOf_65 (by decide) (by omega) (fun c_65 => ?_) (fun c_65 => ?_)
                · refine g_iload_n C dX4_slipOf_74 rfl ?_
                  refine g_bipush C dX4_slipOf_75 (by decide) ?_
                  refine g_ic_ne C 86 dX4_slipOf_77 (by decide) (by omega) (fun c_77 => ?_) (fun c_77 => ?_)
                  · refine g_iload_n C dX4_slipOf_86 rfl ?_
                    refine g_bipush C dX4_slipOf_87 (by decide) ?_
                    refine g_ic_eq C 104 dX4_slipOf_89 (by decide) (by omega) (fun c_89 => ?_) (fun c_89 => ?_)
                    · exact J104 (by omega)
                    · refine g_iload_n C dX4_slipOf_92 rfl ?_
                      refine g_bipush C dX4_slipOf_93 (by decide) ?_
                      refine g_ic_eq C 104 dX4_slipOf_95 (by decide) (by omega) (fun c_95 => ?_) (fun c_95 => ?_)
                      · exact J104 (by omega)
                      · refine g_iload_n C dX4_slipOf_98 rfl ?_
                        refine g_bipush C dX4_slipOf_99 (by decide) ?_
                        refine g_ic_ne C 157 dX4_slipOf_101 (by decide) (by omega) (fun c_101 => ?_) (fun c_101 => ?_)
                        · exact EO (by omega) (by omega) (by omega) (by omega) (by omega)
                        · exact J104 (by omega)
                  · refine g_iconst C dX4_slipOf_80 ?_
                    refine g_ist_4 C dX4_slipOf_81 (by decide) rfl ?_
                    refine g_goto C 157 dX4_slipOf_83 (by decide) ?_
                    exact ED (by omega)
                · refine g_iconst C dX4_slipOf_68 ?_
                  refine g_ist_5 C dX4_slipOf_69 (by decide) rfl ?_
                  refine g_goto C 157 dX4_slipOf_71 (by decide) ?_
                  exact EL (by omega)
        clear V0 V1 V2 VC
        have O2 : st = 2 → 0 ≤ vOp q ∧ T (vAt q (vOp q)) = 123 := fun u => ho.2.2.2.2.1 (est.symm.trans u)
        have O3 : st = 3 → 0 ≤ vOp q ∧ T (vAt q (vOp q)) = 91 := fun u => ho.2.2.2.2.2.1 (est.symm.trans u)
        have O4 : st = 4 → 0 ≤ vOp q ∧ T (vAt q (vOp q)) = 91 := fun u => ho.2.2.2.2.2.2.1 (est.symm.trans u)
        have PC : 0 ≤ vOp q → kPV (kUp M1 30 0 27 (M1 30 0 27 - 1)) T (vClo T q) := fun u => ⟨by rw [kUp_nk (by decide)]; exact hv24, A, by
          rw [kUp_t (by decide), kUp_t (by decide), kUp_eq]
          exact kPl_clo hA (kPl_top hA u).1⟩
        have FL : vStep T q k = vFail q → vSt (vStep T q k) < 0 := fun u => by
          rw [u]
          exact (by decide : (-1 : Int) < 0)
        have S1 : st = 1 → (97 ≤ x ∧ x ≤ 122) → kG p l e h s m args below meth c w 6 1 post 354 [vR 30 0, vI st, vI k, vI x, vI (-6), vI 1] [] (M1) := by
          intro e1 e2
          rw [if_neg (show ¬ st = 0 by omega), if_pos e1, if_pos e2] at S
          exact BEH (-6) M1 hF (by rw [S]; exact hV) (by rw [S]) hkn
        have Z1 : st = 1 → ¬ (97 ≤ x ∧ x ≤ 122) → vSt (vStep T q k) < 0 := by
          intro e1 e2
          rw [if_neg (show ¬ st = 0 by omega), if_pos e1, if_neg e2] at S
          exact FL S
        have S2 : st = 2 → (97 ≤ x ∧ x < 105) → vLa q (vOp q) < x - 97 → kG p l e h s m args below meth c w 6 1 post 354 [vR 30 0, vI st, vI k, vI x, vI 0, vI 0] [] (kUp M1 48 0 (M1 30 0 27 - 1) (x - 97)) := by
          intro e1 e2 e3
          rw [if_neg (show ¬ st = 0 by omega), if_neg (show ¬ st = 1 by omega), if_pos e1, if_neg (show ¬ x = 125 by omega), if_pos ⟨e2, e3⟩] at S
          exact NB 0 _ (hF.up (by decide)) (by omega) (Or.inr ⟨by rw [S]; rfl, by omega, by
            rw [S]
            refine ⟨by rw [kUp_t (by decide)]; exact hv24, A, ?_⟩
            rw [kUp_t (t' := 47) (by decide), kUp_t (t' := 30) (by decide), kUp_fU]
            exact kPl_tak hA (kPl_top hA (O2 e1).1).1⟩) hkn
        have S3 : st = 2 → x = 125 → kG p l e h s m args below meth c w 6 1 post 354 [vR 30 0, vI st, vI k, vI x, vI (-6), vI 1] [] (kUp M1 30 0 27 (M1 30 0 27 - 1)) := by
          intro e1 e2
          rw [if_neg (show ¬ st = 0 by omega), if_neg (show ¬ st = 1 by omega), if_pos e1, if_pos e2] at S
          exact BEH (-6) _ (hF.sl (by decide)) (by rw [S]; exact PC (O2 e1).1) (by rw [S]; rfl) hkn
        have Z2 : st = 2 → x ≠ 125 → ¬ ((97 ≤ x ∧ x < 105) ∧ vLa q (vOp q) < x - 97) → vSt (vStep T q k) < 0 := by
          intro e1 e2 e3
          rw [if_neg (show ¬ st = 0 by omega), if_neg (show ¬ st = 1 by omega), if_pos e1, if_neg e2, if_neg e3] at S
          exact FL S
        have S4 : st = 3 → (97 ≤ x ∧ x < 105) → kG p l e h s m args below meth c w 6 1 post 354 [vR 30 0, vI st, vI k, vI x, vI 0, vI 0] [] (M1) := by
          intro e1 e2
          rw [if_neg (show ¬ st = 0 by omega), if_neg (show ¬ st = 1 by omega), if_neg (show ¬ st = 2 by omega), if_pos e1, if_pos e2] at S
          exact NB 0 M1 hF (by omega) (Or.inr ⟨by rw [S]; rfl, by omega, by
            rw [S]
            exact ⟨hv24, A, kPl_tak3 hA (by rw [(O3 e1).2]; decide)⟩⟩) hkn
        have Z3 : st = 3 → ¬ (97 ≤ x ∧ x < 105) → vSt (vStep T q k) < 0 := by
          intro e1 e2
          rw [if_neg (show ¬ st = 0 by omega), if_neg (show ¬ st = 1 by omega), if_neg (show ¬ st = 2 by omega), if_pos e1, if_neg e2] at S
          exact FL S
        have S5 : st = 4 → x = 93 → kG p l e h s m args below meth c w 6 1 post 354 [vR 30 0, vI st, vI k, vI x, vI (-6), vI 1] [] (kUp M1 30 0 27 (M1 30 0 27 - 1)) := by
          intro e1 e2
          rw [if_neg (show ¬ st = 0 by omega), if_neg (show ¬ st = 1 by omega), if_neg (show ¬ st = 2 by omega), if_neg (show ¬ st = 3 by omega), if_pos e1, if_pos e2] at S
          exact BEH (-6) _ (hF.sl (by decide)) (by rw [S]; exact PC (O4 e1).1) (by rw [S]; rfl) hkn
        have Z4 : st = 4 → x ≠ 93 → vSt (vStep T q k) < 0 := by
          intro e1 e2
          rw [if_neg (show ¬ st = 0 by omega), if_neg (show ¬ st = 1 by omega), if_neg (show ¬ st = 2 by omega), if_neg (show ¬ st = 3 by omega), if_pos e1, if_neg e2] at S
          exact FL S
        have Z6 : (st ≠ 0 ∧ st ≠ 1 ∧ st ≠ 2 ∧ st ≠ 3 ∧ st ≠ 4 ∧ st ≠ 5) → vSt (vStep T q k) < 0 := by
          intro e1
          rw [if_neg e1.1, if_neg e1.2.1, if_neg e1.2.2.1, if_neg e1.2.2.2.1, if_neg e1.2.2.2.2.1, if_neg e1.2.2.2.2.2] at S
          exact FL S
        have X2 : st = 2 → M1 48 0 (M1 30 0 27 - 1) = vLa q (vOp q) ∧ 0 < M1 30 0 27 := fun u => ⟨(kPl_top hA (O2 u).1).2 (O2 u).2, (kPl_top hA (O2 u).1).1⟩
        have X4 : st = 4 → 0 < M1 30 0 27 := fun u => (kPl_top hA (O4 u).1).1
        clear S FL BEH PC O2 O3 O4
        refine g_iload_n C dX4_slipOf_36 rfl ?_
        refine g_if_eq C 45 dX4_slipOf_37 (by decide) (by omega) (fun c_37 => ?_) (fun c_37 => ?_)
        · exact J45 (by omega)
        · refine g_iload_n C dX4_slipOf_40 rfl ?_
          refine g_iconst C dX4_slipOf_41 ?_
          refine g_ic_ne C 208 dX4_slipOf_42 (by decide) (by omega) (fun c_42 => ?_) (fun c_42 => ?_)
          · refine g_iload_n C dX4_slipOf_208 rfl ?_
            refine g_iconst C dX4_slipOf_209 ?_
            refine g_ic_ne C 226 dX4_slipOf_210 (by decide) (by omega) (fun c_210 => ?_) (fun c_210 => ?_)
            · refine g_iload_n C dX4_slipOf_226 rfl ?_
              refine g_iconst C dX4_slipOf_227 ?_
              refine g_ic_ne C 303 dX4_slipOf_228 (by decide) (by omega) (fun c_228 => ?_) (fun c_228 => ?_)
              · refine g_iload_n C dX4_slipOf_303 rfl ?_
                refine g_iconst C dX4_slipOf_304 ?_
                refine g_ic_ne C 330 dX4_slipOf_305 (by decide) (by omega) (fun c_305 => ?_) (fun c_305 => ?_)
                · refine g_iload_n C dX4_slipOf_330 rfl ?_
                  refine g_iconst C dX4_slipOf_331 ?_
                  refine g_ic_ne C 354 dX4_slipOf_332 (by decide) (by omega) (fun c_332 => ?_) (fun c_332 => ?_)
                  · exact NB (-6) M1 hF (by omega) (Or.inl ⟨by omega, Z6 (by omega)⟩) hkn
                  · refine g_iload_n C dX4_slipOf_335 rfl ?_
                    refine g_bipush C dX4_slipOf_336 (by decide) ?_
                    refine g_ic_ne C 354 dX4_slipOf_338 (by decide) (by omega) (fun c_338 => ?_) (fun c_338 => ?_)
                    · exact NB (-6) M1 hF (by omega) (Or.inl ⟨by omega, Z4 (by omega) (by omega)⟩) hkn
                    · refine g_aload_n C dX4_slipOf_341 rfl ?_
                      refine g_dup C dX4_slipOf_342 ⟨rfl, fun q => by cases q⟩ ?_
                      refine g_getI C 27 dX4_slipOf_343 f_X4_172 ⟨rfl, rfl⟩ rfl rfl (fun r_343 => ?_)
                      refine g_iconst C dX4_slipOf_346 ?_
                      refine g_isub C dX4_slipOf_347 ?_
                      refine g_putI C 27 dX4_slipOf_348 f_X4_172 ⟨rfl, rfl⟩ rfl rfl (by omega) ?_
                      refine g_iconst C dX4_slipOf_351 ?_
                      refine g_ist_5 C dX4_slipOf_352 (by decide) rfl ?_
                      exact S5 (by omega) (by omega)
                · refine g_iload_n C dX4_slipOf_308 rfl ?_
                  refine g_bipush C dX4_slipOf_309 (by decide) ?_
                  refine g_bipush C dX4_slipOf_311 (by decide) ?_
                  refine g_callSi C dX4_slipOf_313 s_X4_84 (m_X4_in (h := 1) hI x 97 104 M1 (by omega) (fun _ _ q => q)) rfl rfl (Nat.le_of_ble_eq_true rfl) (by omega) ?_
                  rintro z M' ⟨⟨hz, rfl⟩ | ⟨hz, rfl⟩, rfl⟩
                  · refine g_if_eq C 323 dX4_slipOf_316 (by decide) (by omega) (fun c_316 => ?_) (fun c_316 => ?_)
                    · omega
                    · refine g_iconst C dX4_slipOf_319 ?_
                      refine g_goto C 325 dX4_slipOf_320 (by decide) ?_
                      refine g_ist_4 C dX4_slipOf_325 (by decide) rfl ?_
                      refine g_goto C 354 dX4_slipOf_327 (by decide) ?_
                      exact S4 (by omega) (by omega)
                  · refine g_if_eq C 323 dX4_slipOf_316 (by decide) (by omega) (fun c_316 => ?_) (fun c_316 => ?_)
                    · refine g_bipush C dX4_slipOf_323 (by decide) ?_
                      refine g_ist_4 C dX4_slipOf_325 (by decide) rfl ?_
                      refine g_goto C 354 dX4_slipOf_327 (by decide) ?_
                      exact NB (-6) M1 hF (by omega) (Or.inl ⟨by omega, Z3 (by omega) (by omega)⟩) hkn
                    · omega
              · refine g_iload_n C dX4_slipOf_231 rfl ?_
                refine g_bipush C dX4_slipOf_232 (by decide) ?_
                refine g_bipush C dX4_slipOf_234 (by decide) ?_
                refine g_callSi C dX4_slipOf_236 s_X4_84 (m_X4_in (h := 1) hI x 97 104 M1 (by omega) (fun _ _ q => q)) rfl rfl (Nat.le_of_ble_eq_true rfl) (by omega) ?_
                rintro z M' ⟨⟨hz, rfl⟩ | ⟨hz, rfl⟩, rfl⟩
                · refine g_if_eq C 281 dX4_slipOf_239 (by decide) (by omega) (fun c_239 => ?_) (fun c_239 => ?_)
                  · omega
                  · refine g_iload_n C dX4_slipOf_242 rfl ?_
                    refine g_bipush C dX4_slipOf_243 (by decide) ?_
                    refine g_isub C dX4_slipOf_245 ?_
                    refine g_aload_n C dX4_slipOf_246 rfl ?_
                    refine g_getR C 48 dX4_slipOf_247 f_X4_62 ⟨rfl, rfl⟩ rfl (by decide) ?_
                    refine g_aload_n C dX4_slipOf_250 rfl ?_
                    refine g_getI C 27 dX4_slipOf_251 f_X4_172 ⟨rfl, rfl⟩ rfl rfl (fun r_251 => ?_)
                    refine g_iconst C dX4_slipOf_254 ?_
                    refine g_isub C dX4_slipOf_255 ?_
                    refine g_iald C 101 dX4_slipOf_256 ⟨rfl, rfl⟩ rfl (by omega) (fun r_256 => ?_)
                    rw [(X2 (by omega)).1] at r_256 ⊢
                    refine g_ic_le C 281 dX4_slipOf_257 (by decide) (by omega) (fun c_257 => ?_) (fun c_257 => ?_)
                    · refine g_iload_n C dX4_slipOf_281 rfl ?_
                      refine g_bipush C dX4_slipOf_282 (by decide) ?_
                      refine g_ic_ne C 354 dX4_slipOf_284 (by decide) (by omega) (fun c_284 => ?_) (fun c_284 => ?_)
                      · exact NB (-6) M1 hF (by omega) (Or.inl ⟨by omega, Z2 (by omega) (by omega) (by omega)⟩) hkn
                      · refine g_aload_n C dX4_slipOf_287 rfl ?_
                        refine g_dup C dX4_slipOf_288 ⟨rfl, fun q => by cases q⟩ ?_
                        refine g_getI C 27 dX4_slipOf_289 f_X4_172 ⟨rfl, rfl⟩ rfl rfl (fun r_289 => ?_)
                        refine g_iconst C dX4_slipOf_292 ?_
                        refine g_isub C dX4_slipOf_293 ?_
                        refine g_putI C 27 dX4_slipOf_294 f_X4_172 ⟨rfl, rfl⟩ rfl rfl (by omega) ?_
                        refine g_iconst C dX4_slipOf_297 ?_
                        refine g_ist_5 C dX4_slipOf_298 (by decide) rfl ?_
                        refine g_goto C 354 dX4_slipOf_300 (by decide) ?_
                        exact S3 (by omega) (by omega)
                    · refine g_aload_n C dX4_slipOf_260 rfl ?_
                      refine g_getR C 48 dX4_slipOf_261 f_X4_62 ⟨rfl, rfl⟩ rfl (by decide) ?_
                      refine g_aload_n C dX4_slipOf_264 rfl ?_
                      refine g_getI C 27 dX4_slipOf_265 f_X4_172 ⟨rfl, rfl⟩ rfl rfl (fun r_265 => ?_)
                      refine g_iconst C dX4_slipOf_268 ?_
                      refine g_isub C dX4_slipOf_269 ?_
                      refine g_iload_n C dX4_slipOf_270 rfl ?_
                      refine g_bipush C dX4_slipOf_271 (by decide) ?_
                      refine g_isub C dX4_slipOf_273 ?_
                      refine g_iast C 101 dX4_slipOf_274 ⟨rfl, rfl⟩ rfl (by omega) (by omega) ?_
                      refine g_iconst C dX4_slipOf_275 ?_
                      refine g_ist_4 C dX4_slipOf_276 (by decide) rfl ?_
                      refine g_goto C 354 dX4_slipOf_278 (by decide) ?_
                      exact S2 (by omega) (by omega) (by omega)
                · refine g_if_eq C 281 dX4_slipOf_239 (by decide) (by omega) (fun c_239 => ?_) (fun c_239 => ?_)
                  · refine g_iload_n C dX4_slipOf_281 rfl ?_
                    refine g_bipush C dX4_slipOf_282 (by decide) ?_
                    refine g_ic_ne C 354 dX4_slipOf_284 (by decide) (by omega) (fun c_284 => ?_) (fun c_284 => ?_)
                    · exact NB (-6) M1 hF (by omega) (Or.inl ⟨by omega, Z2 (by omega) (by omega) (by omega)⟩) hkn
                    · refine g_aload_n C dX4_slipOf_287 rfl ?_
                      refine g_dup C dX4_slipOf_288 ⟨rfl, fun q => by cases q⟩ ?_
                      refine g_getI C 27 dX4_slipOf_289 f_X4_172 ⟨rfl, rfl⟩ rfl rfl (fun r_289 => ?_)
                      refine g_iconst C dX4_slipOf_292 ?_
                      refine g_isub C dX4_slipOf_293 ?_
                      refine g_putI C 27 dX4_slipOf_294 f_X4_172 ⟨rfl, rfl⟩ rfl rfl (by omega) ?_
                      refine g_iconst C dX4_slipOf_297 ?_
                      refine g_ist_5 C dX4_slipOf_298 (by decide) rfl ?_
                      refine g_goto C 354 dX4_slipOf_300 (by decide) ?_
                      exact S3 (by omega) (by omega)
                  · omega
            · refine g_iload_n C dX4_slipOf_213 rfl ?_
              refine g_bipush C dX4_slipOf_214 (by decide) ?_
              refine g_bipush C dX4_slipOf_216 (by decide) ?_
              refine g_callSi C dX4_slipOf_218 s_X4_84 (m_X4_in (h := 1) hI x 97 122 M1 (by omega) (fun _ _ q => q)) rfl rfl (Nat.le_of_ble_eq_true rfl) (by omega) ?_
              rintro z M' ⟨⟨hz, rfl⟩ | ⟨hz, rfl⟩, rfl⟩
              · refine g_ist_5 C dX4_slipOf_221 (by decide) rfl ?_
                refine g_goto C 354 dX4_slipOf_223 (by decide) ?_
                exact S1 (by omega) (by omega)
              · refine g_ist_5 C dX4_slipOf_221 (by decide) rfl ?_
                refine g_goto C 354 dX4_slipOf_223 (by decide) ?_
                exact NB (-6) M1 hF (by omega) (Or.inl ⟨by omega, Z1 (by omega) (by omega)⟩) hkn
          · exact J45 (by omega)
      refine g_iload_n C dX4_slipOf_14 rfl ?_
      refine g_aload_n C dX4_slipOf_15 rfl ?_
      refine g_getI C 0 dX4_slipOf_16 f_X4_88 ⟨rfl, rfl⟩ rfl rfl (fun r_16 => ?_)
      rw [e30] at r_16 ⊢
      refine g_ic_ge C 430 dX4_slipOf_19 (by decide) (by omega) (fun c_19 => ?_) (fun c_19 => ?_)
      · refine g_iload_n C dX4_slipOf_430 rfl ?_
        refine g_bipush C dX4_slipOf_431 (by decide) ?_
        refine g_ic_ne C 441 dX4_slipOf_433 (by decide) (by omega) (fun c_433 => ?_) (fun c_433 => ?_)
        · refine g_aload_n C dX4_slipOf_441 rfl ?_
          refine g_getI C 0 dX4_slipOf_442 f_X4_88 ⟨rfl, rfl⟩ rfl rfl (fun r_442 => ?_)
          rw [e30]
          exact g_iret C dX4_slipOf_445 (hp _ _ ⟨hF, Or.inr ⟨fun j j1 j2 => hall j j1 (by omega), Or.inr ⟨by rw [show n = k by omega, ← eq, ← est]; assumption, rfl⟩⟩, fun u => by omega⟩)
        · refine g_bipush C dX4_slipOf_436 (by decide) ?_
          refine g_goto C 445 dX4_slipOf_438 (by decide) ?_
          exact g_iret C dX4_slipOf_445 (hp _ _ ⟨hF, Or.inr ⟨fun j j1 j2 => hall j j1 (by omega), Or.inl ⟨by rw [show n = k by omega, ← eq, ← est]; assumption, rfl⟩⟩, fun u => by rw [show n = k by omega, ← eq]; exact hV.1⟩)
      · refine g_aload_n C dX4_slipOf_22 rfl ?_
        refine g_getR C 31 dX4_slipOf_23 f_X4_7 ⟨rfl, rfl⟩ rfl (by decide) ?_
        refine g_iload_n C dX4_slipOf_26 rfl ?_
        refine g_iald C 100 dX4_slipOf_27 ⟨rfl, rfl⟩ rfl (by omega) (fun r_27 => ?_)
        rw [e31] at r_27 ⊢
        refine g_istn_3 C dX4_slipOf_28 (by decide) rfl ?_
        refine g_bipush C dX4_slipOf_29 (by decide) ?_
        refine g_ist_4 C dX4_slipOf_31 (by decide) rfl ?_
        refine g_iconst C dX4_slipOf_33 ?_
        refine g_ist_5 C dX4_slipOf_34 (by decide) rfl ?_
        exact MID (by omega) (by omega)
  refine g_iconst C dX4_slipOf_0 ?_
  refine g_istn_1 C dX4_slipOf_1 (by decide) rfl ?_
  refine g_aload_n C dX4_slipOf_2 rfl ?_
  refine g_iconst C dX4_slipOf_3 ?_
  refine g_putI C 24 dX4_slipOf_4 f_X4_169 ⟨rfl, rfl⟩ rfl rfl (by omega) ?_
  refine g_aload_n C dX4_slipOf_7 rfl ?_
  refine g_iconst C dX4_slipOf_8 ?_
  refine g_putI C 27 dX4_slipOf_9 f_X4_172 ⟨rfl, rfl⟩ rfl rfl (by omega) ?_
  have hF : kSf M (kUp (kUp M 30 0 24 0) 30 0 27 0) := (kSf.rf.sl (by decide)).sl (by decide)
  have hV : kPV (kUp (kUp M 30 0 24 0) 30 0 27 0) T (vRun T (0 : Int).toNat) := ⟨by rw [kUp_nk (by decide), kUp_eq]; rfl, fun _ => 0, by
    rw [kUp_eq]
    exact ⟨Int.le_refl 0, Or.inl ⟨rfl, rfl⟩, fun i i1 i2 => by omega, fun i j i1 i2 i3 => by omega⟩⟩
  generalize kUp (kUp M 30 0 24 0) 30 0 27 0 = M1 at hF hV
  refine g_iconst C dX4_slipOf_12 ?_
  refine g_istn_2 C dX4_slipOf_13 (by decide) rfl ?_
  exact L (n + 1).toNat 0 0 _ _ _ M1 (by omega) (by omega) (by omega) hF hV rfl (fun j j1 j2 => by
  rw [show j = 0 by omega]
  exact Int.le_refl 0)
theorem m_X4_slip (hh : 3 ≤ h) (hI : kInj w) (M : KM) (hn : 0 ≤ M 30 0 0 ∧ M 30 0 0 ≤ 100) (hp : ∀ z M', kSf M M' ∧ kSlA (M 31 0) (M 30 0 0) z ∧ (z < 0 → M' 30 0 24 = vMn (vRun (M 31 0) (M 30 0 0).toNat)) → post z M') : kMet l w yX4_slip cX4_slip 1 (some .int) 1 h [vR 30 0] M post := by
  refine kMet_of [vR 30 0] (by decide) hI rfl rfl (Nat.le_of_ble_eq_true rfl) ?_
  intro p e s m args below meth c C hVok
  refine g_aload_n C dX4_slip_0 rfl ?_
  refine g_callVi C dX4_slip_1 v_X4_175 (m_X4_slipOf (h := 2) (by omega) hI M hn (fun _ _ q => q)) ⟨rfl, rfl⟩ rfl rfl (Nat.le_of_ble_eq_true rfl) (by omega) ?_
  rintro z M' hz
  exact g_iret C dX4_slip_4 (hp _ _ hz)
theorem m_X4_size (hh : 3 ≤ h) (hI : kInj w) (M : KM) (hn : 0 ≤ M 30 0 0 ∧ M 30 0 0 ≤ 100) (hp : ∀ z M', kSf M M' ∧ kSzA (M 31 0) (M 30 0 0) z → post z M') : kMet l w yX4_size cX4_size 1 (some .int) 1 h [vR 30 0] M post := by
  refine kMet_of [vR 30 0] (by decide) hI rfl rfl (Nat.le_of_ble_eq_true rfl) ?_
  intro p e s m args below meth c C hVok
  refine g_aload_n C dX4_size_0 rfl ?_
  refine g_callVi C dX4_size_1 v_X4_175 (m_X4_slipOf (h := 2) (by omega) hI M hn (fun _ _ q => q)) ⟨rfl, rfl⟩ rfl rfl (Nat.le_of_ble_eq_true rfl) (by omega) ?_
  rintro z M' ⟨hF, hz, hR⟩
  have hzr := kSlA_rng hn.1 hz
  refine g_if_lt C 12 dX4_size_4 (by decide) (by omega) (fun c_4 => ?_) (fun c_4 => ?_)
  · refine g_aload_n C dX4_size_12 rfl ?_
    refine g_getI C 24 dX4_size_13 f_X4_169 ⟨rfl, rfl⟩ rfl rfl (fun r_13 => ?_)
    exact g_iret C dX4_size_16 (hp _ _ ⟨hF, z, hz, Or.inr ⟨by assumption, hR (by assumption)⟩⟩)
  · refine g_bipush C dX4_size_7 (by decide) ?_
    refine g_goto C 16 dX4_size_9 (by decide) ?_
    exact g_iret C dX4_size_16 (hp _ _ ⟨hF, z, hz, by omega⟩)
end

