/-! Math.min, of ints and of longs, in the judgement kG -/
set_option maxRecDepth 100000
section
variable {p : Program} {l : Launch} {e : Env} {h : Nat} {s : State} {m : MethodId} {args : Array Value} {below : List Frame} {meth : Method} {c : Code} {w : KL} {nL kd : Nat} {post : Int → KM → Prop} {pc : Nat} {ls st : List KV} {M : KM} {own : String} {cc : ByteArray} {rt : Option FieldType}
theorem kMinI_code : Lib.Math.min.code = cJ0_min_2 := by decide +kernel
theorem kMinL_code : Lib.MathLoose.min_long.code = cJ0_min := by decide +kernel
theorem g_minI (C : kCx p s m args meth c w own cc nL rt) {idx : Nat} {x y : Int} (hq : Cond.methodLink own idx yJ0_min_2 ∈ lw_all) (hd : decode cc pc = .ok (.invokestatic idx, 3)) (hr : (-2147483648 ≤ x ∧ x < 2147483648) ∧ -2147483648 ≤ y ∧ y < 2147483648) (hh : 1 ≤ h) (hc : (st.map kCat).sum ≤ 8)
    (kk : ∀ z : Int, ((x ≤ y ∧ z = x) ∨ (y < x ∧ z = y)) → kG p l e h s m args below meth c w nL kd post (pc + 3) ls (vI z :: st) M) : kG p l e h s m args below meth c w nL kd post pc ls (vI y :: vI x :: st) M := by
  intro hR hst hls lsA H locs hL hP hS
  have hts := C.2.2.2.2.1
  have k1 := kk (if y < x then y else x) (by split <;> omega) hR (kSt_mk trivial (kSt (kSt hst).2).2) hls lsA H locs hL hP hS
  refine va_mmin C.1 C.2.1 (C.2.2.1.trans hL.1.symm) (own := own) (index := idx) C.2.2.2.1 (hts _ hq) (hts _ q498) (hts _ q61) (by rw [kMinI_code]; exact hts _ q499) ?_ ?_ (Nat.le_refl 0) (Nat.le_refl 0) hd ?_
  · show 1 ≤ h
    exact hh
  · show _ ≤ 60 * h
    have := kCat_sum (w := w) st
    omega
  · have e1 : (if Int32.ofInt y < Int32.ofInt x then Int32.ofInt y else Int32.ofInt x) = Int32.ofInt (if y < x then y else x) := by
      have := kI_lt hr.2 hr.1
      by_cases q : y < x
      · rw [if_pos (this.mpr q), if_pos q]
      · rw [if_neg (fun z => q (this.mp z)), if_neg q]
    rw [e1]
    exact k1
theorem g_minL (C : kCx p s m args meth c w own cc nL rt) {idx : Nat} {x y : Int} (hq : Cond.methodLink own idx yJ0_min ∈ lw_all) (hd : decode cc pc = .ok (.invokestatic idx, 3)) (hr : (-9223372036854775808 ≤ x ∧ x < 9223372036854775808) ∧ -9223372036854775808 ≤ y ∧ y < 9223372036854775808) (hh : 1 ≤ h) (hc : (st.map kCat).sum ≤ 8)
    (kk : ∀ z : Int, ((x ≤ y ∧ z = x) ∨ (y < x ∧ z = y)) → kG p l e h s m args below meth c w nL kd post (pc + 3) ls (vL z :: st) M) : kG p l e h s m args below meth c w nL kd post pc ls (vL y :: vL x :: st) M := by
  intro hR hst hls lsA H locs hL hP hS
  have hts := C.2.2.2.2.1
  have k1 := kk (if y < x then y else x) (by split <;> omega) hR (kSt_mk trivial (kSt (kSt hst).2).2) hls lsA H locs hL hP hS
  refine va_mmin_long C.1 C.2.1 (C.2.2.1.trans hL.1.symm) (own := own) (index := idx) C.2.2.2.1 (hts _ hq) (hts _ q479) (hts _ q61) (by rw [kMinL_code]; exact hts _ q480) ?_ ?_ (Nat.le_refl 0) (Nat.le_refl 0) hd ?_
  · show 1 ≤ h
    exact hh
  · show _ ≤ 60 * h
    have := kCat_sum (w := w) st
    omega
  · have e1 : (if Int64.ofInt y < Int64.ofInt x then Int64.ofInt y else Int64.ofInt x) = Int64.ofInt (if y < x then y else x) := by
      have : Int64.ofInt y < Int64.ofInt x ↔ y < x := by rw [Int64.lt_iff_toInt_lt, kL_toInt hr.1, kL_toInt hr.2]
      by_cases q : y < x
      · rw [if_pos (this.mpr q), if_pos q]
      · rw [if_neg (fun z => q (this.mp z)), if_neg q]
    rw [e1]
    exact k1
end
