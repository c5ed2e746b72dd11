/-! THE FIXED WORLD of the law: 54 kinds of cells (a tag, and a number within the tag), all made by the two constructors; whole numbers as Int; one judgement kG for a method's body over it. Tags: 1 kinds' Kind, 2 its part, 3 the Reader's Kind, 4 its part, 5 a row of fall, 6 a row of counts, 7 KindNets .. 29, 30 KindNetsModel .. 54 -/
set_option maxRecDepth 100000
abbrev KV : Type := Int ⊕ Int ⊕ (Nat × Int) ⊕ Unit
def vI (z : Int) : KV := .inl z
def vL (z : Int) : KV := .inr (.inl z)
def vR (t : Nat) (i : Int) : KV := .inr (.inr (.inl (t, i)))
def vN : KV := .inr (.inr (.inr ()))
abbrev KL : Type := va_G × (Nat → Nat → Nat) × (Nat → ClassId)
abbrev KM : Type := Nat → Int → Int → Int
def kOv (w : KL) (v : KV) : Option Value := match v with
  | .inl z => some (.int (Int32.ofInt z))
  | .inr (.inl z) => some (.long (Int64.ofInt z))
  | .inr (.inr (.inl q)) => some (.ref (w.2.1 q.1 q.2.toNat))
  | .inr (.inr (.inr _)) => none
def kTv (w : KL) (v : KV) : Value := (kOv w v).getD .null
def kCnt (t : Nat) : Nat := match t with
  | 1 => 60 | 2 => 60 | 3 => 100 | 4 => 100 | 5 => 60 | 6 => 13 | _ => 1
/-- 0 an object, 1 an array of ints, chars, booleans, 2 of longs, 3 of references -/
def kSk (t : Nat) : Nat := match t with
  | 1 => 0 | 3 => 0 | 7 => 0 | 11 => 0 | 21 => 0 | 30 => 0
  | 6 => 2 | 28 => 2 | 51 => 2 | 52 => 2 | 53 => 2
  | 8 => 3 | 12 => 3 | 18 => 3 | 27 => 3
  | _ => 1
/-- an array's type: its place in kTys -/
def kTc (t : Nat) : Nat := match t with
  | 10 => 1 | 19 => 2 | 41 => 2 | 43 => 2
  | 6 => 3 | 28 => 3 | 51 => 3 | 52 => 3 | 53 => 3
  | 8 => 4 | 12 => 4 | 18 => 5 | 27 => 6
  | _ => 0
def kLen (t : Nat) : Nat := match t with
  | 2 => 8 | 4 => 8 | 5 => 60 | 6 => 60 | 8 => 60 | 9 => 8 | 10 => 100 | 12 => 100 | 13 => 100 | 14 => 100 | 15 => 100 | 16 => 8 | 17 => 100
  | 18 => 60 | 19 => 60 | 20 => 60 | 22 => 100 | 23 => 100 | 24 => 100 | 25 => 100 | 26 => 100 | 27 => 13 | 28 => 13 | 29 => 60
  | 31 => 100 | 32 => 60 | 33 => 480 | 34 => 8 | 35 => 100 | 36 => 800 | 37 => 8 | 38 => 16 | 39 => 16 | 40 => 16 | 41 => 3600 | 42 => 3600
  | 43 => 60 | 44 => 7200 | 45 => 600 | 46 => 600 | 47 => 101 | 48 => 101 | 49 => 101 | 50 => 101 | 51 => 780 | 52 => 13 | 53 => 13 | 54 => 60
  | _ => 0
/-- the tag of an array's elements -/
def kEt (t : Nat) : Nat := match t with
  | 8 => 1 | 12 => 3 | 18 => 5 | 27 => 6 | _ => 0
/-- an object's class: its place in kCl -/
def kCi (t : Nat) : Nat := match t with
  | 1 => 2 | 3 => 2 | 7 => 0 | 11 => 1 | 21 => 3 | 30 => 4 | _ => 0
def kNc (c : Nat) : Nat := match c with
  | 0 => 18 | 1 => 8 | 2 => 2 | 3 => 6 | _ => 34
/-- the tag that an object's field refers to; 0: the field is a number -/
def kRt (t k : Nat) : Nat := match t with
  | 1 => (match k with | 1 => 2 | _ => 0)
  | 3 => (match k with | 1 => 4 | _ => 0)
  | 7 => (match k with | 0 => 8 | 2 => 9 | 3 => 10 | 5 => 11 | 6 => 17 | 7 => 18 | 9 => 19 | 10 => 20 | 13 => 21 | 14 => 26 | 15 => 27 | 16 => 28 | 17 => 29 | _ => 0)
  | 11 => (match k with | 0 => 12 | 1 => 13 | 2 => 14 | 3 => 15 | 4 => 16 | _ => 0)
  | 21 => (match k with | 0 => 22 | 1 => 23 | 2 => 24 | 3 => 25 | _ => 0)
  | 30 => (match k with | 1 => 31 | 3 => 32 | 4 => 33 | 5 => 34 | 7 => 35 | 8 => 36 | 9 => 37 | 11 => 38 | 12 => 39 | 13 => 40 | 16 => 41 | 17 => 42 | 19 => 43 | 20 => 44 | 22 => 45 | 23 => 46 | 25 => 47 | 26 => 48 | 28 => 49 | 29 => 50 | 30 => 51 | 31 => 52 | 32 => 53 | 33 => 54 | _ => 0)
  | _ => 0
def kPos (t i : Nat) : Nat := match t with
  | 1 => i | 2 => 60 + i | 3 => 120 + i | 4 => 220 + i | 5 => 320 + i | 6 => 380 + i | t => 386 + t
def kTg (j : Nat) : Nat × Nat :=
  if j < 60 then (1, j) else if j < 120 then (2, j - 60) else if j < 220 then (3, j - 120) else if j < 320 then (4, j - 220) else if j < 380 then (5, j - 320) else if j < 393 then (6, j - 380) else (j - 386, 0)
def kOk (t i : Nat) : Prop := 1 ≤ t ∧ t < 55 ∧ i < kCnt t
theorem kPos_lt : ∀ t, t < 55 → ∀ i, i < kCnt t → (1 ≤ t → kPos t i < 441 ∧ kTg (kPos t i) = (t, i)) := by decide +kernel
theorem kTg_ok : ∀ j, j < 441 → (1 ≤ (kTg j).1 ∧ (kTg j).1 < 55 ∧ (kTg j).2 < kCnt (kTg j).1) ∧ kPos (kTg j).1 (kTg j).2 = j := by decide +kernel
abbrev kCl : List vw_C := [(RX0, TX0, 18), (RX1, TX1, 8), (RX2, TX2, 2), (RX3, TX3, 6), (RX4, TX4, 34)]
abbrev kTys (w : KL) : List (ClassId × FieldType) := [(w.2.2 0, .int), (w.2.2 1, .char), (w.2.2 2, .boolean), (w.2.2 3, .long), (w.2.2 4, .object "KindNets$Kind"), (w.2.2 5, .array .int), (w.2.2 6, .array .long)]
def kFv (w : KL) (M : KM) (t i k : Nat) : Value := if kRt t k = 0 then .int (Int32.ofInt (M t i k)) else .ref (w.2.1 (kRt t k) i)
def kCell (w : KL) (M : KM) (t i : Nat) : va_E := match kSk t with
  | 0 => .inr (kCi t, (List.range (kNc (kCi t))).map (fun k => kFv w M t i k))
  | 1 => .inl (w.2.2 (kTc t), kLen t, .inl (fun k => Int32.ofInt (M t i k)))
  | 2 => .inl (w.2.2 (kTc t), kLen t, .inr (.inl (fun k => Int64.ofInt (M t i k))))
  | _ => .inl (w.2.2 (kTc t), kLen t, .inr (.inr (.inr (.inr (fun k => some (w.2.1 (kEt t) k))))))
def kW (w : KL) (M : KM) : va_W := (List.range 441).map (fun j => (w.2.1 (kTg j).1 (kTg j).2, kCell w M (kTg j).1 (kTg j).2))
theorem kW_at (w : KL) (M : KM) {t i : Nat} (h : kOk t i) : (kW w M)[kPos t i]? = some (w.2.1 t i, kCell w M t i) := by
  obtain ⟨h1, h2⟩ := kPos_lt t h.2.1 i h.2.2 h.1
  unfold kW
  rw [List.getElem?_map, List.getElem?_range h1]
  simp only [Option.map_some, h2]
def kInj (w : KL) : Prop := ∀ t i t' i', kOk t i → kOk t' i' → w.2.1 t i = w.2.1 t' i' → t = t' ∧ i = i'
def kA (w : KL) : Nat → Prop := fun q => ∃ t i, kOk t i ∧ q = w.2.1 t i
theorem kW_get {w : KL} {M : KM} {k : Nat} {q : Nat × va_E} (h : (kW w M)[k]? = some q) : k < 441 ∧ q = (w.2.1 (kTg k).1 (kTg k).2, kCell w M (kTg k).1 (kTg k).2) := by
  have hl : k < 441 := by
    have := (List.getElem?_eq_some_iff.mp h).1
    simpa [kW] using this
  refine ⟨hl, ?_⟩
  unfold kW at h
  rw [List.getElem?_map, List.getElem?_range hl] at h
  simpa using h.symm
theorem kW_D {w : KL} (hI : kInj w) (M : KM) : va_D (kA w) (kW w M) := by
  refine ⟨fun i j p q hp hq he => ?_, fun k q hk => ?_⟩
  · obtain ⟨hi, rfl⟩ := kW_get hp
    obtain ⟨hj, rfl⟩ := kW_get hq
    obtain ⟨a1, a2⟩ := kTg_ok i hi
    obtain ⟨b1, b2⟩ := kTg_ok j hj
    obtain ⟨e1, e2⟩ := hI _ _ _ _ a1 b1 he
    rw [← a2, ← b2, e1, e2]
  · obtain ⟨hi, rfl⟩ := kW_get hk
    exact ⟨_, _, (kTg_ok k hi).1, rfl⟩
theorem kW_set {w : KL} {M M' : KM} {t i : Nat} (h : kOk t i) (hM : ∀ t' i', ¬ (t' = t ∧ i' = i) → kCell w M' t' i' = kCell w M t' i') : (kW w M).set (kPos t i) (w.2.1 t i, kCell w M' t i) = kW w M' := by
  obtain ⟨h1, h2⟩ := kPos_lt t h.2.1 i h.2.2 h.1
  apply List.ext_getElem?
  intro j
  rw [List.getElem?_set]
  by_cases hj : kPos t i = j
  · subst hj
    rw [if_pos rfl, if_pos (by simpa [kW] using h1)]
    exact (kW_at w M' h).symm
  · rw [if_neg hj]
    by_cases hl : j < 441
    · obtain ⟨a1, a2⟩ := kTg_ok j hl
      have e1 := kW_at w M (t := (kTg j).1) (i := (kTg j).2) a1
      have e2 := kW_at w M' (t := (kTg j).1) (i := (kTg j).2) a1
      rw [a2] at e1 e2
      rw [e1, e2, hM]
      rintro ⟨q1, q2⟩
      exact hj (by rw [← a2, q1, q2])
    · rw [List.getElem?_eq_none (by simp [kW]; omega), List.getElem?_eq_none (by simp [kW]; omega)]
def kUp (M : KM) (t : Nat) (i k z : Int) : KM := fun t' i' k' => if t' = t ∧ i' = i ∧ k' = k then z else M t' i' k'
theorem kUp_cell {w : KL} {M : KM} {t i : Nat} {k z : Int} (t' i' : Nat) (h : ¬ (t' = t ∧ i' = i)) : kCell w (kUp M t i k z) t' i' = kCell w M t' i' := by
  have e : ∀ k' : Int, kUp M t i k z t' i' k' = M t' i' k' := fun k' => by
    unfold kUp
    rw [if_neg]
    rintro ⟨q1, q2, -⟩
    exact h ⟨q1, by omega⟩
  unfold kCell kFv
  simp only [e]
/-- every number that is no long's is an int's -/
def kRg (M : KM) : Prop := ∀ (t : Nat) (i k : Int), kSk t ≠ 2 → -2147483648 ≤ M t i k ∧ M t i k < 2147483648
theorem kRg_up {M : KM} {t : Nat} {i k z : Int} (h : kRg M) (hz : kSk t ≠ 2 → -2147483648 ≤ z ∧ z < 2147483648) : kRg (kUp M t i k z) := by
  intro t' i' k' ht
  unfold kUp
  split
  · rename_i q
    exact hz (by rw [← q.1]; exact ht)
  · exact h t' i' k' ht
def kVok (v : KV) : Prop := match v with
  | .inr (.inr (.inl q)) => 1 ≤ q.1 ∧ q.1 < 55 ∧ 0 ≤ q.2 ∧ q.2 < (kCnt q.1 : Int)
  | _ => True
theorem kVok_ok {t : Nat} {i : Int} (h : kVok (vR t i)) : kOk t i.toNat ∧ ((i.toNat : Nat) : Int) = i := by
  obtain ⟨h1, h2, h3, h4⟩ : 1 ≤ t ∧ t < 55 ∧ 0 ≤ i ∧ i < (kCnt t : Int) := h
  exact ⟨⟨h1, h2, by omega⟩, by omega⟩
/-! nest mates' words -/
def kNF : List (String × Nat × String × String × String) := [("KindNets", 101, "KindNets$Kind", "sign", "C"), ("KindNets", 113, "KindNets$Kind", "part", "[I"), ("KindNets", 98, "KindNets$Reader", "read", "[LKindNets$Kind;"), ("KindNets", 120, "KindNets$Reader", "root", "[I"), ("KindNets", 97, "KindNets$Reader", "many", "I"), ("KindNets", 195, "KindNets$Values", "at", "[I"), ("KindNets", 201, "KindNets$Values", "up", "[I"), ("KindNets", 204, "KindNets$Values", "letter", "[I"), ("KindNets", 198, "KindNets$Values", "last", "[I"), ("KindNets", 207, "KindNets$Values", "many", "I"), ("KindNets$Reader", 57, "KindNets$Kind", "sign", "C"), ("KindNets$Reader", 54, "KindNets$Kind", "part", "[I")]
def kNW (U : State) : Prop := (∀ q ∈ kNF, va_Nw (.fieldLinkNest q.1 q.2.1 q.2.2.1 q.2.2.2.1 q.2.2.2.2 "KindNets") U) ∧ va_Nw (.methodLinkNest "KindNets" 105 ⟨"KindNets$Reader", "isName", "(I)Z"⟩ "KindNets") U
theorem kNW.warm {s U : State} (hW : s.WarmedH U.vm) (h : kNW s) : kNW U := ⟨fun q hq => va_Nw.warmF hW (h.1 q hq), va_Nw.warmM hW h.2⟩
theorem kNW.same {u U : State} (he : u.vm = U.vm) (h : kNW u) : kNW U := ⟨fun q hq => va_Nw.same rfl he (h.1 q hq), va_Nw.same rfl he h.2⟩
/-- the world holds M -/
def kWk (w : KL) (M : KM) (U : State) : Prop := kRg M ∧ va_P w.1 kCl (kW w M) U.heap ∧ va_K w.1 kCl (kTys w) U ∧ kNW U
def kRm (h : Nat) : Room := { frames := h, cells := 0, slots := 0, locals := 60 * h }
/-- an answer: of kind 0 none, 1 an int, 2 a long -/
def kAns (kd : Nat) (z : Int) : Option Value := match kd with
  | 0 => none
  | 1 => some (.int (Int32.ofInt z))
  | _ => some (.long (Int64.ofInt z))
def kQ (w : KL) (kd : Nat) (post : Int → KM → Prop) : Array Value → State → Outcome → State → Prop := fun _ st oc t => (∃ (z : Int) (M' : KM), oc = .returned (kAns kd z) ∧ post z M' ∧ kRg M' ∧ va_P w.1 kCl (kW w M') t.heap) ∧ va_F (kA w) st t
/-- a contract: called with av in a world that holds M, y returns; post of its answer and of what the world then holds -/
def kMet (l : Launch) (w : KL) (y : MethodName) (cd : ByteArray) (mL : Nat) (rt : Option FieldType) (kd h : Nat) (av : List KV) (M : KM) (post : Int → KM → Prop) : Prop :=
  Met l y (ws_ y cd mL rt) (kRm h) (va_Pc (av.map (kTv w)) (fun U => (∀ v ∈ av, kVok v) ∧ kWk w M U)) (kQ w kd post) 0 0 (kA w)
def kCx (p : Program) (s : State) (m : MethodId) (args : Array Value) (meth : Method) (c : Code) (w : KL) (own : String) (cc : ByteArray) (nL : Nat) (rt : Option FieldType) : Prop :=
  p.tables.exec = Jvm.exec ∧ c.code = cc ∧ c.maxLocals = nL ∧ s.vm.findClass own = some m.cls ∧ (∀ w ∈ lw_all, w.before args s = true) ∧ va_K w.1 kCl (kTys w) s ∧ kNW s ∧ kInj w ∧ meth.locks = false ∧ meth.sig.returnType = rt
def kLs (w : KL) (ls : List KV) : List (Nat × Value) := ls.zipIdx.filterMap (fun q => (kOv w q.1).map (fun x => (q.2, x)))
theorem kLs_mem {w : KL} {ls : List KV} {i : Nat} {x : Value} : (i, x) ∈ kLs w ls ↔ ∃ v, ls[i]? = some v ∧ kOv w v = some x := by
  unfold kLs
  constructor
  · intro h
    obtain ⟨⟨v, j⟩, h1, h2⟩ := List.mem_filterMap.mp h
    obtain ⟨y, h3, h4⟩ := Option.map_eq_some_iff.mp h2
    cases h4
    exact ⟨v, List.mem_zipIdx_iff_getElem?.mp h1, h3⟩
  · rintro ⟨v, h1, h2⟩
    exact List.mem_filterMap.mpr ⟨(v, i), List.mem_zipIdx_iff_getElem?.mpr h1, by simp [h2]⟩
theorem lv_has.less {ls : Array Slot} {nL : Nat} {a b : List (Nat × Value)} (h : lv_has ls nL a) (hs : ∀ q ∈ b, q ∈ a) : lv_has ls nL b := ⟨h.1, h.2.1, fun q hq => h.2.2 q (hs q hq)⟩
/-- THE JUDGEMENT: from pc, with locals ls, stack st and a world that holds M, the method comes to its end with post -/
def kG (p : Program) (l : Launch) (e : Env) (h : Nat) (s : State) (m : MethodId) (args : Array Value) (below : List Frame) (meth : Method) (c : Code) (w : KL) (nL kd : Nat) (post : Int → KM → Prop) (pc : Nat) (ls st : List KV) (M : KM) : Prop :=
  kRg M → (∀ v ∈ st, kVok v) → (∀ v ∈ ls, kVok v) → ∀ (lsA : Array Slot) (H : Heap) (locs : List Loc), lv_has lsA nL (kLs w ls) → va_P w.1 kCl (kW w M) H → va_S (kA w) s.heap H locs →
    W p l e (kRm h) s m args below meth c H locs 0 0 (MQ below (kQ w kd post) args s 0 0 (kA w)) (F0 m pc lsA (st.map (kTv w)))
section KG
variable {p : Program} {l : Launch} {e : Env} {h : Nat} {s : State} {m : MethodId} {args : Array Value} {below : List Frame} {meth : Method} {c : Code} {w : KL} {nL kd : Nat} {post : Int → KM → Prop} {pc : Nat} {ls st : List KV} {M : KM} {own : String} {cc : ByteArray} {rt : Option FieldType}
def kIn (z : Int) : Prop := -2147483648 ≤ z ∧ z < 2147483648
theorem kI_toInt {z : Int} (h : -2147483648 ≤ z ∧ z < 2147483648) : (Int32.ofInt z).toInt = z := Int32.toInt_ofInt_of_le h.1 h.2
theorem kL_toInt {z : Int} (h : -9223372036854775808 ≤ z ∧ z < 9223372036854775808) : (Int64.ofInt z).toInt = z := Int64.toInt_ofInt_of_le h.1 h.2
theorem kI_ix {z : Int} {n : Nat} (h : 0 ≤ z ∧ z < (n : Int)) (hn : n < 2147483648) : vp_in (Int32.ofInt z) n ∧ (((Int32.ofInt z).toNatClampNeg : Nat) : Int) = z := by
  have e := kI_toInt (z := z) (by omega)
  refine ⟨vp_in_iff.mpr (by rw [e]; exact h), ?_⟩
  show (((Int32.ofInt z).toInt.toNat : Nat) : Int) = z
  rw [e]
  omega
theorem kI_lt {x y : Int} (hx : -2147483648 ≤ x ∧ x < 2147483648) (hy : -2147483648 ≤ y ∧ y < 2147483648) : Int32.ofInt x < Int32.ofInt y ↔ x < y := by
  rw [Int32.lt_iff_toInt_lt, kI_toInt hx, kI_toInt hy]
theorem kI_le {x y : Int} (hx : -2147483648 ≤ x ∧ x < 2147483648) (hy : -2147483648 ≤ y ∧ y < 2147483648) : Int32.ofInt x ≤ Int32.ofInt y ↔ x ≤ y := by
  rw [Int32.le_iff_toInt_le, kI_toInt hx, kI_toInt hy]
theorem kI_eq {x y : Int} (hx : -2147483648 ≤ x ∧ x < 2147483648) (hy : -2147483648 ≤ y ∧ y < 2147483648) : Int32.ofInt x = Int32.ofInt y ↔ x = y := by
  rw [← Int32.toInt_inj, kI_toInt hx, kI_toInt hy]
theorem kI_0 : (0 : Int32) = Int32.ofInt 0 := by decide
theorem kSt {v : KV} (h : ∀ x ∈ v :: st, kVok x) : kVok v ∧ ∀ x ∈ st, kVok x := List.forall_mem_cons.mp h
theorem kSt_mk {v : KV} (h1 : kVok v) (h2 : ∀ x ∈ st, kVok x) : ∀ x ∈ v :: st, kVok x := List.forall_mem_cons.mpr ⟨h1, h2⟩
theorem kLd {lsA : Array Slot} {i : Nat} {v : KV} {x : Value} (hL : lv_has lsA nL (kLs w ls)) (hi : ls[i]? = some v) (hv : kOv w v = some x) : lsA[i]? = some (.val x) := hL.2.2 (i, x) (kLs_mem.mpr ⟨v, hi, hv⟩)
theorem kLok {i : Nat} {v : KV} (hls : ∀ v ∈ ls, kVok v) (hi : ls[i]? = some v) : kVok v := hls v (List.mem_of_getElem? hi)
/-- two states that are the same -/
theorem kG_eq {ls' st' : List KV} {M' : KM} (h1 : ls' = ls) (h2 : st' = st) (h3 : M' = M) (k : kG p l e h s m args below meth c w nL kd post (pc) (ls) (st) (M)) : kG p l e h s m args below meth c w nL kd post (pc) (ls') (st') (M') := by
  subst h1; subst h2; subst h3; exact k
/-! constants -/
theorem g_iconst (C : kCx p s m args meth c w own cc nL rt) {n : Int} (hd : decode cc pc = .ok (.iconst n, 1)) (k : kG p l e h s m args below meth c w nL kd post (pc + 1) (ls) (vI n :: st) (M)) : kG p l e h s m args below meth c w nL kd post (pc) (ls) (st) (M) := by
  intro hR hst hls lsA H locs hL hP hS
  exact lv_iconst C.1 C.2.1 hd rfl (k hR (kSt_mk trivial hst) hls lsA H locs hL hP hS)
theorem g_bipush (C : kCx p s m args meth c w own cc nL rt) {n : Int} (hd : decode cc pc = .ok (.bipush n, 2)) (hn : -128 ≤ n ∧ n < 128) (k : kG p l e h s m args below meth c w nL kd post (pc + 2) (ls) (vI n :: st) (M)) : kG p l e h s m args below meth c w nL kd post (pc) (ls) (st) (M) := by
  intro hR hst hls lsA H locs hL hP hS
  refine lv_bipush C.1 C.2.1 hd (v := Int32.ofInt n) ?_ (k hR (kSt_mk trivial hst) hls lsA H locs hL hP hS)
  rw [← Int32.toInt_inj, Int8.toInt_toInt32, Int8.toInt_ofInt_of_le (by omega) (by omega), kI_toInt (by omega)]
theorem g_sipush (C : kCx p s m args meth c w own cc nL rt) {n : Int} (hd : decode cc pc = .ok (.sipush n, 3)) (hn : -32768 ≤ n ∧ n < 32768) (k : kG p l e h s m args below meth c w nL kd post (pc + 3) (ls) (vI n :: st) (M)) : kG p l e h s m args below meth c w nL kd post (pc) (ls) (st) (M) := by
  intro hR hst hls lsA H locs hL hP hS
  refine lv_sipush C.1 C.2.1 hd (v := Int32.ofInt n) ?_ (k hR (kSt_mk trivial hst) hls lsA H locs hL hP hS)
  rw [← Int32.toInt_inj, Int16.toInt_toInt32, Int16.toInt_ofInt_of_le (by omega) (by omega), kI_toInt (by omega)]
theorem g_ldc (C : kCx p s m args meth c w own cc nL rt) {idx : Nat} {v : Int32} (z : Int) (hq : Jvm.Cond.constant own idx v ∈ lw_all) (hd : decode cc pc = .ok (.ldc idx, 2)) (hz : Int32.ofInt z = v) (k : kG p l e h s m args below meth c w nL kd post (pc + 2) (ls) (vI z :: st) (M)) : kG p l e h s m args below meth c w nL kd post (pc) (ls) (st) (M) := by
  intro hR hst hls lsA H locs hL hP hS
  subst hz
  exact lv_ldc C.1 C.2.1 C.2.2.2.1 (C.2.2.2.2.1 _ hq) hd (k hR (kSt_mk trivial hst) hls lsA H locs hL hP hS)
theorem g_lconst (C : kCx p s m args meth c w own cc nL rt) {n : Fin 2} (z : Int) (hd : decode cc pc = .ok (.lconst n, 1)) (hz : Int64.ofNat (n : Nat) = Int64.ofInt z) (k : kG p l e h s m args below meth c w nL kd post (pc + 1) (ls) (vL z :: st) (M)) : kG p l e h s m args below meth c w nL kd post (pc) (ls) (st) (M) := by
  intro hR hst hls lsA H locs hL hP hS
  exact lv_lconst C.1 C.2.1 hd hz (k hR (kSt_mk trivial hst) hls lsA H locs hL hP hS)
theorem g_ldc2 (C : kCx p s m args meth c w own cc nL rt) {idx : Nat} {v : Int64} (z : Int) (hq : Jvm.Cond.constantLong own idx v ∈ lw_all) (hd : decode cc pc = .ok (.ldc2_w idx, 3)) (hz : Int64.ofInt z = v) (k : kG p l e h s m args below meth c w nL kd post (pc + 3) (ls) (vL z :: st) (M)) : kG p l e h s m args below meth c w nL kd post (pc) (ls) (st) (M) := by
  intro hR hst hls lsA H locs hL hP hS
  subst hz
  exact lv_ldc2 C.1 C.2.1 C.2.2.2.1 (C.2.2.2.2.1 _ hq) hd (k hR (kSt_mk trivial hst) hls lsA H locs hL hP hS)
/-! locals -/
theorem g_iload (C : kCx p s m args meth c w own cc nL rt) {i : Nat} {z : Int} (hd : decode cc pc = .ok (.iload i, 2)) (hi : ls[i]? = some (vI z)) (k : kG p l e h s m args below meth c w nL kd post (pc + 2) (ls) (vI z :: st) (M)) : kG p l e h s m args below meth c w nL kd post (pc) (ls) (st) (M) := by
  intro hR hst hls lsA H locs hL hP hS
  exact lv_iload C.1 C.2.1 hd (kLd hL hi rfl) (k hR (kSt_mk trivial hst) hls lsA H locs hL hP hS)
theorem g_iload_n (C : kCx p s m args meth c w own cc nL rt) {i : Fin 4} {z : Int} (hd : decode cc pc = .ok (.iload_n i, 1)) (hi : ls[(i : Nat)]? = some (vI z)) (k : kG p l e h s m args below meth c w nL kd post (pc + 1) (ls) (vI z :: st) (M)) : kG p l e h s m args below meth c w nL kd post (pc) (ls) (st) (M) := by
  intro hR hst hls lsA H locs hL hP hS
  exact lv_iload_n C.1 C.2.1 hd rfl (kLd hL hi rfl) (k hR (kSt_mk trivial hst) hls lsA H locs hL hP hS)
theorem g_lload (C : kCx p s m args meth c w own cc nL rt) {i : Nat} {z : Int} (hd : decode cc pc = .ok (.lload i, 2)) (hi : ls[i]? = some (vL z)) (k : kG p l e h s m args below meth c w nL kd post (pc + 2) (ls) (vL z :: st) (M)) : kG p l e h s m args below meth c w nL kd post (pc) (ls) (st) (M) := by
  intro hR hst hls lsA H locs hL hP hS
  exact lv_lload C.1 C.2.1 hd (kLd hL hi rfl) (k hR (kSt_mk trivial hst) hls lsA H locs hL hP hS)
theorem g_lload_n (C : kCx p s m args meth c w own cc nL rt) {i : Fin 4} {z : Int} (hd : decode cc pc = .ok (.lload_n i, 1)) (hi : ls[(i : Nat)]? = some (vL z)) (k : kG p l e h s m args below meth c w nL kd post (pc + 1) (ls) (vL z :: st) (M)) : kG p l e h s m args below meth c w nL kd post (pc) (ls) (st) (M) := by
  intro hR hst hls lsA H locs hL hP hS
  exact lv_lload_n C.1 C.2.1 hd rfl (kLd hL hi rfl) (k hR (kSt_mk trivial hst) hls lsA H locs hL hP hS)
theorem g_aload (C : kCx p s m args meth c w own cc nL rt) {i t : Nat} {z : Int} (hd : decode cc pc = .ok (.aload i, 2)) (hi : ls[i]? = some (vR t z)) (k : kG p l e h s m args below meth c w nL kd post (pc + 2) (ls) (vR t z :: st) (M)) : kG p l e h s m args below meth c w nL kd post (pc) (ls) (st) (M) := by
  intro hR hst hls lsA H locs hL hP hS
  exact lv_aload C.1 C.2.1 hd (kLd hL hi rfl) (k hR (kSt_mk (kLok hls hi) hst) hls lsA H locs hL hP hS)
theorem g_aload_n (C : kCx p s m args meth c w own cc nL rt) {i : Fin 4} {t : Nat} {z : Int} (hd : decode cc pc = .ok (.aload_n i, 1)) (hi : ls[(i : Nat)]? = some (vR t z)) (k : kG p l e h s m args below meth c w nL kd post (pc + 1) (ls) (vR t z :: st) (M)) : kG p l e h s m args below meth c w nL kd post (pc) (ls) (st) (M) := by
  intro hR hst hls lsA H locs hL hP hS
  exact lv_aload_n C.1 C.2.1 hd rfl (kLd hL hi rfl) (k hR (kSt_mk (kLok hls hi) hst) hls lsA H locs hL hP hS)
/-- the locals behind a store at place i: no long stands just ahead of it -/
def kIsL (v : KV) : Bool := match v with
  | .inr (.inl _) => true
  | _ => false
theorem kOv_cat {v : KV} {x : Value} (hv : kOv w v = some x) (hl : kIsL v = false) : x.category = 1 := by
  rcases v with z | z | q | u
  · cases hv; rfl
  · cases hl
  · cases hv; rfl
  · cases hv
theorem kStore1 {lsA : Array Slot} {i : Nat} {v : KV} {x : Value} (hv : kOv w v = some x) (hb : ∀ j u, ls[j]? = some u → j + 1 = i → kIsL u = false)
    (hL : lv_has lsA nL ((i, x) :: (kLs w ls).filter (fun q => !(q.1 == i) && !(q.1 + 1 == i && q.2.category == 2)))) : lv_has lsA nL (kLs w (ls.set i v)) := by
  refine hL.less ?_
  rintro ⟨j, y⟩ hq
  obtain ⟨u, h1, h2⟩ := kLs_mem.mp hq
  rw [List.getElem?_set] at h1
  by_cases hj : i = j
  · subst hj
    rw [if_pos rfl] at h1
    split at h1
    · cases h1
      cases hv.symm.trans h2
      exact List.mem_cons_self
    · cases h1
  · rw [if_neg hj] at h1
    refine List.mem_cons_of_mem _ (List.mem_filter.mpr ⟨kLs_mem.mpr ⟨u, h1, h2⟩, ?_⟩)
    have e1 : (j == i) = false := by simpa using (fun q => hj q.symm)
    by_cases h3 : j + 1 = i
    · have := kOv_cat h2 (hb j u h1 h3)
      simp [e1, this]
    · have e2 : (j + 1 == i) = false := by simpa using h3
      simp [e1, e2]
theorem kStore2 {lsA : Array Slot} {i : Nat} {z : Int} (hb : ∀ j u, ls[j]? = some u → j + 1 = i → kIsL u = false)
    (hL : lv_has lsA nL ((i, .long (Int64.ofInt z)) :: (kLs w ls).filter (fun q => !(q.1 == i) && (!(q.1 == i + 1) && !(q.1 + 1 == i && q.2.category == 2))))) : lv_has lsA nL (kLs w ((ls.set i (vL z)).set (i + 1) vN)) := by
  refine hL.less ?_
  rintro ⟨j, y⟩ hq
  obtain ⟨u, h1, h2⟩ := kLs_mem.mp hq
  rw [List.getElem?_set] at h1
  by_cases hj1 : i + 1 = j
  · rw [if_pos hj1] at h1
    split at h1
    · cases h1
      cases h2
    · cases h1
  rw [if_neg hj1, List.getElem?_set] at h1
  by_cases hj : i = j
  · subst hj
    rw [if_pos rfl] at h1
    split at h1
    · cases h1
      cases h2
      exact List.mem_cons_self
    · cases h1
  · rw [if_neg hj] at h1
    refine List.mem_cons_of_mem _ (List.mem_filter.mpr ⟨kLs_mem.mpr ⟨u, h1, h2⟩, ?_⟩)
    have e1 : (j == i) = false := by simpa using (fun q => hj q.symm)
    have e3 : (j == i + 1) = false := by simpa using (fun q => hj1 q.symm)
    by_cases h3 : j + 1 = i
    · have := kOv_cat h2 (hb j u h1 h3)
      simp [e1, e3, this]
    · have e2 : (j + 1 == i) = false := by simpa using h3
      simp [e1, e2, e3]
theorem kSet_ok {i : Nat} {v : KV} (hv : kVok v) (hls : ∀ x ∈ ls, kVok x) : ∀ x ∈ ls.set i v, kVok x := by
  intro x hx
  rcases List.mem_or_eq_of_mem_set hx with h | h
  · exact hls x h
  · rw [h]; exact hv
def kNl (ls : List KV) (i : Nat) : Bool := match i with
  | 0 => true
  | i + 1 => match ls[i]? with
    | some u => !kIsL u
    | none => true
theorem kNl_of {i : Nat} (hb : kNl ls i = true) : ∀ j u, ls[j]? = some u → j + 1 = i → kIsL u = false := by
  intro j u hj hi
  subst hi
  simpa [kNl, hj] using hb
theorem g_istore (C : kCx p s m args meth c w own cc nL rt) {i : Nat} {z : Int} (hd : decode cc pc = .ok (.istore i, 2)) (hn : i < nL) (hb : kNl ls i = true) (k : kG p l e h s m args below meth c w nL kd post (pc + 2) (ls.set i (vI z)) (st) (M)) : kG p l e h s m args below meth c w nL kd post (pc) (ls) (vI z :: st) (M) := by
  intro hR hst hls lsA H locs hL hP hS
  exact lv_istore C.1 C.2.1 hd hL hn rfl (fun ls' hL' => k hR (kSt hst).2 (kSet_ok trivial hls) ls' H locs (kStore1 (v := vI z) rfl (kNl_of hb) hL') hP hS)
theorem g_istore_n (C : kCx p s m args meth c w own cc nL rt) {i : Fin 4} {z : Int} (hd : decode cc pc = .ok (.istore_n i, 1)) (hn : (i : Nat) < nL) (hb : kNl ls (i : Nat) = true) (k : kG p l e h s m args below meth c w nL kd post (pc + 1) (ls.set (i : Nat) (vI z)) (st) (M)) : kG p l e h s m args below meth c w nL kd post (pc) (ls) (vI z :: st) (M) := by
  intro hR hst hls lsA H locs hL hP hS
  exact lv_istore_n C.1 C.2.1 hd rfl hL hn rfl (fun ls' hL' => k hR (kSt hst).2 (kSet_ok trivial hls) ls' H locs (kStore1 (v := vI z) rfl (kNl_of hb) hL') hP hS)
theorem g_astore (C : kCx p s m args meth c w own cc nL rt) {i t : Nat} {z : Int} (hd : decode cc pc = .ok (.astore i, 2)) (hn : i < nL) (hb : kNl ls i = true) (k : kG p l e h s m args below meth c w nL kd post (pc + 2) (ls.set i (vR t z)) (st) (M)) : kG p l e h s m args below meth c w nL kd post (pc) (ls) (vR t z :: st) (M) := by
  intro hR hst hls lsA H locs hL hP hS
  exact lv_astore C.1 C.2.1 hd hL hn rfl (fun ls' hL' => k hR (kSt hst).2 (kSet_ok (kSt hst).1 hls) ls' H locs (kStore1 (v := vR t z) rfl (kNl_of hb) hL') hP hS)
theorem g_astore_n (C : kCx p s m args meth c w own cc nL rt) {i : Fin 4} {t : Nat} {z : Int} (hd : decode cc pc = .ok (.astore_n i, 1)) (hn : (i : Nat) < nL) (hb : kNl ls (i : Nat) = true) (k : kG p l e h s m args below meth c w nL kd post (pc + 1) (ls.set (i : Nat) (vR t z)) (st) (M)) : kG p l e h s m args below meth c w nL kd post (pc) (ls) (vR t z :: st) (M) := by
  intro hR hst hls lsA H locs hL hP hS
  exact lv_astore_n C.1 C.2.1 hd rfl hL hn rfl (fun ls' hL' => k hR (kSt hst).2 (kSet_ok (kSt hst).1 hls) ls' H locs (kStore1 (v := vR t z) rfl (kNl_of hb) hL') hP hS)
theorem g_lstore (C : kCx p s m args meth c w own cc nL rt) {i : Nat} {z : Int} (hd : decode cc pc = .ok (.lstore i, 2)) (hn : i + 1 < nL) (hb : kNl ls i = true) (k : kG p l e h s m args below meth c w nL kd post (pc + 2) ((ls.set i (vL z)).set (i + 1) vN) (st) (M)) : kG p l e h s m args below meth c w nL kd post (pc) (ls) (vL z :: st) (M) := by
  intro hR hst hls lsA H locs hL hP hS
  exact lv_lstore C.1 C.2.1 hd hL hn rfl (fun ls' hL' => k hR (kSt hst).2 (kSet_ok trivial (kSet_ok trivial hls)) ls' H locs (kStore2 (kNl_of hb) hL') hP hS)
theorem g_lstore_n (C : kCx p s m args meth c w own cc nL rt) {i : Fin 4} {z : Int} (hd : decode cc pc = .ok (.lstore_n i, 1)) (hn : (i : Nat) + 1 < nL) (hb : kNl ls (i : Nat) = true) (k : kG p l e h s m args below meth c w nL kd post (pc + 1) ((ls.set (i : Nat) (vL z)).set ((i : Nat) + 1) vN) (st) (M)) : kG p l e h s m args below meth c w nL kd post (pc) (ls) (vL z :: st) (M) := by
  intro hR hst hls lsA H locs hL hP hS
  exact lv_lstore_n C.1 C.2.1 hd rfl hL hn rfl (fun ls' hL' => k hR (kSt hst).2 (kSet_ok trivial (kSet_ok trivial hls)) ls' H locs (kStore2 (kNl_of hb) hL') hP hS)
theorem g_iinc (C : kCx p s m args meth c w own cc nL rt) {i : Nat} {z n : Int} (hd : decode cc pc = .ok (.iinc i n, 3)) (hi : ls[i]? = some (vI z)) (hn : i < nL) (hb : kNl ls i = true) (k : kG p l e h s m args below meth c w nL kd post (pc + 3) (ls.set i (vI (z + n))) (st) (M)) : kG p l e h s m args below meth c w nL kd post (pc) (ls) (st) (M) := by
  intro hR hst hls lsA H locs hL hP hS
  obtain ⟨q, hq⟩ := List.getElem?_of_mem (kLs_mem (w := w).mpr ⟨vI z, hi, rfl⟩)
  exact lv_iinc C.1 C.2.1 hd hL hq (v := Int32.ofInt (z + n)) (Int32.ofInt_add z n).symm hn rfl (fun ls' hL' => k hR hst (kSet_ok trivial hls) ls' H locs (kStore1 (v := vI (z + n)) rfl (kNl_of hb) hL') hP hS)
theorem g_ist_0 (C : kCx p s m args meth c w own cc nL rt) {x : KV} {r : List KV} {z : Int} (hd : decode cc pc = .ok ((.istore 0), 2)) (hn : 0 < nL) (k : kG p l e h s m args below meth c w nL kd post (pc + 2) (vI z :: r) (st) (M)) : kG p l e h s m args below meth c w nL kd post (pc) (x :: r) (vI z :: st) (M) := g_istore C hd hn rfl k
theorem g_istn_0 (C : kCx p s m args meth c w own cc nL rt) {x : KV} {r : List KV} {z : Int} (hd : decode cc pc = .ok ((.istore_n 0), 1)) (hn : 0 < nL) (k : kG p l e h s m args below meth c w nL kd post (pc + 1) (vI z :: r) (st) (M)) : kG p l e h s m args below meth c w nL kd post (pc) (x :: r) (vI z :: st) (M) := g_istore_n C hd hn rfl k
theorem g_ast_0 (C : kCx p s m args meth c w own cc nL rt) {x : KV} {r : List KV} {t : Nat} {z : Int} (hd : decode cc pc = .ok ((.astore 0), 2)) (hn : 0 < nL) (k : kG p l e h s m args below meth c w nL kd post (pc + 2) (vR t z :: r) (st) (M)) : kG p l e h s m args below meth c w nL kd post (pc) (x :: r) (vR t z :: st) (M) := g_astore C hd hn rfl k
theorem g_astn_0 (C : kCx p s m args meth c w own cc nL rt) {x : KV} {r : List KV} {t : Nat} {z : Int} (hd : decode cc pc = .ok ((.astore_n 0), 1)) (hn : 0 < nL) (k : kG p l e h s m args below meth c w nL kd post (pc + 1) (vR t z :: r) (st) (M)) : kG p l e h s m args below meth c w nL kd post (pc) (x :: r) (vR t z :: st) (M) := g_astore_n C hd hn rfl k
theorem g_lst_0 (C : kCx p s m args meth c w own cc nL rt) {x y : KV} {r : List KV} {z : Int} (hd : decode cc pc = .ok ((.lstore 0), 2)) (hn : 0 + 1 < nL) (k : kG p l e h s m args below meth c w nL kd post (pc + 2) (vL z :: vN :: r) (st) (M)) : kG p l e h s m args below meth c w nL kd post (pc) (x :: y :: r) (vL z :: st) (M) := g_lstore C hd hn rfl k
theorem g_lstn_0 (C : kCx p s m args meth c w own cc nL rt) {x y : KV} {r : List KV} {z : Int} (hd : decode cc pc = .ok ((.lstore_n 0), 1)) (hn : 0 + 1 < nL) (k : kG p l e h s m args below meth c w nL kd post (pc + 1) (vL z :: vN :: r) (st) (M)) : kG p l e h s m args below meth c w nL kd post (pc) (x :: y :: r) (vL z :: st) (M) := g_lstore_n C hd hn rfl k
theorem g_inc_0 (C : kCx p s m args meth c w own cc nL rt) {r : List KV} {z n : Int} (hd : decode cc pc = .ok (.iinc 0 n, 3)) (hn : 0 < nL) (k : kG p l e h s m args below meth c w nL kd post (pc + 3) (vI (z + n) :: r) (st) (M)) : kG p l e h s m args below meth c w nL kd post (pc) (vI z :: r) (st) (M) := g_iinc C hd rfl hn rfl k
theorem g_ist_1 (C : kCx p s m args meth c w own cc nL rt) {a0 x : KV} {r : List KV} {z : Int} (hd : decode cc pc = .ok ((.istore 1), 2)) (hn : 1 < nL) (hl : kIsL a0 = false) (k : kG p l e h s m args below meth c w nL kd post (pc + 2) (a0 :: vI z :: r) (st) (M)) : kG p l e h s m args below meth c w nL kd post (pc) (a0 :: x :: r) (vI z :: st) (M) := g_istore C hd hn (by simpa [kNl] using hl) k
theorem g_istn_1 (C : kCx p s m args meth c w own cc nL rt) {a0 x : KV} {r : List KV} {z : Int} (hd : decode cc pc = .ok ((.istore_n 1), 1)) (hn : 1 < nL) (hl : kIsL a0 = false) (k : kG p l e h s m args below meth c w nL kd post (pc + 1) (a0 :: vI z :: r) (st) (M)) : kG p l e h s m args below meth c w nL kd post (pc) (a0 :: x :: r) (vI z :: st) (M) := g_istore_n C hd hn (by simpa [kNl] using hl) k
theorem g_ast_1 (C : kCx p s m args meth c w own cc nL rt) {a0 x : KV} {r : List KV} {t : Nat} {z : Int} (hd : decode cc pc = .ok ((.astore 1), 2)) (hn : 1 < nL) (hl : kIsL a0 = false) (k : kG p l e h s m args below meth c w nL kd post (pc + 2) (a0 :: vR t z :: r) (st) (M)) : kG p l e h s m args below meth c w nL kd post (pc) (a0 :: x :: r) (vR t z :: st) (M) := g_astore C hd hn (by simpa [kNl] using hl) k
theorem g_astn_1 (C : kCx p s m args meth c w own cc nL rt) {a0 x : KV} {r : List KV} {t : Nat} {z : Int} (hd : decode cc pc = .ok ((.astore_n 1), 1)) (hn : 1 < nL) (hl : kIsL a0 = false) (k : kG p l e h s m args below meth c w nL kd post (pc + 1) (a0 :: vR t z :: r) (st) (M)) : kG p l e h s m args below meth c w nL kd post (pc) (a0 :: x :: r) (vR t z :: st) (M) := g_astore_n C hd hn (by simpa [kNl] using hl) k
theorem g_lst_1 (C : kCx p s m args meth c w own cc nL rt) {a0 x y : KV} {r : List KV} {z : Int} (hd : decode cc pc = .ok ((.lstore 1), 2)) (hn : 1 + 1 < nL) (hl : kIsL a0 = false) (k : kG p l e h s m args below meth c w nL kd post (pc + 2) (a0 :: vL z :: vN :: r) (st) (M)) : kG p l e h s m args below meth c w nL kd post (pc) (a0 :: x :: y :: r) (vL z :: st) (M) := g_lstore C hd hn (by simpa [kNl] using hl) k
theorem g_lstn_1 (C : kCx p s m args meth c w own cc nL rt) {a0 x y : KV} {r : List KV} {z : Int} (hd : decode cc pc = .ok ((.lstore_n 1), 1)) (hn : 1 + 1 < nL) (hl : kIsL a0 = false) (k : kG p l e h s m args below meth c w nL kd post (pc + 1) (a0 :: vL z :: vN :: r) (st) (M)) : kG p l e h s m args below meth c w nL kd post (pc) (a0 :: x :: y :: r) (vL z :: st) (M) := g_lstore_n C hd hn (by simpa [kNl] using hl) k
theorem g_inc_1 (C : kCx p s m args meth c w own cc nL rt) {a0 : KV} {r : List KV} {z n : Int} (hd : decode cc pc = .ok (.iinc 1 n, 3)) (hn : 1 < nL) (hl : kIsL a0 = false) (k : kG p l e h s m args below meth c w nL kd post (pc + 3) (a0 :: vI (z + n) :: r) (st) (M)) : kG p l e h s m args below meth c w nL kd post (pc) (a0 :: vI z :: r) (st) (M) := g_iinc C hd rfl hn (by simpa [kNl] using hl) k
theorem g_ist_2 (C : kCx p s m args meth c w own cc nL rt) {a0 a1 x : KV} {r : List KV} {z : Int} (hd : decode cc pc = .ok ((.istore 2), 2)) (hn : 2 < nL) (hl : kIsL a1 = false) (k : kG p l e h s m args below meth c w nL kd post (pc + 2) (a0 :: a1 :: vI z :: r) (st) (M)) : kG p l e h s m args below meth c w nL kd post (pc) (a0 :: a1 :: x :: r) (vI z :: st) (M) := g_istore C hd hn (by simpa [kNl] using hl) k
theorem g_istn_2 (C : kCx p s m args meth c w own cc nL rt) {a0 a1 x : KV} {r : List KV} {z : Int} (hd : decode cc pc = .ok ((.istore_n 2), 1)) (hn : 2 < nL) (hl : kIsL a1 = false) (k : kG p l e h s m args below meth c w nL kd post (pc + 1) (a0 :: a1 :: vI z :: r) (st) (M)) : kG p l e h s m args below meth c w nL kd post (pc) (a0 :: a1 :: x :: r) (vI z :: st) (M) := g_istore_n C hd hn (by simpa [kNl] using hl) k
theorem g_ast_2 (C : kCx p s m args meth c w own cc nL rt) {a0 a1 x : KV} {r : List KV} {t : Nat} {z : Int} (hd : decode cc pc = .ok ((.astore 2), 2)) (hn : 2 < nL) (hl : kIsL a1 = false) (k : kG p l e h s m args below meth c w nL kd post (pc + 2) (a0 :: a1 :: vR t z :: r) (st) (M)) : kG p l e h s m args below meth c w nL kd post (pc) (a0 :: a1 :: x :: r) (vR t z :: st) (M) := g_astore C hd hn (by simpa [kNl] using hl) k
theorem g_astn_2 (C : kCx p s m args meth c w own cc nL rt) {a0 a1 x : KV} {r : List KV} {t : Nat} {z : Int} (hd : decode cc pc = .ok ((.astore_n 2), 1)) (hn : 2 < nL) (hl : kIsL a1 = false) (k : kG p l e h s m args below meth c w nL kd post (pc + 1) (a0 :: a1 :: vR t z :: r) (st) (M)) : kG p l e h s m args below meth c w nL kd post (pc) (a0 :: a1 :: x :: r) (vR t z :: st) (M) := g_astore_n C hd hn (by simpa [kNl] using hl) k
theorem g_lst_2 (C : kCx p s m args meth c w own cc nL rt) {a0 a1 x y : KV} {r : List KV} {z : Int} (hd : decode cc pc = .ok ((.lstore 2), 2)) (hn : 2 + 1 < nL) (hl : kIsL a1 = false) (k : kG p l e h s m args below meth c w nL kd post (pc + 2) (a0 :: a1 :: vL z :: vN :: r) (st) (M)) : kG p l e h s m args below meth c w nL kd post (pc) (a0 :: a1 :: x :: y :: r) (vL z :: st) (M) := g_lstore C hd hn (by simpa [kNl] using hl) k
theorem g_lstn_2 (C : kCx p s m args meth c w own cc nL rt) {a0 a1 x y : KV} {r : List KV} {z : Int} (hd : decode cc pc = .ok ((.lstore_n 2), 1)) (hn : 2 + 1 < nL) (hl : kIsL a1 = false) (k : kG p l e h s m args below meth c w nL kd post (pc + 1) (a0 :: a1 :: vL z :: vN :: r) (st) (M)) : kG p l e h s m args below meth c w nL kd post (pc) (a0 :: a1 :: x :: y :: r) (vL z :: st) (M) := g_lstore_n C hd hn (by simpa [kNl] using hl) k
theorem g_inc_2 (C : kCx p s m args meth c w own cc nL rt) {a0 a1 : KV} {r : List KV} {z n : Int} (hd : decode cc pc = .ok (.iinc 2 n, 3)) (hn : 2 < nL) (hl : kIsL a1 = false) (k : kG p l e h s m args below meth c w nL kd post (pc + 3) (a0 :: a1 :: vI (z + n) :: r) (st) (M)) : kG p l e h s m args below meth c w nL kd post (pc) (a0 :: a1 :: vI z :: r) (st) (M) := g_iinc C hd rfl hn (by simpa [kNl] using hl) k
theorem g_ist_3 (C : kCx p s m args meth c w own cc nL rt) {a0 a1 a2 x : KV} {r : List KV} {z : Int} (hd : decode cc pc = .ok ((.istore 3), 2)) (hn : 3 < nL) (hl : kIsL a2 = false) (k : kG p l e h s m args below meth c w nL kd post (pc + 2) (a0 :: a1 :: a2 :: vI z :: r) (st) (M)) : kG p l e h s m args below meth c w nL kd post (pc) (a0 :: a1 :: a2 :: x :: r) (vI z :: st) (M) := g_istore C hd hn (by simpa [kNl] using hl) k
theorem g_istn_3 (C : kCx p s m args meth c w own cc nL rt) {a0 a1 a2 x : KV} {r : List KV} {z : Int} (hd : decode cc pc = .ok ((.istore_n 3), 1)) (hn : 3 < nL) (hl : kIsL a2 = false) (k : kG p l e h s m args below meth c w nL kd post (pc + 1) (a0 :: a1 :: a2 :: vI z :: r) (st) (M)) : kG p l e h s m args below meth c w nL kd post (pc) (a0 :: a1 :: a2 :: x :: r) (vI z :: st) (M) := g_istore_n C hd hn (by simpa [kNl] using hl) k
theorem g_ast_3 (C : kCx p s m args meth c w own cc nL rt) {a0 a1 a2 x : KV} {r : List KV} {t : Nat} {z : Int} (hd : decode cc pc = .ok ((.astore 3), 2)) (hn : 3 < nL) (hl : kIsL a2 = false) (k : kG p l e h s m args below meth c w nL kd post (pc + 2) (a0 :: a1 :: a2 :: vR t z :: r) (st) (M)) : kG p l e h s m args below meth c w nL kd post (pc) (a0 :: a1 :: a2 :: x :: r) (vR t z :: st) (M) := g_astore C hd hn (by simpa [kNl] using hl) k
theorem g_astn_3 (C : kCx p s m args meth c w own cc nL rt) {a0 a1 a2 x : KV} {r : List KV} {t : Nat} {z : Int} (hd : decode cc pc = .ok ((.astore_n 3), 1)) (hn : 3 < nL) (hl : kIsL a2 = false) (k : kG p l e h s m args below meth c w nL kd post (pc + 1) (a0 :: a1 :: a2 :: vR t z :: r) (st) (M)) : kG p l e h s m args below meth c w nL kd post (pc) (a0 :: a1 :: a2 :: x :: r) (vR t z :: st) (M) := g_astore_n C hd hn (by simpa [kNl] using hl) k
theorem g_lst_3 (C : kCx p s m args meth c w own cc nL rt) {a0 a1 a2 x y : KV} {r : List KV} {z : Int} (hd : decode cc pc = .ok ((.lstore 3), 2)) (hn : 3 + 1 < nL) (hl : kIsL a2 = false) (k : kG p l e h s m args below meth c w nL kd post (pc + 2) (a0 :: a1 :: a2 :: vL z :: vN :: r) (st) (M)) : kG p l e h s m args below meth c w nL kd post (pc) (a0 :: a1 :: a2 :: x :: y :: r) (vL z :: st) (M) := g_lstore C hd hn (by simpa [kNl] using hl) k
theorem g_lstn_3 (C : kCx p s m args meth c w own cc nL rt) {a0 a1 a2 x y : KV} {r : List KV} {z : Int} (hd : decode cc pc = .ok ((.lstore_n 3), 1)) (hn : 3 + 1 < nL) (hl : kIsL a2 = false) (k : kG p l e h s m args below meth c w nL kd post (pc + 1) (a0 :: a1 :: a2 :: vL z :: vN :: r) (st) (M)) : kG p l e h s m args below meth c w nL kd post (pc) (a0 :: a1 :: a2 :: x :: y :: r) (vL z :: st) (M) := g_lstore_n C hd hn (by simpa [kNl] using hl) k
theorem g_inc_3 (C : kCx p s m args meth c w own cc nL rt) {a0 a1 a2 : KV} {r : List KV} {z n : Int} (hd : decode cc pc = .ok (.iinc 3 n, 3)) (hn : 3 < nL) (hl : kIsL a2 = false) (k : kG p l e h s m args below meth c w nL kd post (pc + 3) (a0 :: a1 :: a2 :: vI (z + n) :: r) (st) (M)) : kG p l e h s m args below meth c w nL kd post (pc) (a0 :: a1 :: a2 :: vI z :: r) (st) (M) := g_iinc C hd rfl hn (by simpa [kNl] using hl) k
theorem g_ist_4 (C : kCx p s m args meth c w own cc nL rt) {a0 a1 a2 a3 x : KV} {r : List KV} {z : Int} (hd : decode cc pc = .ok ((.istore 4), 2)) (hn : 4 < nL) (hl : kIsL a3 = false) (k : kG p l e h s m args below meth c w nL kd post (pc + 2) (a0 :: a1 :: a2 :: a3 :: vI z :: r) (st) (M)) : kG p l e h s m args below meth c w nL kd post (pc) (a0 :: a1 :: a2 :: a3 :: x :: r) (vI z :: st) (M) := g_istore C hd hn (by simpa [kNl] using hl) k
theorem g_ast_4 (C : kCx p s m args meth c w own cc nL rt) {a0 a1 a2 a3 x : KV} {r : List KV} {t : Nat} {z : Int} (hd : decode cc pc = .ok ((.astore 4), 2)) (hn : 4 < nL) (hl : kIsL a3 = false) (k : kG p l e h s m args below meth c w nL kd post (pc + 2) (a0 :: a1 :: a2 :: a3 :: vR t z :: r) (st) (M)) : kG p l e h s m args below meth c w nL kd post (pc) (a0 :: a1 :: a2 :: a3 :: x :: r) (vR t z :: st) (M) := g_astore C hd hn (by simpa [kNl] using hl) k
theorem g_lst_4 (C : kCx p s m args meth c w own cc nL rt) {a0 a1 a2 a3 x y : KV} {r : List KV} {z : Int} (hd : decode cc pc = .ok ((.lstore 4), 2)) (hn : 4 + 1 < nL) (hl : kIsL a3 = false) (k : kG p l e h s m args below meth c w nL kd post (pc + 2) (a0 :: a1 :: a2 :: a3 :: vL z :: vN :: r) (st) (M)) : kG p l e h s m args below meth c w nL kd post (pc) (a0 :: a1 :: a2 :: a3 :: x :: y :: r) (vL z :: st) (M) := g_lstore C hd hn (by simpa [kNl] using hl) k
theorem g_inc_4 (C : kCx p s m args meth c w own cc nL rt) {a0 a1 a2 a3 : KV} {r : List KV} {z n : Int} (hd : decode cc pc = .ok (.iinc 4 n, 3)) (hn : 4 < nL) (hl : kIsL a3 = false) (k : kG p l e h s m args below meth c w nL kd post (pc + 3) (a0 :: a1 :: a2 :: a3 :: vI (z + n) :: r) (st) (M)) : kG p l e h s m args below meth c w nL kd post (pc) (a0 :: a1 :: a2 :: a3 :: vI z :: r) (st) (M) := g_iinc C hd rfl hn (by simpa [kNl] using hl) k
theorem g_ist_5 (C : kCx p s m args meth c w own cc nL rt) {a0 a1 a2 a3 a4 x : KV} {r : List KV} {z : Int} (hd : decode cc pc = .ok ((.istore 5), 2)) (hn : 5 < nL) (hl : kIsL a4 = false) (k : kG p l e h s m args below meth c w nL kd post (pc + 2) (a0 :: a1 :: a2 :: a3 :: a4 :: vI z :: r) (st) (M)) : kG p l e h s m args below meth c w nL kd post (pc) (a0 :: a1 :: a2 :: a3 :: a4 :: x :: r) (vI z :: st) (M) := g_istore C hd hn (by simpa [kNl] using hl) k
theorem g_ast_5 (C : kCx p s m args meth c w own cc nL rt) {a0 a1 a2 a3 a4 x : KV} {r : List KV} {t : Nat} {z : Int} (hd : decode cc pc = .ok ((.astore 5), 2)) (hn : 5 < nL) (hl : kIsL a4 = false) (k : kG p l e h s m args below meth c w nL kd post (pc + 2) (a0 :: a1 :: a2 :: a3 :: a4 :: vR t z :: r) (st) (M)) : kG p l e h s m args below meth c w nL kd post (pc) (a0 :: a1 :: a2 :: a3 :: a4 :: x :: r) (vR t z :: st) (M) := g_astore C hd hn (by simpa [kNl] using hl) k
theorem g_lst_5 (C : kCx p s m args meth c w own cc nL rt) {a0 a1 a2 a3 a4 x y : KV} {r : List KV} {z : Int} (hd : decode cc pc = .ok ((.lstore 5), 2)) (hn : 5 + 1 < nL) (hl : kIsL a4 = false) (k : kG p l e h s m args below meth c w nL kd post (pc + 2) (a0 :: a1 :: a2 :: a3 :: a4 :: vL z :: vN :: r) (st) (M)) : kG p l e h s m args below meth c w nL kd post (pc) (a0 :: a1 :: a2 :: a3 :: a4 :: x :: y :: r) (vL z :: st) (M) := g_lstore C hd hn (by simpa [kNl] using hl) k
theorem g_inc_5 (C : kCx p s m args meth c w own cc nL rt) {a0 a1 a2 a3 a4 : KV} {r : List KV} {z n : Int} (hd : decode cc pc = .ok (.iinc 5 n, 3)) (hn : 5 < nL) (hl : kIsL a4 = false) (k : kG p l e h s m args below meth c w nL kd post (pc + 3) (a0 :: a1 :: a2 :: a3 :: a4 :: vI (z + n) :: r) (st) (M)) : kG p l e h s m args below meth c w nL kd post (pc) (a0 :: a1 :: a2 :: a3 :: a4 :: vI z :: r) (st) (M) := g_iinc C hd rfl hn (by simpa [kNl] using hl) k
theorem g_ist_6 (C : kCx p s m args meth c w own cc nL rt) {a0 a1 a2 a3 a4 a5 x : KV} {r : List KV} {z : Int} (hd : decode cc pc = .ok ((.istore 6), 2)) (hn : 6 < nL) (hl : kIsL a5 = false) (k : kG p l e h s m args below meth c w nL kd post (pc + 2) (a0 :: a1 :: a2 :: a3 :: a4 :: a5 :: vI z :: r) (st) (M)) : kG p l e h s m args below meth c w nL kd post (pc) (a0 :: a1 :: a2 :: a3 :: a4 :: a5 :: x :: r) (vI z :: st) (M) := g_istore C hd hn (by simpa [kNl] using hl) k
theorem g_ast_6 (C : kCx p s m args meth c w own cc nL rt) {a0 a1 a2 a3 a4 a5 x : KV} {r : List KV} {t : Nat} {z : Int} (hd : decode cc pc = .ok ((.astore 6), 2)) (hn : 6 < nL) (hl : kIsL a5 = false) (k : kG p l e h s m args below meth c w nL kd post (pc + 2) (a0 :: a1 :: a2 :: a3 :: a4 :: a5 :: vR t z :: r) (st) (M)) : kG p l e h s m args below meth c w nL kd post (pc) (a0 :: a1 :: a2 :: a3 :: a4 :: a5 :: x :: r) (vR t z :: st) (M) := g_astore C hd hn (by simpa [kNl] using hl) k
theorem g_lst_6 (C : kCx p s m args meth c w own cc nL rt) {a0 a1 a2 a3 a4 a5 x y : KV} {r : List KV} {z : Int} (hd : decode cc pc = .ok ((.lstore 6), 2)) (hn : 6 + 1 < nL) (hl : kIsL a5 = false) (k : kG p l e h s m args below meth c w nL kd post (pc + 2) (a0 :: a1 :: a2 :: a3 :: a4 :: a5 :: vL z :: vN :: r) (st) (M)) : kG p l e h s m args below meth c w nL kd post (pc) (a0 :: a1 :: a2 :: a3 :: a4 :: a5 :: x :: y :: r) (vL z :: st) (M) := g_lstore C hd hn (by simpa [kNl] using hl) k
theorem g_inc_6 (C : kCx p s m args meth c w own cc nL rt) {a0 a1 a2 a3 a4 a5 : KV} {r : List KV} {z n : Int} (hd : decode cc pc = .ok (.iinc 6 n, 3)) (hn : 6 < nL) (hl : kIsL a5 = false) (k : kG p l e h s m args below meth c w nL kd post (pc + 3) (a0 :: a1 :: a2 :: a3 :: a4 :: a5 :: vI (z + n) :: r) (st) (M)) : kG p l e h s m args below meth c w nL kd post (pc) (a0 :: a1 :: a2 :: a3 :: a4 :: a5 :: vI z :: r) (st) (M) := g_iinc C hd rfl hn (by simpa [kNl] using hl) k
theorem g_ist_7 (C : kCx p s m args meth c w own cc nL rt) {a0 a1 a2 a3 a4 a5 a6 x : KV} {r : List KV} {z : Int} (hd : decode cc pc = .ok ((.istore 7), 2)) (hn : 7 < nL) (hl : kIsL a6 = false) (k : kG p l e h s m args below meth c w nL kd post (pc + 2) (a0 :: a1 :: a2 :: a3 :: a4 :: a5 :: a6 :: vI z :: r) (st) (M)) : kG p l e h s m args below meth c w nL kd post (pc) (a0 :: a1 :: a2 :: a3 :: a4 :: a5 :: a6 :: x :: r) (vI z :: st) (M) := g_istore C hd hn (by simpa [kNl] using hl) k
theorem g_ast_7 (C : kCx p s m args meth c w own cc nL rt) {a0 a1 a2 a3 a4 a5 a6 x : KV} {r : List KV} {t : Nat} {z : Int} (hd : decode cc pc = .ok ((.astore 7), 2)) (hn : 7 < nL) (hl : kIsL a6 = false) (k : kG p l e h s m args below meth c w nL kd post (pc + 2) (a0 :: a1 :: a2 :: a3 :: a4 :: a5 :: a6 :: vR t z :: r) (st) (M)) : kG p l e h s m args below meth c w nL kd post (pc) (a0 :: a1 :: a2 :: a3 :: a4 :: a5 :: a6 :: x :: r) (vR t z :: st) (M) := g_astore C hd hn (by simpa [kNl] using hl) k
theorem g_lst_7 (C : kCx p s m args meth c w own cc nL rt) {a0 a1 a2 a3 a4 a5 a6 x y : KV} {r : List KV} {z : Int} (hd : decode cc pc = .ok ((.lstore 7), 2)) (hn : 7 + 1 < nL) (hl : kIsL a6 = false) (k : kG p l e h s m args below meth c w nL kd post (pc + 2) (a0 :: a1 :: a2 :: a3 :: a4 :: a5 :: a6 :: vL z :: vN :: r) (st) (M)) : kG p l e h s m args below meth c w nL kd post (pc) (a0 :: a1 :: a2 :: a3 :: a4 :: a5 :: a6 :: x :: y :: r) (vL z :: st) (M) := g_lstore C hd hn (by simpa [kNl] using hl) k
theorem g_inc_7 (C : kCx p s m args meth c w own cc nL rt) {a0 a1 a2 a3 a4 a5 a6 : KV} {r : List KV} {z n : Int} (hd : decode cc pc = .ok (.iinc 7 n, 3)) (hn : 7 < nL) (hl : kIsL a6 = false) (k : kG p l e h s m args below meth c w nL kd post (pc + 3) (a0 :: a1 :: a2 :: a3 :: a4 :: a5 :: a6 :: vI (z + n) :: r) (st) (M)) : kG p l e h s m args below meth c w nL kd post (pc) (a0 :: a1 :: a2 :: a3 :: a4 :: a5 :: a6 :: vI z :: r) (st) (M) := g_iinc C hd rfl hn (by simpa [kNl] using hl) k
theorem g_ist_8 (C : kCx p s m args meth c w own cc nL rt) {a0 a1 a2 a3 a4 a5 a6 a7 x : KV} {r : List KV} {z : Int} (hd : decode cc pc = .ok ((.istore 8), 2)) (hn : 8 < nL) (hl : kIsL a7 = false) (k : kG p l e h s m args below meth c w nL kd post (pc + 2) (a0 :: a1 :: a2 :: a3 :: a4 :: a5 :: a6 :: a7 :: vI z :: r) (st) (M)) : kG p l e h s m args below meth c w nL kd post (pc) (a0 :: a1 :: a2 :: a3 :: a4 :: a5 :: a6 :: a7 :: x :: r) (vI z :: st) (M) := g_istore C hd hn (by simpa [kNl] using hl) k
theorem g_ast_8 (C : kCx p s m args meth c w own cc nL rt) {a0 a1 a2 a3 a4 a5 a6 a7 x : KV} {r : List KV} {t : Nat} {z : Int} (hd : decode cc pc = .ok ((.astore 8), 2)) (hn : 8 < nL) (hl : kIsL a7 = false) (k : kG p l e h s m args below meth c w nL kd post (pc + 2) (a0 :: a1 :: a2 :: a3 :: a4 :: a5 :: a6 :: a7 :: vR t z :: r) (st) (M)) : kG p l e h s m args below meth c w nL kd post (pc) (a0 :: a1 :: a2 :: a3 :: a4 :: a5 :: a6 :: a7 :: x :: r) (vR t z :: st) (M) := g_astore C hd hn (by simpa [kNl] using hl) k
theorem g_lst_8 (C : kCx p s m args meth c w own cc nL rt) {a0 a1 a2 a3 a4 a5 a6 a7 x y : KV} {r : List KV} {z : Int} (hd : decode cc pc = .ok ((.lstore 8), 2)) (hn : 8 + 1 < nL) (hl : kIsL a7 = false) (k : kG p l e h s m args below meth c w nL kd post (pc + 2) (a0 :: a1 :: a2 :: a3 :: a4 :: a5 :: a6 :: a7 :: vL z :: vN :: r) (st) (M)) : kG p l e h s m args below meth c w nL kd post (pc) (a0 :: a1 :: a2 :: a3 :: a4 :: a5 :: a6 :: a7 :: x :: y :: r) (vL z :: st) (M) := g_lstore C hd hn (by simpa [kNl] using hl) k
theorem g_inc_8 (C : kCx p s m args meth c w own cc nL rt) {a0 a1 a2 a3 a4 a5 a6 a7 : KV} {r : List KV} {z n : Int} (hd : decode cc pc = .ok (.iinc 8 n, 3)) (hn : 8 < nL) (hl : kIsL a7 = false) (k : kG p l e h s m args below meth c w nL kd post (pc + 3) (a0 :: a1 :: a2 :: a3 :: a4 :: a5 :: a6 :: a7 :: vI (z + n) :: r) (st) (M)) : kG p l e h s m args below meth c w nL kd post (pc) (a0 :: a1 :: a2 :: a3 :: a4 :: a5 :: a6 :: a7 :: vI z :: r) (st) (M) := g_iinc C hd rfl hn (by simpa [kNl] using hl) k
theorem g_ist_9 (C : kCx p s m args meth c w own cc nL rt) {a0 a1 a2 a3 a4 a5 a6 a7 a8 x : KV} {r : List KV} {z : Int} (hd : decode cc pc = .ok ((.istore 9), 2)) (hn : 9 < nL) (hl : kIsL a8 = false) (k : kG p l e h s m args below meth c w nL kd post (pc + 2) (a0 :: a1 :: a2 :: a3 :: a4 :: a5 :: a6 :: a7 :: a8 :: vI z :: r) (st) (M)) : kG p l e h s m args below meth c w nL kd post (pc) (a0 :: a1 :: a2 :: a3 :: a4 :: a5 :: a6 :: a7 :: a8 :: x :: r) (vI z :: st) (M) := g_istore C hd hn (by simpa [kNl] using hl) k
theorem g_ast_9 (C : kCx p s m args meth c w own cc nL rt) {a0 a1 a2 a3 a4 a5 a6 a7 a8 x : KV} {r : List KV} {t : Nat} {z : Int} (hd : decode cc pc = .ok ((.astore 9), 2)) (hn : 9 < nL) (hl : kIsL a8 = false) (k : kG p l e h s m args below meth c w nL kd post (pc + 2) (a0 :: a1 :: a2 :: a3 :: a4 :: a5 :: a6 :: a7 :: a8 :: vR t z :: r) (st) (M)) : kG p l e h s m args below meth c w nL kd post (pc) (a0 :: a1 :: a2 :: a3 :: a4 :: a5 :: a6 :: a7 :: a8 :: x :: r) (vR t z :: st) (M) := g_astore C hd hn (by simpa [kNl] using hl) k
theorem g_lst_9 (C : kCx p s m args meth c w own cc nL rt) {a0 a1 a2 a3 a4 a5 a6 a7 a8 x y : KV} {r : List KV} {z : Int} (hd : decode cc pc = .ok ((.lstore 9), 2)) (hn : 9 + 1 < nL) (hl : kIsL a8 = false) (k : kG p l e h s m args below meth c w nL kd post (pc + 2) (a0 :: a1 :: a2 :: a3 :: a4 :: a5 :: a6 :: a7 :: a8 :: vL z :: vN :: r) (st) (M)) : kG p l e h s m args below meth c w nL kd post (pc) (a0 :: a1 :: a2 :: a3 :: a4 :: a5 :: a6 :: a7 :: a8 :: x :: y :: r) (vL z :: st) (M) := g_lstore C hd hn (by simpa [kNl] using hl) k
theorem g_inc_9 (C : kCx p s m args meth c w own cc nL rt) {a0 a1 a2 a3 a4 a5 a6 a7 a8 : KV} {r : List KV} {z n : Int} (hd : decode cc pc = .ok (.iinc 9 n, 3)) (hn : 9 < nL) (hl : kIsL a8 = false) (k : kG p l e h s m args below meth c w nL kd post (pc + 3) (a0 :: a1 :: a2 :: a3 :: a4 :: a5 :: a6 :: a7 :: a8 :: vI (z + n) :: r) (st) (M)) : kG p l e h s m args below meth c w nL kd post (pc) (a0 :: a1 :: a2 :: a3 :: a4 :: a5 :: a6 :: a7 :: a8 :: vI z :: r) (st) (M) := g_iinc C hd rfl hn (by simpa [kNl] using hl) k
theorem g_ist_10 (C : kCx p s m args meth c w own cc nL rt) {a0 a1 a2 a3 a4 a5 a6 a7 a8 a9 x : KV} {r : List KV} {z : Int} (hd : decode cc pc = .ok ((.istore 10), 2)) (hn : 10 < nL) (hl : kIsL a9 = false) (k : kG p l e h s m args below meth c w nL kd post (pc + 2) (a0 :: a1 :: a2 :: a3 :: a4 :: a5 :: a6 :: a7 :: a8 :: a9 :: vI z :: r) (st) (M)) : kG p l e h s m args below meth c w nL kd post (pc) (a0 :: a1 :: a2 :: a3 :: a4 :: a5 :: a6 :: a7 :: a8 :: a9 :: x :: r) (vI z :: st) (M) := g_istore C hd hn (by simpa [kNl] using hl) k
theorem g_ast_10 (C : kCx p s m args meth c w own cc nL rt) {a0 a1 a2 a3 a4 a5 a6 a7 a8 a9 x : KV} {r : List KV} {t : Nat} {z : Int} (hd : decode cc pc = .ok ((.astore 10), 2)) (hn : 10 < nL) (hl : kIsL a9 = false) (k : kG p l e h s m args below meth c w nL kd post (pc + 2) (a0 :: a1 :: a2 :: a3 :: a4 :: a5 :: a6 :: a7 :: a8 :: a9 :: vR t z :: r) (st) (M)) : kG p l e h s m args below meth c w nL kd post (pc) (a0 :: a1 :: a2 :: a3 :: a4 :: a5 :: a6 :: a7 :: a8 :: a9 :: x :: r) (vR t z :: st) (M) := g_astore C hd hn (by simpa [kNl] using hl) k
theorem g_lst_10 (C : kCx p s m args meth c w own cc nL rt) {a0 a1 a2 a3 a4 a5 a6 a7 a8 a9 x y : KV} {r : List KV} {z : Int} (hd : decode cc pc = .ok ((.lstore 10), 2)) (hn : 10 + 1 < nL) (hl : kIsL a9 = false) (k : kG p l e h s m args below meth c w nL kd post (pc + 2) (a0 :: a1 :: a2 :: a3 :: a4 :: a5 :: a6 :: a7 :: a8 :: a9 :: vL z :: vN :: r) (st) (M)) : kG p l e h s m args below meth c w nL kd post (pc) (a0 :: a1 :: a2 :: a3 :: a4 :: a5 :: a6 :: a7 :: a8 :: a9 :: x :: y :: r) (vL z :: st) (M) := g_lstore C hd hn (by simpa [kNl] using hl) k
theorem g_inc_10 (C : kCx p s m args meth c w own cc nL rt) {a0 a1 a2 a3 a4 a5 a6 a7 a8 a9 : KV} {r : List KV} {z n : Int} (hd : decode cc pc = .ok (.iinc 10 n, 3)) (hn : 10 < nL) (hl : kIsL a9 = false) (k : kG p l e h s m args below meth c w nL kd post (pc + 3) (a0 :: a1 :: a2 :: a3 :: a4 :: a5 :: a6 :: a7 :: a8 :: a9 :: vI (z + n) :: r) (st) (M)) : kG p l e h s m args below meth c w nL kd post (pc) (a0 :: a1 :: a2 :: a3 :: a4 :: a5 :: a6 :: a7 :: a8 :: a9 :: vI z :: r) (st) (M) := g_iinc C hd rfl hn (by simpa [kNl] using hl) k
theorem g_ist_11 (C : kCx p s m args meth c w own cc nL rt) {a0 a1 a2 a3 a4 a5 a6 a7 a8 a9 a10 x : KV} {r : List KV} {z : Int} (hd : decode cc pc = .ok ((.istore 11), 2)) (hn : 11 < nL) (hl : kIsL a10 = false) (k : kG p l e h s m args below meth c w nL kd post (pc + 2) (a0 :: a1 :: a2 :: a3 :: a4 :: a5 :: a6 :: a7 :: a8 :: a9 :: a10 :: vI z :: r) (st) (M)) : kG p l e h s m args below meth c w nL kd post (pc) (a0 :: a1 :: a2 :: a3 :: a4 :: a5 :: a6 :: a7 :: a8 :: a9 :: a10 :: x :: r) (vI z :: st) (M) := g_istore C hd hn (by simpa [kNl] using hl) k
theorem g_ast_11 (C : kCx p s m args meth c w own cc nL rt) {a0 a1 a2 a3 a4 a5 a6 a7 a8 a9 a10 x : KV} {r : List KV} {t : Nat} {z : Int} (hd : decode cc pc = .ok ((.astore 11), 2)) (hn : 11 < nL) (hl : kIsL a10 = false) (k : kG p l e h s m args below meth c w nL kd post (pc + 2) (a0 :: a1 :: a2 :: a3 :: a4 :: a5 :: a6 :: a7 :: a8 :: a9 :: a10 :: vR t z :: r) (st) (M)) : kG p l e h s m args below meth c w nL kd post (pc) (a0 :: a1 :: a2 :: a3 :: a4 :: a5 :: a6 :: a7 :: a8 :: a9 :: a10 :: x :: r) (vR t z :: st) (M) := g_astore C hd hn (by simpa [kNl] using hl) k
theorem g_lst_11 (C : kCx p s m args meth c w own cc nL rt) {a0 a1 a2 a3 a4 a5 a6 a7 a8 a9 a10 x y : KV} {r : List KV} {z : Int} (hd : decode cc pc = .ok ((.lstore 11), 2)) (hn : 11 + 1 < nL) (hl : kIsL a10 = false) (k : kG p l e h s m args below meth c w nL kd post (pc + 2) (a0 :: a1 :: a2 :: a3 :: a4 :: a5 :: a6 :: a7 :: a8 :: a9 :: a10 :: vL z :: vN :: r) (st) (M)) : kG p l e h s m args below meth c w nL kd post (pc) (a0 :: a1 :: a2 :: a3 :: a4 :: a5 :: a6 :: a7 :: a8 :: a9 :: a10 :: x :: y :: r) (vL z :: st) (M) := g_lstore C hd hn (by simpa [kNl] using hl) k
theorem g_inc_11 (C : kCx p s m args meth c w own cc nL rt) {a0 a1 a2 a3 a4 a5 a6 a7 a8 a9 a10 : KV} {r : List KV} {z n : Int} (hd : decode cc pc = .ok (.iinc 11 n, 3)) (hn : 11 < nL) (hl : kIsL a10 = false) (k : kG p l e h s m args below meth c w nL kd post (pc + 3) (a0 :: a1 :: a2 :: a3 :: a4 :: a5 :: a6 :: a7 :: a8 :: a9 :: a10 :: vI (z + n) :: r) (st) (M)) : kG p l e h s m args below meth c w nL kd post (pc) (a0 :: a1 :: a2 :: a3 :: a4 :: a5 :: a6 :: a7 :: a8 :: a9 :: a10 :: vI z :: r) (st) (M) := g_iinc C hd rfl hn (by simpa [kNl] using hl) k
theorem g_ist_12 (C : kCx p s m args meth c w own cc nL rt) {a0 a1 a2 a3 a4 a5 a6 a7 a8 a9 a10 a11 x : KV} {r : List KV} {z : Int} (hd : decode cc pc = .ok ((.istore 12), 2)) (hn : 12 < nL) (hl : kIsL a11 = false) (k : kG p l e h s m args below meth c w nL kd post (pc + 2) (a0 :: a1 :: a2 :: a3 :: a4 :: a5 :: a6 :: a7 :: a8 :: a9 :: a10 :: a11 :: vI z :: r) (st) (M)) : kG p l e h s m args below meth c w nL kd post (pc) (a0 :: a1 :: a2 :: a3 :: a4 :: a5 :: a6 :: a7 :: a8 :: a9 :: a10 :: a11 :: x :: r) (vI z :: st) (M) := g_istore C hd hn (by simpa [kNl] using hl) k
theorem g_ast_12 (C : kCx p s m args meth c w own cc nL rt) {a0 a1 a2 a3 a4 a5 a6 a7 a8 a9 a10 a11 x : KV} {r : List KV} {t : Nat} {z : Int} (hd : decode cc pc = .ok ((.astore 12), 2)) (hn : 12 < nL) (hl : kIsL a11 = false) (k : kG p l e h s m args below meth c w nL kd post (pc + 2) (a0 :: a1 :: a2 :: a3 :: a4 :: a5 :: a6 :: a7 :: a8 :: a9 :: a10 :: a11 :: vR t z :: r) (st) (M)) : kG p l e h s m args below meth c w nL kd post (pc) (a0 :: a1 :: a2 :: a3 :: a4 :: a5 :: a6 :: a7 :: a8 :: a9 :: a10 :: a11 :: x :: r) (vR t z :: st) (M) := g_astore C hd hn (by simpa [kNl] using hl) k
theorem g_lst_12 (C : kCx p s m args meth c w own cc nL rt) {a0 a1 a2 a3 a4 a5 a6 a7 a8 a9 a10 a11 x y : KV} {r : List KV} {z : Int} (hd : decode cc pc = .ok ((.lstore 12), 2)) (hn : 12 + 1 < nL) (hl : kIsL a11 = false) (k : kG p l e h s m args below meth c w nL kd post (pc + 2) (a0 :: a1 :: a2 :: a3 :: a4 :: a5 :: a6 :: a7 :: a8 :: a9 :: a10 :: a11 :: vL z :: vN :: r) (st) (M)) : kG p l e h s m args below meth c w nL kd post (pc) (a0 :: a1 :: a2 :: a3 :: a4 :: a5 :: a6 :: a7 :: a8 :: a9 :: a10 :: a11 :: x :: y :: r) (vL z :: st) (M) := g_lstore C hd hn (by simpa [kNl] using hl) k
theorem g_inc_12 (C : kCx p s m args meth c w own cc nL rt) {a0 a1 a2 a3 a4 a5 a6 a7 a8 a9 a10 a11 : KV} {r : List KV} {z n : Int} (hd : decode cc pc = .ok (.iinc 12 n, 3)) (hn : 12 < nL) (hl : kIsL a11 = false) (k : kG p l e h s m args below meth c w nL kd post (pc + 3) (a0 :: a1 :: a2 :: a3 :: a4 :: a5 :: a6 :: a7 :: a8 :: a9 :: a10 :: a11 :: vI (z + n) :: r) (st) (M)) : kG p l e h s m args below meth c w nL kd post (pc) (a0 :: a1 :: a2 :: a3 :: a4 :: a5 :: a6 :: a7 :: a8 :: a9 :: a10 :: a11 :: vI z :: r) (st) (M) := g_iinc C hd rfl hn (by simpa [kNl] using hl) k
/-! arithmetic -/
theorem g_iadd (C : kCx p s m args meth c w own cc nL rt) {x y : Int} (hd : decode cc pc = .ok (.iadd, 1)) (k : kG p l e h s m args below meth c w nL kd post (pc + 1) (ls) (vI (x + y) :: st) (M)) : kG p l e h s m args below meth c w nL kd post (pc) (ls) (vI y :: vI x :: st) (M) := by
  intro hR hst hls lsA H locs hL hP hS
  have k1 := k hR (kSt_mk trivial (kSt (kSt hst).2).2) hls lsA H locs hL hP hS
  refine lv_iadd C.1 C.2.1 hd ?_
  rw [← Int32.ofInt_add]
  exact k1
theorem g_isub (C : kCx p s m args meth c w own cc nL rt) {x y : Int} (hd : decode cc pc = .ok (.isub, 1)) (k : kG p l e h s m args below meth c w nL kd post (pc + 1) (ls) (vI (x - y) :: st) (M)) : kG p l e h s m args below meth c w nL kd post (pc) (ls) (vI y :: vI x :: st) (M) := by
  intro hR hst hls lsA H locs hL hP hS
  have k1 := k hR (kSt_mk trivial (kSt (kSt hst).2).2) hls lsA H locs hL hP hS
  refine lv_isub C.1 C.2.1 hd ?_
  rw [← Int32.ofInt_sub]
  exact k1
theorem g_imul (C : kCx p s m args meth c w own cc nL rt) {x y : Int} (hd : decode cc pc = .ok (.imul, 1)) (k : kG p l e h s m args below meth c w nL kd post (pc + 1) (ls) (vI (x * y) :: st) (M)) : kG p l e h s m args below meth c w nL kd post (pc) (ls) (vI y :: vI x :: st) (M) := by
  intro hR hst hls lsA H locs hL hP hS
  have k1 := k hR (kSt_mk trivial (kSt (kSt hst).2).2) hls lsA H locs hL hP hS
  refine lv_imul C.1 C.2.1 hd ?_
  rw [← Int32.ofInt_mul]
  exact k1
theorem g_ladd (C : kCx p s m args meth c w own cc nL rt) {x y : Int} (hd : decode cc pc = .ok (.ladd, 1)) (k : kG p l e h s m args below meth c w nL kd post (pc + 1) (ls) (vL (x + y) :: st) (M)) : kG p l e h s m args below meth c w nL kd post (pc) (ls) (vL y :: vL x :: st) (M) := by
  intro hR hst hls lsA H locs hL hP hS
  have k1 := k hR (kSt_mk trivial (kSt (kSt hst).2).2) hls lsA H locs hL hP hS
  refine lv_ladd C.1 C.2.1 hd ?_
  rw [← Int64.ofInt_add]
  exact k1
theorem g_lsub (C : kCx p s m args meth c w own cc nL rt) {x y : Int} (hd : decode cc pc = .ok (.lsub, 1)) (k : kG p l e h s m args below meth c w nL kd post (pc + 1) (ls) (vL (x - y) :: st) (M)) : kG p l e h s m args below meth c w nL kd post (pc) (ls) (vL y :: vL x :: st) (M) := by
  intro hR hst hls lsA H locs hL hP hS
  have k1 := k hR (kSt_mk trivial (kSt (kSt hst).2).2) hls lsA H locs hL hP hS
  refine lv_lsub C.1 C.2.1 hd ?_
  rw [← Int64.ofInt_sub]
  exact k1
theorem g_lmul (C : kCx p s m args meth c w own cc nL rt) {x y : Int} (hd : decode cc pc = .ok (.lmul, 1)) (k : kG p l e h s m args below meth c w nL kd post (pc + 1) (ls) (vL (x * y) :: st) (M)) : kG p l e h s m args below meth c w nL kd post (pc) (ls) (vL y :: vL x :: st) (M) := by
  intro hR hst hls lsA H locs hL hP hS
  have k1 := k hR (kSt_mk trivial (kSt (kSt hst).2).2) hls lsA H locs hL hP hS
  refine lv_lmul C.1 C.2.1 hd ?_
  rw [← Int64.ofInt_mul]
  exact k1
theorem kI_div {x y : Int} (hr : (0 ≤ x ∧ x < 2147483648) ∧ 0 < y ∧ y < 2147483648) : Int32.ofInt x / Int32.ofInt y = Int32.ofInt (x / y) := by
  have hm : (Int32.minValue).toInt = -2147483648 := by decide
  have hM : (Int32.maxValue).toInt = 2147483647 := by decide
  rw [← Int32.ofInt_tdiv (by omega) (by omega) (by omega) (by omega), Int.tdiv_eq_ediv_of_nonneg hr.1.1]
theorem kI_ne0 {y : Int} (hr : 0 < y ∧ y < 2147483648) : ¬ Int32.ofInt y = 0 := by
  rw [kI_0, kI_eq (by omega) (by omega)]
  omega
theorem g_idiv (C : kCx p s m args meth c w own cc nL rt) {x y : Int} (hd : decode cc pc = .ok (.idiv, 1)) (hr : (0 ≤ x ∧ x < 2147483648) ∧ 0 < y ∧ y < 2147483648) (k : kG p l e h s m args below meth c w nL kd post (pc + 1) (ls) (vI (x / y) :: st) (M)) : kG p l e h s m args below meth c w nL kd post (pc) (ls) (vI y :: vI x :: st) (M) := by
  intro hR hst hls lsA H locs hL hP hS
  have k1 := k hR (kSt_mk trivial (kSt (kSt hst).2).2) hls lsA H locs hL hP hS
  refine lv_idiv C.1 C.2.1 hd (kI_ne0 hr.2) ?_
  rw [kI_div hr]
  exact k1
theorem g_irem (C : kCx p s m args meth c w own cc nL rt) {x y : Int} (hd : decode cc pc = .ok (.irem, 1)) (hr : (0 ≤ x ∧ x < 2147483648) ∧ 0 < y ∧ y < 2147483648) (k : kG p l e h s m args below meth c w nL kd post (pc + 1) (ls) (vI (x % y) :: st) (M)) : kG p l e h s m args below meth c w nL kd post (pc) (ls) (vI y :: vI x :: st) (M) := by
  intro hR hst hls lsA H locs hL hP hS
  have k1 := k hR (kSt_mk trivial (kSt (kSt hst).2).2) hls lsA H locs hL hP hS
  refine lv_irem C.1 C.2.1 hd (kI_ne0 hr.2) ?_
  rw [kI_div hr, ← Int32.ofInt_mul, ← Int32.ofInt_sub, show x - x / y * y = x % y by rw [Int.emod_def, Int.mul_comm]]
  exact k1
def kAnd (x y : Int) : Int := (Int32.ofInt x &&& Int32.ofInt y).toInt
def kOr (x y : Int) : Int := (Int32.ofInt x ||| Int32.ofInt y).toInt
def kShl (x y : Int) : Int := (Int32.ofInt x <<< (Int32.ofInt y &&& 31)).toInt
def kShr (x y : Int) : Int := (Int32.ofInt x >>> (Int32.ofInt y &&& 31)).toInt
theorem g_iand (C : kCx p s m args meth c w own cc nL rt) {x y : Int} (hd : decode cc pc = .ok (.iand, 1)) (k : kG p l e h s m args below meth c w nL kd post (pc + 1) (ls) (vI (kAnd x y) :: st) (M)) : kG p l e h s m args below meth c w nL kd post (pc) (ls) (vI y :: vI x :: st) (M) := by
  intro hR hst hls lsA H locs hL hP hS
  have k1 := k hR (kSt_mk trivial (kSt (kSt hst).2).2) hls lsA H locs hL hP hS
  refine lv_iand C.1 C.2.1 hd ?_
  rw [← Int32.ofInt_toInt (Int32.ofInt x &&& Int32.ofInt y)]
  exact k1
theorem g_ior (C : kCx p s m args meth c w own cc nL rt) {x y : Int} (hd : decode cc pc = .ok (.ior, 1)) (k : kG p l e h s m args below meth c w nL kd post (pc + 1) (ls) (vI (kOr x y) :: st) (M)) : kG p l e h s m args below meth c w nL kd post (pc) (ls) (vI y :: vI x :: st) (M) := by
  intro hR hst hls lsA H locs hL hP hS
  have k1 := k hR (kSt_mk trivial (kSt (kSt hst).2).2) hls lsA H locs hL hP hS
  refine lv_ior C.1 C.2.1 hd ?_
  rw [← Int32.ofInt_toInt (Int32.ofInt x ||| Int32.ofInt y)]
  exact k1
theorem g_ishl (C : kCx p s m args meth c w own cc nL rt) {x y : Int} (hd : decode cc pc = .ok (.ishl, 1)) (k : kG p l e h s m args below meth c w nL kd post (pc + 1) (ls) (vI (kShl x y) :: st) (M)) : kG p l e h s m args below meth c w nL kd post (pc) (ls) (vI y :: vI x :: st) (M) := by
  intro hR hst hls lsA H locs hL hP hS
  have k1 := k hR (kSt_mk trivial (kSt (kSt hst).2).2) hls lsA H locs hL hP hS
  refine lv_ishl C.1 C.2.1 hd ?_
  rw [← Int32.ofInt_toInt (Int32.ofInt x <<< (Int32.ofInt y &&& 31))]
  exact k1
theorem g_ishr (C : kCx p s m args meth c w own cc nL rt) {x y : Int} (hd : decode cc pc = .ok (.ishr, 1)) (k : kG p l e h s m args below meth c w nL kd post (pc + 1) (ls) (vI (kShr x y) :: st) (M)) : kG p l e h s m args below meth c w nL kd post (pc) (ls) (vI y :: vI x :: st) (M) := by
  intro hR hst hls lsA H locs hL hP hS
  have k1 := k hR (kSt_mk trivial (kSt (kSt hst).2).2) hls lsA H locs hL hP hS
  refine lv_ishr C.1 C.2.1 hd ?_
  rw [← Int32.ofInt_toInt (Int32.ofInt x >>> (Int32.ofInt y &&& 31))]
  exact k1
theorem g_i2l (C : kCx p s m args meth c w own cc nL rt) {x : Int} (hd : decode cc pc = .ok (.i2l, 1)) (hr : -2147483648 ≤ x ∧ x < 2147483648) (k : kG p l e h s m args below meth c w nL kd post (pc + 1) (ls) (vL x :: st) (M)) : kG p l e h s m args below meth c w nL kd post (pc) (ls) (vI x :: st) (M) := by
  intro hR hst hls lsA H locs hL hP hS
  have k1 := k hR (kSt_mk trivial (kSt hst).2) hls lsA H locs hL hP hS
  refine lv_i2l C.1 C.2.1 hd (v := Int64.ofInt x) ?_ k1
  rw [← Int64.toInt_inj, Int32.toInt_toInt64, kI_toInt hr, kL_toInt (by omega)]
theorem g_l2i (C : kCx p s m args meth c w own cc nL rt) {x : Int} (hd : decode cc pc = .ok (.l2i, 1)) (k : kG p l e h s m args below meth c w nL kd post (pc + 1) (ls) (vI x :: st) (M)) : kG p l e h s m args below meth c w nL kd post (pc) (ls) (vL x :: st) (M) := by
  intro hR hst hls lsA H locs hL hP hS
  have k1 := k hR (kSt_mk trivial (kSt hst).2) hls lsA H locs hL hP hS
  exact lv_l2i C.1 C.2.1 hd (v := Int32.ofInt x) Int64.toInt32_ofInt k1
theorem kI_char {x : Int} (hr : 0 ≤ x ∧ x < 65536) : ((Int32.ofInt x).toUInt32 % 65536).toInt32 = Int32.ofInt x := by
  apply Int32.toBitVec.inj
  apply BitVec.eq_of_toNat_eq
  have e : (BitVec.ofInt 32 x).toNat = x.toNat := by
    rw [BitVec.toNat_ofInt]
    omega
  show ((BitVec.ofInt 32 x) % (65536#32)).toNat = (BitVec.ofInt 32 x).toNat
  rw [BitVec.toNat_umod, e]
  show x.toNat % 65536 = x.toNat
  omega
theorem g_i2c (C : kCx p s m args meth c w own cc nL rt) {x : Int} (hd : decode cc pc = .ok (.i2c, 1)) (hr : 0 ≤ x ∧ x < 65536) (k : kG p l e h s m args below meth c w nL kd post (pc + 1) (ls) (vI x :: st) (M)) : kG p l e h s m args below meth c w nL kd post (pc) (ls) (vI x :: st) (M) := by
  intro hR hst hls lsA H locs hL hP hS
  exact lv_i2c C.1 C.2.1 hd (v := Int32.ofInt x) (kI_char hr) (k hR hst hls lsA H locs hL hP hS)
def kCmp (x y : Int) : Int := if y < x then 1 else if x = y then 0 else -1
theorem g_lcmp (C : kCx p s m args meth c w own cc nL rt) {x y : Int} (hd : decode cc pc = .ok (.lcmp, 1)) (hr : (-9223372036854775808 ≤ x ∧ x < 9223372036854775808) ∧ -9223372036854775808 ≤ y ∧ y < 9223372036854775808) (k : kG p l e h s m args below meth c w nL kd post (pc + 1) (ls) (vI (kCmp x y) :: st) (M)) : kG p l e h s m args below meth c w nL kd post (pc) (ls) (vL y :: vL x :: st) (M) := by
  intro hR hst hls lsA H locs hL hP hS
  have k1 := k hR (kSt_mk trivial (kSt (kSt hst).2).2) hls lsA H locs hL hP hS
  refine W.lcmp C.1 C.2.1 hd ?_
  have e : lg_cmp (Int64.ofInt x) (Int64.ofInt y) = Int32.ofInt (kCmp x y) := by
    unfold lg_cmp kCmp
    simp only [gt_iff_lt, Int64.lt_iff_toInt_lt, ← Int64.toInt_inj, kL_toInt hr.1, kL_toInt hr.2]
    split
    · rfl
    · split <;> rfl
  rw [e]
  exact k1
/-! the stack -/
theorem kTv_cat {v : KV} (hl : kIsL v = false) (hv : kOv w v ≠ none) : (kTv w v).category = 1 := by
  rcases v with z | z | q | u
  · rfl
  · cases hl
  · rfl
  · exact absurd rfl hv
theorem g_dup (C : kCx p s m args meth c w own cc nL rt) {v : KV} (hd : decode cc pc = .ok (.dup, 1)) (hv : kIsL v = false ∧ v ≠ vN) (k : kG p l e h s m args below meth c w nL kd post (pc + 1) (ls) (v :: v :: st) (M)) : kG p l e h s m args below meth c w nL kd post (pc) (ls) (v :: st) (M) := by
  intro hR hst hls lsA H locs hL hP hS
  refine lv_dup C.1 C.2.1 hd (kTv_cat hv.1 (fun h => ?_)) (k hR (kSt_mk (kSt hst).1 hst) hls lsA H locs hL hP hS)
  rcases v with z | z | q | u
  · cases h
  · cases h
  · cases h
  · exact hv.2 rfl
theorem g_pop (C : kCx p s m args meth c w own cc nL rt) {z : Int} (hd : decode cc pc = .ok (.pop, 1)) (k : kG p l e h s m args below meth c w nL kd post (pc + 1) (ls) (st) (M)) : kG p l e h s m args below meth c w nL kd post (pc) (ls) (vI z :: st) (M) := by
  intro hR hst hls lsA H locs hL hP hS
  exact lv_pop C.1 C.2.1 hd rfl (k hR (kSt hst).2 hls lsA H locs hL hP hS)
theorem g_dup2 (C : kCx p s m args meth c w own cc nL rt) {z i : Int} {t : Nat} (hd : decode cc pc = .ok (.dup2, 1)) (k : kG p l e h s m args below meth c w nL kd post (pc + 1) (ls) (vI z :: vR t i :: vI z :: vR t i :: st) (M)) : kG p l e h s m args below meth c w nL kd post (pc) (ls) (vI z :: vR t i :: st) (M) := by
  intro hR hst hls lsA H locs hL hP hS
  exact lv_dup2_11 C.1 C.2.1 hd rfl rfl (k hR (kSt_mk trivial (kSt_mk (kSt (kSt hst).2).1 hst)) hls lsA H locs hL hP hS)
/-! branches -/
theorem g_goto (C : kCx p s m args meth c w own cc nL rt) {off : Int} (tgt : Nat) (hd : decode cc pc = .ok (.goto off, 3)) (ht : (pc : Int) + off = (tgt : Int)) (k : kG p l e h s m args below meth c w nL kd post (tgt) (ls) (st) (M)) : kG p l e h s m args below meth c w nL kd post (pc) (ls) (st) (M) := by
  intro hR hst hls lsA H locs hL hP hS
  exact lv_goto C.1 C.2.1 hd ht (k hR hst hls lsA H locs hL hP hS)
theorem g_if_eq (C : kCx p s m args meth c w own cc nL rt) {x off : Int} (tgt : Nat) (hd : decode cc pc = .ok (.ifCond .eq off, 3)) (ht : (pc : Int) + off = (tgt : Int)) (hr : -2147483648 ≤ x ∧ x < 2147483648) (kt : x = 0 → kG p l e h s m args below meth c w nL kd post (tgt) (ls) (st) (M)) (kf : x ≠ 0 → kG p l e h s m args below meth c w nL kd post (pc + 3) (ls) (st) (M)) : kG p l e h s m args below meth c w nL kd post (pc) (ls) (vI x :: st) (M) := by
  intro hR hst hls lsA H locs hL hP hS
  have e1 : Int32.ofInt x = 0 ↔ x = 0 := by rw [kI_0, kI_eq hr (by omega)]
  have e2 : Int32.ofInt x < 0 ↔ x < 0 := by rw [kI_0, kI_lt hr (by omega)]
  have e3 : Int32.ofInt x ≤ 0 ↔ x ≤ 0 := by rw [kI_0, kI_le hr (by omega)]
  have e4 : 0 < Int32.ofInt x ↔ 0 < x := by rw [kI_0, kI_lt (by omega) hr]
  have e5 : 0 ≤ Int32.ofInt x ↔ 0 ≤ x := by rw [kI_0, kI_le (by omega) hr]
  refine lv_if_eq C.1 C.2.1 hd ht (fun q => kt ?_ hR (kSt hst).2 hls lsA H locs hL hP hS) (fun q => kf ?_ hR (kSt hst).2 hls lsA H locs hL hP hS) <;> (simp only [gt_iff_lt, ge_iff_le, e1, e2, e3, e4, e5, ne_eq] at q; omega)
theorem g_if_ne (C : kCx p s m args meth c w own cc nL rt) {x off : Int} (tgt : Nat) (hd : decode cc pc = .ok (.ifCond .ne off, 3)) (ht : (pc : Int) + off = (tgt : Int)) (hr : -2147483648 ≤ x ∧ x < 2147483648) (kt : x ≠ 0 → kG p l e h s m args below meth c w nL kd post (tgt) (ls) (st) (M)) (kf : x = 0 → kG p l e h s m args below meth c w nL kd post (pc + 3) (ls) (st) (M)) : kG p l e h s m args below meth c w nL kd post (pc) (ls) (vI x :: st) (M) := by
  intro hR hst hls lsA H locs hL hP hS
  have e1 : Int32.ofInt x = 0 ↔ x = 0 := by rw [kI_0, kI_eq hr (by omega)]
  have e2 : Int32.ofInt x < 0 ↔ x < 0 := by rw [kI_0, kI_lt hr (by omega)]
  have e3 : Int32.ofInt x ≤ 0 ↔ x ≤ 0 := by rw [kI_0, kI_le hr (by omega)]
  have e4 : 0 < Int32.ofInt x ↔ 0 < x := by rw [kI_0, kI_lt (by omega) hr]
  have e5 : 0 ≤ Int32.ofInt x ↔ 0 ≤ x := by rw [kI_0, kI_le (by omega) hr]
  refine lv_if_ne C.1 C.2.1 hd ht (fun q => kt ?_ hR (kSt hst).2 hls lsA H locs hL hP hS) (fun q => kf ?_ hR (kSt hst).2 hls lsA H locs hL hP hS) <;> (simp only [gt_iff_lt, ge_iff_le, e1, e2, e3, e4, e5, ne_eq] at q; omega)
theorem g_if_lt (C : kCx p s m args meth c w own cc nL rt) {x off : Int} (tgt : Nat) (hd : decode cc pc = .ok (.ifCond .lt off, 3)) (ht : (pc : Int) + off = (tgt : Int)) (hr : -2147483648 ≤ x ∧ x < 2147483648) (kt : x < 0 → kG p l e h s m args below meth c w nL kd post (tgt) (ls) (st) (M)) (kf : 0 ≤ x → kG p l e h s m args below meth c w nL kd post (pc + 3) (ls) (st) (M)) : kG p l e h s m args below meth c w nL kd post (pc) (ls) (vI x :: st) (M) := by
  intro hR hst hls lsA H locs hL hP hS
  have e1 : Int32.ofInt x = 0 ↔ x = 0 := by rw [kI_0, kI_eq hr (by omega)]
  have e2 : Int32.ofInt x < 0 ↔ x < 0 := by rw [kI_0, kI_lt hr (by omega)]
  have e3 : Int32.ofInt x ≤ 0 ↔ x ≤ 0 := by rw [kI_0, kI_le hr (by omega)]
  have e4 : 0 < Int32.ofInt x ↔ 0 < x := by rw [kI_0, kI_lt (by omega) hr]
  have e5 : 0 ≤ Int32.ofInt x ↔ 0 ≤ x := by rw [kI_0, kI_le (by omega) hr]
  refine lv_if_lt C.1 C.2.1 hd ht (fun q => kt ?_ hR (kSt hst).2 hls lsA H locs hL hP hS) (fun q => kf ?_ hR (kSt hst).2 hls lsA H locs hL hP hS) <;> (simp only [gt_iff_lt, ge_iff_le, e1, e2, e3, e4, e5, ne_eq] at q; omega)
theorem g_if_ge (C : kCx p s m args meth c w own cc nL rt) {x off : Int} (tgt : Nat) (hd : decode cc pc = .ok (.ifCond .ge off, 3)) (ht : (pc : Int) + off = (tgt : Int)) (hr : -2147483648 ≤ x ∧ x < 2147483648) (kt : 0 ≤ x → kG p l e h s m args below meth c w nL kd post (tgt) (ls) (st) (M)) (kf : x < 0 → kG p l e h s m args below meth c w nL kd post (pc + 3) (ls) (st) (M)) : kG p l e h s m args below meth c w nL kd post (pc) (ls) (vI x :: st) (M) := by
  intro hR hst hls lsA H locs hL hP hS
  have e1 : Int32.ofInt x = 0 ↔ x = 0 := by rw [kI_0, kI_eq hr (by omega)]
  have e2 : Int32.ofInt x < 0 ↔ x < 0 := by rw [kI_0, kI_lt hr (by omega)]
  have e3 : Int32.ofInt x ≤ 0 ↔ x ≤ 0 := by rw [kI_0, kI_le hr (by omega)]
  have e4 : 0 < Int32.ofInt x ↔ 0 < x := by rw [kI_0, kI_lt (by omega) hr]
  have e5 : 0 ≤ Int32.ofInt x ↔ 0 ≤ x := by rw [kI_0, kI_le (by omega) hr]
  refine lv_if_ge C.1 C.2.1 hd ht (fun q => kt ?_ hR (kSt hst).2 hls lsA H locs hL hP hS) (fun q => kf ?_ hR (kSt hst).2 hls lsA H locs hL hP hS) <;> (simp only [gt_iff_lt, ge_iff_le, e1, e2, e3, e4, e5, ne_eq] at q; omega)
theorem g_if_gt (C : kCx p s m args meth c w own cc nL rt) {x off : Int} (tgt : Nat) (hd : decode cc pc = .ok (.ifCond .gt off, 3)) (ht : (pc : Int) + off = (tgt : Int)) (hr : -2147483648 ≤ x ∧ x < 2147483648) (kt : 0 < x → kG p l e h s m args below meth c w nL kd post (tgt) (ls) (st) (M)) (kf : x ≤ 0 → kG p l e h s m args below meth c w nL kd post (pc + 3) (ls) (st) (M)) : kG p l e h s m args below meth c w nL kd post (pc) (ls) (vI x :: st) (M) := by
  intro hR hst hls lsA H locs hL hP hS
  have e1 : Int32.ofInt x = 0 ↔ x = 0 := by rw [kI_0, kI_eq hr (by omega)]
  have e2 : Int32.ofInt x < 0 ↔ x < 0 := by rw [kI_0, kI_lt hr (by omega)]
  have e3 : Int32.ofInt x ≤ 0 ↔ x ≤ 0 := by rw [kI_0, kI_le hr (by omega)]
  have e4 : 0 < Int32.ofInt x ↔ 0 < x := by rw [kI_0, kI_lt (by omega) hr]
  have e5 : 0 ≤ Int32.ofInt x ↔ 0 ≤ x := by rw [kI_0, kI_le (by omega) hr]
  refine lv_if_gt C.1 C.2.1 hd ht (fun q => kt ?_ hR (kSt hst).2 hls lsA H locs hL hP hS) (fun q => kf ?_ hR (kSt hst).2 hls lsA H locs hL hP hS) <;> (simp only [gt_iff_lt, ge_iff_le, e1, e2, e3, e4, e5, ne_eq] at q; omega)
theorem g_if_le (C : kCx p s m args meth c w own cc nL rt) {x off : Int} (tgt : Nat) (hd : decode cc pc = .ok (.ifCond .le off, 3)) (ht : (pc : Int) + off = (tgt : Int)) (hr : -2147483648 ≤ x ∧ x < 2147483648) (kt : x ≤ 0 → kG p l e h s m args below meth c w nL kd post (tgt) (ls) (st) (M)) (kf : 0 < x → kG p l e h s m args below meth c w nL kd post (pc + 3) (ls) (st) (M)) : kG p l e h s m args below meth c w nL kd post (pc) (ls) (vI x :: st) (M) := by
  intro hR hst hls lsA H locs hL hP hS
  have e1 : Int32.ofInt x = 0 ↔ x = 0 := by rw [kI_0, kI_eq hr (by omega)]
  have e2 : Int32.ofInt x < 0 ↔ x < 0 := by rw [kI_0, kI_lt hr (by omega)]
  have e3 : Int32.ofInt x ≤ 0 ↔ x ≤ 0 := by rw [kI_0, kI_le hr (by omega)]
  have e4 : 0 < Int32.ofInt x ↔ 0 < x := by rw [kI_0, kI_lt (by omega) hr]
  have e5 : 0 ≤ Int32.ofInt x ↔ 0 ≤ x := by rw [kI_0, kI_le (by omega) hr]
  refine lv_if_le C.1 C.2.1 hd ht (fun q => kt ?_ hR (kSt hst).2 hls lsA H locs hL hP hS) (fun q => kf ?_ hR (kSt hst).2 hls lsA H locs hL hP hS) <;> (simp only [gt_iff_lt, ge_iff_le, e1, e2, e3, e4, e5, ne_eq] at q; omega)
theorem g_ic_eq (C : kCx p s m args meth c w own cc nL rt) {x y off : Int} (tgt : Nat) (hd : decode cc pc = .ok (.if_icmp .eq off, 3)) (ht : (pc : Int) + off = (tgt : Int)) (hr : (-2147483648 ≤ x ∧ x < 2147483648) ∧ -2147483648 ≤ y ∧ y < 2147483648) (kt : x = y → kG p l e h s m args below meth c w nL kd post (tgt) (ls) (st) (M)) (kf : x ≠ y → kG p l e h s m args below meth c w nL kd post (pc + 3) (ls) (st) (M)) : kG p l e h s m args below meth c w nL kd post (pc) (ls) (vI y :: vI x :: st) (M) := by
  intro hR hst hls lsA H locs hL hP hS
  have e1 := kI_eq hr.1 hr.2
  have e2 := kI_lt hr.1 hr.2
  have e3 := kI_le hr.1 hr.2
  have e4 := kI_lt hr.2 hr.1
  have e5 := kI_le hr.2 hr.1
  refine lv_icmp_eq C.1 C.2.1 hd ht (fun q => kt ?_ hR (kSt (kSt hst).2).2 hls lsA H locs hL hP hS) (fun q => kf ?_ hR (kSt (kSt hst).2).2 hls lsA H locs hL hP hS) <;> (simp only [gt_iff_lt, ge_iff_le, e1, e2, e3, e4, e5, ne_eq] at q; omega)
theorem g_ic_ne (C : kCx p s m args meth c w own cc nL rt) {x y off : Int} (tgt : Nat) (hd : decode cc pc = .ok (.if_icmp .ne off, 3)) (ht : (pc : Int) + off = (tgt : Int)) (hr : (-2147483648 ≤ x ∧ x < 2147483648) ∧ -2147483648 ≤ y ∧ y < 2147483648) (kt : x ≠ y → kG p l e h s m args below meth c w nL kd post (tgt) (ls) (st) (M)) (kf : x = y → kG p l e h s m args below meth c w nL kd post (pc + 3) (ls) (st) (M)) : kG p l e h s m args below meth c w nL kd post (pc) (ls) (vI y :: vI x :: st) (M) := by
  intro hR hst hls lsA H locs hL hP hS
  have e1 := kI_eq hr.1 hr.2
  have e2 := kI_lt hr.1 hr.2
  have e3 := kI_le hr.1 hr.2
  have e4 := kI_lt hr.2 hr.1
  have e5 := kI_le hr.2 hr.1
  refine lv_icmp_ne C.1 C.2.1 hd ht (fun q => kt ?_ hR (kSt (kSt hst).2).2 hls lsA H locs hL hP hS) (fun q => kf ?_ hR (kSt (kSt hst).2).2 hls lsA H locs hL hP hS) <;> (simp only [gt_iff_lt, ge_iff_le, e1, e2, e3, e4, e5, ne_eq] at q; omega)
theorem g_ic_lt (C : kCx p s m args meth c w own cc nL rt) {x y off : Int} (tgt : Nat) (hd : decode cc pc = .ok (.if_icmp .lt off, 3)) (ht : (pc : Int) + off = (tgt : Int)) (hr : (-2147483648 ≤ x ∧ x < 2147483648) ∧ -2147483648 ≤ y ∧ y < 2147483648) (kt : x < y → kG p l e h s m args below meth c w nL kd post (tgt) (ls) (st) (M)) (kf : y ≤ x → kG p l e h s m args below meth c w nL kd post (pc + 3) (ls) (st) (M)) : kG p l e h s m args below meth c w nL kd post (pc) (ls) (vI y :: vI x :: st) (M) := by
  intro hR hst hls lsA H locs hL hP hS
  have e1 := kI_eq hr.1 hr.2
  have e2 := kI_lt hr.1 hr.2
  have e3 := kI_le hr.1 hr.2
  have e4 := kI_lt hr.2 hr.1
  have e5 := kI_le hr.2 hr.1
  refine lv_icmp_lt C.1 C.2.1 hd ht (fun q => kt ?_ hR (kSt (kSt hst).2).2 hls lsA H locs hL hP hS) (fun q => kf ?_ hR (kSt (kSt hst).2).2 hls lsA H locs hL hP hS) <;> (simp only [gt_iff_lt, ge_iff_le, e1, e2, e3, e4, e5, ne_eq] at q; omega)
theorem g_ic_ge (C : kCx p s m args meth c w own cc nL rt) {x y off : Int} (tgt : Nat) (hd : decode cc pc = .ok (.if_icmp .ge off, 3)) (ht : (pc : Int) + off = (tgt : Int)) (hr : (-2147483648 ≤ x ∧ x < 2147483648) ∧ -2147483648 ≤ y ∧ y < 2147483648) (kt : y ≤ x → kG p l e h s m args below meth c w nL kd post (tgt) (ls) (st) (M)) (kf : x < y → kG p l e h s m args below meth c w nL kd post (pc + 3) (ls) (st) (M)) : kG p l e h s m args below meth c w nL kd post (pc) (ls) (vI y :: vI x :: st) (M) := by
  intro hR hst hls lsA H locs hL hP hS
  have e1 := kI_eq hr.1 hr.2
  have e2 := kI_lt hr.1 hr.2
  have e3 := kI_le hr.1 hr.2
  have e4 := kI_lt hr.2 hr.1
  have e5 := kI_le hr.2 hr.1
  refine lv_icmp_ge C.1 C.2.1 hd ht (fun q => kt ?_ hR (kSt (kSt hst).2).2 hls lsA H locs hL hP hS) (fun q => kf ?_ hR (kSt (kSt hst).2).2 hls lsA H locs hL hP hS) <;> (simp only [gt_iff_lt, ge_iff_le, e1, e2, e3, e4, e5, ne_eq] at q; omega)
theorem g_ic_gt (C : kCx p s m args meth c w own cc nL rt) {x y off : Int} (tgt : Nat) (hd : decode cc pc = .ok (.if_icmp .gt off, 3)) (ht : (pc : Int) + off = (tgt : Int)) (hr : (-2147483648 ≤ x ∧ x < 2147483648) ∧ -2147483648 ≤ y ∧ y < 2147483648) (kt : y < x → kG p l e h s m args below meth c w nL kd post (tgt) (ls) (st) (M)) (kf : x ≤ y → kG p l e h s m args below meth c w nL kd post (pc + 3) (ls) (st) (M)) : kG p l e h s m args below meth c w nL kd post (pc) (ls) (vI y :: vI x :: st) (M) := by
  intro hR hst hls lsA H locs hL hP hS
  have e1 := kI_eq hr.1 hr.2
  have e2 := kI_lt hr.1 hr.2
  have e3 := kI_le hr.1 hr.2
  have e4 := kI_lt hr.2 hr.1
  have e5 := kI_le hr.2 hr.1
  refine lv_icmp_gt C.1 C.2.1 hd ht (fun q => kt ?_ hR (kSt (kSt hst).2).2 hls lsA H locs hL hP hS) (fun q => kf ?_ hR (kSt (kSt hst).2).2 hls lsA H locs hL hP hS) <;> (simp only [gt_iff_lt, ge_iff_le, e1, e2, e3, e4, e5, ne_eq] at q; omega)
theorem g_ic_le (C : kCx p s m args meth c w own cc nL rt) {x y off : Int} (tgt : Nat) (hd : decode cc pc = .ok (.if_icmp .le off, 3)) (ht : (pc : Int) + off = (tgt : Int)) (hr : (-2147483648 ≤ x ∧ x < 2147483648) ∧ -2147483648 ≤ y ∧ y < 2147483648) (kt : x ≤ y → kG p l e h s m args below meth c w nL kd post (tgt) (ls) (st) (M)) (kf : y < x → kG p l e h s m args below meth c w nL kd post (pc + 3) (ls) (st) (M)) : kG p l e h s m args below meth c w nL kd post (pc) (ls) (vI y :: vI x :: st) (M) := by
  intro hR hst hls lsA H locs hL hP hS
  have e1 := kI_eq hr.1 hr.2
  have e2 := kI_lt hr.1 hr.2
  have e3 := kI_le hr.1 hr.2
  have e4 := kI_lt hr.2 hr.1
  have e5 := kI_le hr.2 hr.1
  refine lv_icmp_le C.1 C.2.1 hd ht (fun q => kt ?_ hR (kSt (kSt hst).2).2 hls lsA H locs hL hP hS) (fun q => kf ?_ hR (kSt (kSt hst).2).2 hls lsA H locs hL hP hS) <;> (simp only [gt_iff_lt, ge_iff_le, e1, e2, e3, e4, e5, ne_eq] at q; omega)
theorem g_tblIn (C : kCx p s m args meth c w own cc nL rt) {dflt lo hi x off : Int} {offs : Array Int} {len : Nat} (tgt : Nat) (hd : decode cc pc = .ok (.tableswitch dflt lo hi offs, len)) (hr : -2147483648 ≤ x ∧ x < 2147483648) (h1 : lo ≤ x ∧ x ≤ hi) (ho : offs[(x - lo).toNat]? = some off) (ht : (pc : Int) + off = (tgt : Int)) (k : kG p l e h s m args below meth c w nL kd post (tgt) (ls) (st) (M)) : kG p l e h s m args below meth c w nL kd post (pc) (ls) (vI x :: st) (M) := by
  intro hR hst hls lsA H locs hL hP hS
  have e := kI_toInt hr
  exact lv_tableIn C.1 C.2.1 hd (by rw [e]; omega) (by rw [e]; omega) (by rw [e]; exact ho) ht (k hR (kSt hst).2 hls lsA H locs hL hP hS)
theorem g_tblOut (C : kCx p s m args meth c w own cc nL rt) {dflt lo hi x : Int} {offs : Array Int} {len : Nat} (tgt : Nat) (hd : decode cc pc = .ok (.tableswitch dflt lo hi offs, len)) (hr : -2147483648 ≤ x ∧ x < 2147483648) (h1 : x < lo ∨ hi < x) (ht : (pc : Int) + dflt = (tgt : Int)) (k : kG p l e h s m args below meth c w nL kd post (tgt) (ls) (st) (M)) : kG p l e h s m args below meth c w nL kd post (pc) (ls) (vI x :: st) (M) := by
  intro hR hst hls lsA H locs hL hP hS
  have e := kI_toInt hr
  exact lv_tableOut C.1 C.2.1 hd (by rw [e]; exact h1) ht (k hR (kSt hst).2 hls lsA H locs hL hP hS)
theorem g_look (C : kCx p s m args meth c w own cc nL rt) {dflt x off : Int} {ps : Array (Int × Int)} {len : Nat} (tgt : Nat) (hd : decode cc pc = .ok (.lookupswitch dflt ps, len)) (hp : (ps.toList.zip (ps.toList.drop 1)).all (fun (a, next) => a.1 < next.1) = true) (hr : -2147483648 ≤ x ∧ x < 2147483648) (ho : Op.lookupswitch.offset ps.toList dflt x = off) (ht : (pc : Int) + off = (tgt : Int)) (k : kG p l e h s m args below meth c w nL kd post (tgt) (ls) (st) (M)) : kG p l e h s m args below meth c w nL kd post (pc) (ls) (vI x :: st) (M) := by
  intro hR hst hls lsA H locs hL hP hS
  exact lv_lookup C.1 C.2.1 hd hp (by rw [kI_toInt hr]; exact ho) ht (k hR (kSt hst).2 hls lsA H locs hL hP hS)
/-! fields -/
def kCls (ci : Nat) (Cn : String) (T : u_T) (N : Nat) (ty : Nat → FieldType) : Prop := kCl[ci]? = some (Cn, T, N) ∧ N = kNc ci ∧ (∀ w ∈ u_ws Cn T N, w ∈ lw_all) ∧ (∀ k, k < N → parseFieldDescriptor (T k).2.2.1 = some (ty k)) ∧ ∀ a, a < N → ∀ b, b < N → a ≠ b → (T a).2.1 ≠ (T b).2.1
/-- entry idx of own's file is field k of class ci, of type fty, final or not -/
def kFld (own : String) (idx ci k : Nat) (fty : FieldType) (fin : Bool) : Prop := ∃ (Cn : String) (T : u_T) (N : Nat) (ty : Nat → FieldType), kCls ci Cn T N ty ∧ k < N ∧ (T k).1 = Cn ∧ ty k = fty ∧ (T k).2.2.2 = fin ∧
  (Cond.fieldLink own idx Cn (T k).2.1 (T k).2.2.1 ∈ lw_all ∨ (own, idx, Cn, (T k).2.1, (T k).2.2.1) ∈ kNF)
theorem kCell_obj {t i ci : Nat} (ht : kSk t = 0 ∧ kCi t = ci) : kCell w M t i = .inr (ci, (List.range (kNc ci)).map (fun k => kFv w M t i k)) := by
  unfold kCell
  rw [ht.1, ht.2]
  rfl
theorem g_getf (C : kCx p s m args meth c w own cc nL rt) {idx ci k t : Nat} {i : Int} {fty : FieldType} {fin : Bool} (hd : decode cc pc = .ok (.getfield idx, 3)) (F : kFld own idx ci k fty fin) (ht : kSk t = 0 ∧ kCi t = ci) (v : KV) (hv : kFv w M t i.toNat k = kTv w v) (hvk : kVok (vR t i) → kVok v) (kk : kG p l e h s m args below meth c w nL kd post (pc + 3) (ls) (v :: st) (M)) : kG p l e h s m args below meth c w nL kd post (pc) (ls) (vR t i :: st) (M) := by
  intro hR hst hls lsA H locs hL hP hS
  obtain ⟨hvr, hst'⟩ := kSt hst
  obtain ⟨Cn, T, N, ty, ⟨hc, hN, hin, hty, hnm⟩, hk, hT1, hTy, hfin, hlink⟩ := F
  have ha := kW_at w M (kVok_ok hvr).1
  rw [kCell_obj ht] at ha
  have hf : ((List.range (kNc ci)).map (fun k => kFv w M t i.toNat k))[k]? = some (kTv w v) := by
    rw [List.getElem?_map, List.getElem?_range (by omega), ← hv]
    rfl
  have k1 := kk hR (kSt_mk (hvk hvr) hst') hls lsA H locs hL hP hS
  subst hT1
  rcases hlink with h1 | h1
  · exact va_get C.1 C.2.1 C.2.2.2.2.1 hin C.2.2.2.1 C.2.2.2.2.2.1 hP _ ha hc k hk (C.2.2.2.2.1 _ h1) (fun _ q => q) hf hd k1
  · exact va_getN C.1 C.2.1 C.2.2.2.2.1 hin C.2.2.2.1 C.2.2.2.2.2.1 hP _ ha hc k hk (va_Nw.use rfl (C.2.2.2.2.2.2.1.1 _ h1)) (fun _ q => q) hf hd k1
theorem g_getI (C : kCx p s m args meth c w own cc nL rt) {idx ci k t : Nat} {i : Int} {fty : FieldType} {fin : Bool} (z : Int) (hd : decode cc pc = .ok (.getfield idx, 3)) (F : kFld own idx ci k fty fin) (ht : kSk t = 0 ∧ kCi t = ci) (hr : kRt t k = 0) (hz : ((k : Nat) : Int) = z) (kk : (-2147483648 ≤ M t i z ∧ M t i z < 2147483648) → kG p l e h s m args below meth c w nL kd post (pc + 3) (ls) (vI (M t i z) :: st) (M)) : kG p l e h s m args below meth c w nL kd post (pc) (ls) (vR t i :: st) (M) := by
  intro hR hst
  obtain ⟨-, e⟩ := kVok_ok (kSt hst).1
  refine g_getf C hd F ht (vI (M t i z)) ?_ (fun _ => trivial) (kk (hR t i z (by rw [ht.1]; decide))) hR hst
  unfold kFv
  rw [if_pos hr, e, hz]
  rfl
theorem g_getR (C : kCx p s m args meth c w own cc nL rt) {idx ci k t : Nat} {i : Int} {fty : FieldType} {fin : Bool} (t' : Nat) (hd : decode cc pc = .ok (.getfield idx, 3)) (F : kFld own idx ci k fty fin) (ht : kSk t = 0 ∧ kCi t = ci) (hr : kRt t k = t') (hc : kCnt t' = kCnt t ∧ 1 ≤ t' ∧ t' < 55) (kk : kG p l e h s m args below meth c w nL kd post (pc + 3) (ls) (vR t' i :: st) (M)) : kG p l e h s m args below meth c w nL kd post (pc) (ls) (vR t i :: st) (M) := by
  intro hR hst
  refine g_getf C hd F ht (vR t' i) ?_ (fun q => ?_) kk hR hst
  · unfold kFv
    rw [if_neg (by omega), hr]
    rfl
  · obtain ⟨h1, h2, h3, h4⟩ : 1 ≤ t ∧ t < 55 ∧ 0 ≤ i ∧ i < (kCnt t : Int) := q
    exact ⟨hc.2.1, hc.2.2, h3, by rw [hc.1]; exact h4⟩
/-- a field of numbers is written -/
theorem g_put (C : kCx p s m args meth c w own cc nL rt) {idx ci k t : Nat} {i x : Int} {fty : FieldType} (z : Int) (hd : decode cc pc = .ok (.putfield idx, 3)) (F : kFld own idx ci k fty false) (ht : kSk t = 0 ∧ kCi t = ci) (hr : kRt t k = 0) (hz : ((k : Nat) : Int) = z) (hn : narrow fty (.int (Int32.ofInt x)) = .int (Int32.ofInt x)) (hfit : fits fty (.int (Int32.ofInt x)) = true) (hx : -2147483648 ≤ x ∧ x < 2147483648) (kk : kG p l e h s m args below meth c w nL kd post (pc + 3) (ls) (st) (kUp M t i z x)) : kG p l e h s m args below meth c w nL kd post (pc) (ls) (vI x :: vR t i :: st) (M) := by
  intro hR hst hls lsA H locs hL hP hS
  obtain ⟨-, hst1⟩ := kSt hst
  obtain ⟨hvr, hst'⟩ := kSt hst1
  obtain ⟨hok, ei⟩ := kVok_ok hvr
  obtain ⟨Cn, T, N, ty, ⟨hc, hN, hin, hty, hnm⟩, hk, hT1, hTy, hfin, hlink⟩ := F
  have ha := kW_at w M hok
  rw [kCell_obj ht] at ha
  have hR' : kRg (kUp M t i z x) := kRg_up hR (fun _ => hx)
  have hset : (kW w M).set (kPos t i.toNat) (w.2.1 t i.toNat, .inr (ci, ((List.range (kNc ci)).map (fun k => kFv w M t i.toNat k)).set k (kTv w (vI x)))) = kW w (kUp M t i z x) := by
    rw [← ei]
    rw [← kW_set (M := M) (M' := kUp M t ((i.toNat : Nat) : Int) z x) hok (fun t' i' hne => kUp_cell t' i' hne)]
    rw [kCell_obj ht]
    simp only [Int.toNat_natCast]
    congr 4
    apply List.ext_getElem?
    intro j
    rw [List.getElem?_set]
    by_cases hj : k = j
    · subst hj
      rw [if_pos rfl, if_pos (by simp; omega), List.getElem?_map, List.getElem?_range (by omega)]
      simp [kFv, hr, kUp, hz, kTv, kOv, vI]
    · rw [if_neg hj]
      by_cases hl : j < kNc ci
      · rw [List.getElem?_map, List.getElem?_map, List.getElem?_range hl]
        have e : ¬ ((j : Int) = z) := by omega
        simp [kFv, kUp, e]
      · rw [List.getElem?_eq_none (by simp; omega), List.getElem?_eq_none (by simp; omega)]
  have hl : k < ((List.range (kNc ci)).map (fun k => kFv w M t i.toNat k)).length := by simp; omega
  subst hT1
  have hd2 : parseFieldDescriptor (T k).2.2.1 = some fty := by rw [hty k hk, hTy]
  rcases hlink with h1 | h1
  · refine va_put C.1 C.2.1 C.2.2.2.2.1 hin ty hty hnm C.2.2.2.1 C.2.2.2.2.2.1 hP (kW_D C.2.2.2.2.2.2.2.1 M) hS _ ha hc k hk (C.2.2.2.2.1 _ h1) (fun _ q => q) hfin hd2 hn hfit hl hd (fun H1 locs1 hP1 hD1 hS1 => ?_)
    rw [hset] at hP1
    exact kk hR' hst' hls lsA H1 locs1 hL hP1 hS1
  · refine va_putN C.1 C.2.1 C.2.2.2.2.1 hin ty hty hnm C.2.2.2.1 C.2.2.2.2.2.1 hP (kW_D C.2.2.2.2.2.2.2.1 M) hS _ ha hc k hk (va_Nw.use rfl (C.2.2.2.2.2.2.1.1 _ h1)) (fun _ q => q) hfin hd2 hn hfit hl hd (fun H1 locs1 hP1 hD1 hS1 => ?_)
    rw [hset] at hP1
    exact kk hR' hst' hls lsA H1 locs1 hL hP1 hS1
theorem g_putI (C : kCx p s m args meth c w own cc nL rt) {idx ci k t : Nat} {i x : Int} (z : Int) (hd : decode cc pc = .ok (.putfield idx, 3)) (F : kFld own idx ci k .int false) (ht : kSk t = 0 ∧ kCi t = ci) (hr : kRt t k = 0) (hz : ((k : Nat) : Int) = z) (hx : -2147483648 ≤ x ∧ x < 2147483648) (kk : kG p l e h s m args below meth c w nL kd post (pc + 3) (ls) (st) (kUp M t i z x)) : kG p l e h s m args below meth c w nL kd post (pc) (ls) (vI x :: vR t i :: st) (M) := g_put C z hd F ht hr hz rfl rfl hx kk
theorem kN_bool {x : Int} (hx : x = 0 ∨ x = 1) : narrow .boolean (.int (Int32.ofInt x)) = .int (Int32.ofInt x) ∧ fits .boolean (.int (Int32.ofInt x)) = true := by
  rcases hx with rfl | rfl <;> decide
theorem g_putZ (C : kCx p s m args meth c w own cc nL rt) {idx ci k t : Nat} {i x : Int} (z : Int) (hd : decode cc pc = .ok (.putfield idx, 3)) (F : kFld own idx ci k .boolean false) (ht : kSk t = 0 ∧ kCi t = ci) (hr : kRt t k = 0) (hz : ((k : Nat) : Int) = z) (hx : x = 0 ∨ x = 1) (kk : kG p l e h s m args below meth c w nL kd post (pc + 3) (ls) (st) (kUp M t i z x)) : kG p l e h s m args below meth c w nL kd post (pc) (ls) (vI x :: vR t i :: st) (M) := g_put C z hd F ht hr hz (kN_bool hx).1 (kN_bool hx).2 (by omega) kk
theorem kN_char {x : Int} (hx : 0 ≤ x ∧ x < 65536) : narrow .char (.int (Int32.ofInt x)) = .int (Int32.ofInt x) ∧ vp_nar .char (Int32.ofInt x) = Int32.ofInt x ∧ fits .char (.int (Int32.ofInt x)) = true := by
  have e1 : vp_nar .char (Int32.ofInt x) = Int32.ofInt x := by
    rw [vp_nar_char]
    apply Int32.toBitVec.inj
    apply BitVec.eq_of_toNat_eq
    have e : (BitVec.ofInt 32 x).toNat = x.toNat := by
      rw [BitVec.toNat_ofInt]
      omega
    show (((BitVec.ofInt 32 x).setWidth 16).setWidth 32).toNat = (BitVec.ofInt 32 x).toNat
    rw [BitVec.toNat_setWidth, BitVec.toNat_setWidth, e]
    omega
  have e2 : narrow .char (.int (Int32.ofInt x)) = .int (vp_nar .char (Int32.ofInt x)) := rfl
  refine ⟨by rw [e2, e1], e1, ?_⟩
  have e3 : (65535 : Int32) = Int32.ofInt 65535 := by decide
  have e4 : 0 ≤ Int32.ofInt x ∧ Int32.ofInt x ≤ 65535 := by
    rw [kI_0, e3, kI_le (by omega) (by omega), kI_le (by omega) (by omega)]
    omega
  simpa [fits] using e4
theorem g_putC (C : kCx p s m args meth c w own cc nL rt) {idx ci k t : Nat} {i x : Int} (z : Int) (hd : decode cc pc = .ok (.putfield idx, 3)) (F : kFld own idx ci k .char false) (ht : kSk t = 0 ∧ kCi t = ci) (hr : kRt t k = 0) (hz : ((k : Nat) : Int) = z) (hx : 0 ≤ x ∧ x < 65536) (kk : kG p l e h s m args below meth c w nL kd post (pc + 3) (ls) (st) (kUp M t i z x)) : kG p l e h s m args below meth c w nL kd post (pc) (ls) (vI x :: vR t i :: st) (M) := g_put C z hd F ht hr hz (kN_char hx).1 (kN_char hx).2.2 (by omega) kk
/-! arrays -/
theorem kCell_arr {t i tc : Nat} (ht : kSk t = 1 ∧ kTc t = tc) : kCell w M t i = .inl (w.2.2 tc, kLen t, .inl (fun k => Int32.ofInt (M t i k))) := by
  unfold kCell
  rw [ht.1, ht.2]
  rfl
theorem kCell_lng {t i : Nat} (ht : kSk t = 2 ∧ kTc t = 3) : kCell w M t i = .inl (w.2.2 3, kLen t, .inr (.inl (fun k => Int64.ofInt (M t i k)))) := by
  unfold kCell
  rw [ht.1, ht.2]
  rfl
theorem kCell_ref {t i tc : Nat} (ht : kSk t = 3 ∧ kTc t = tc) : kCell w M t i = .inl (w.2.2 tc, kLen t, .inr (.inr (.inr (.inr (fun k => some (w.2.1 (kEt t) k)))))) := by
  unfold kCell
  rw [ht.1, ht.2]
  rfl
theorem kArr_set {t i tc : Nat} {z x : Int} (hok : kOk t i) (ht : kSk t = 1 ∧ kTc t = tc) {q : Nat} (hq : ((q : Nat) : Int) = z) : (kW w M).set (kPos t i) (w.2.1 t i, .inl (w.2.2 tc, kLen t, .inl (upd (fun k => Int32.ofInt (M t i k)) q (Int32.ofInt x)))) = kW w (kUp M t i z x) := by
  have hf : upd (fun k => Int32.ofInt (M t i k)) q (Int32.ofInt x) = fun (k : Nat) => Int32.ofInt (kUp M t (i : Int) z x t i k) := by
    funext j
    unfold upd kUp
    by_cases hj : j = q
    · subst hj
      rw [if_pos rfl, if_pos ⟨rfl, rfl, hq⟩]
    · rw [if_neg hj, if_neg]
      rintro ⟨-, -, e⟩
      exact hj (by omega)
  rw [← kW_set (M := M) (M' := kUp M t (i : Int) z x) hok (fun t' i' hne => kUp_cell t' i' hne), kCell_arr ht, hf]
theorem kArr_setL {t i : Nat} {z x : Int} (hok : kOk t i) (ht : kSk t = 2 ∧ kTc t = 3) {q : Nat} (hq : ((q : Nat) : Int) = z) : (kW w M).set (kPos t i) (w.2.1 t i, .inl (w.2.2 3, kLen t, .inr (.inl (vp_updL (fun k => Int64.ofInt (M t i k)) q (Int64.ofInt x))))) = kW w (kUp M t i z x) := by
  have hf : vp_updL (fun k => Int64.ofInt (M t i k)) q (Int64.ofInt x) = fun (k : Nat) => Int64.ofInt (kUp M t (i : Int) z x t i k) := by
    funext j
    unfold vp_updL kUp
    by_cases hj : j = q
    · subst hj
      rw [if_pos rfl, if_pos ⟨rfl, rfl, hq⟩]
    · rw [if_neg hj, if_neg]
      rintro ⟨-, -, e⟩
      exact hj (by omega)
  rw [← kW_set (M := M) (M' := kUp M t (i : Int) z x) hok (fun t' i' hne => kUp_cell t' i' hne), kCell_lng ht, hf]
theorem kLen_lt : ∀ t, kLen t < 2147483648 := by
  intro t
  unfold kLen
  split <;> decide
theorem g_iald (C : kCx p s m args meth c w own cc nL rt) {t : Nat} {i z : Int} (n : Int) (hd : decode cc pc = .ok (.iaload, 1)) (ht : kSk t = 1 ∧ kTc t = 0) (hn : ((kLen t : Nat) : Int) = n) (hz : 0 ≤ z ∧ z < n) (k : (-2147483648 ≤ M t i z ∧ M t i z < 2147483648) → kG p l e h s m args below meth c w nL kd post (pc + 1) (ls) (vI (M t i z) :: st) (M)) : kG p l e h s m args below meth c w nL kd post (pc) (ls) (vI z :: vR t i :: st) (M) := by
  intro hR hst hls lsA H locs hL hP hS
  obtain ⟨hok, ei⟩ := kVok_ok (kSt (kSt hst).2).1
  have ha := kW_at w M hok
  rw [kCell_arr ht, ei] at ha
  subst hn
  obtain ⟨hin, hq⟩ := kI_ix hz (kLen_lt t)
  have k1 := k (hR t i z (by rw [ht.1]; decide)) hR (kSt_mk trivial (kSt (kSt hst).2).2) hls lsA H locs hL hP hS
  refine va_iald C.1 C.2.1 C.2.2.2.2.2.1 hP _ 0 ha rfl hin hd ?_
  rw [hq]
  exact k1
theorem g_cald (C : kCx p s m args meth c w own cc nL rt) {t : Nat} {i z : Int} (n : Int) (hd : decode cc pc = .ok (.caload, 1)) (ht : kSk t = 1 ∧ kTc t = 1) (hn : ((kLen t : Nat) : Int) = n) (hz : 0 ≤ z ∧ z < n) (k : (-2147483648 ≤ M t i z ∧ M t i z < 2147483648) → kG p l e h s m args below meth c w nL kd post (pc + 1) (ls) (vI (M t i z) :: st) (M)) : kG p l e h s m args below meth c w nL kd post (pc) (ls) (vI z :: vR t i :: st) (M) := by
  intro hR hst hls lsA H locs hL hP hS
  obtain ⟨hok, ei⟩ := kVok_ok (kSt (kSt hst).2).1
  have ha := kW_at w M hok
  rw [kCell_arr ht, ei] at ha
  subst hn
  obtain ⟨hin, hq⟩ := kI_ix hz (kLen_lt t)
  have k1 := k (hR t i z (by rw [ht.1]; decide)) hR (kSt_mk trivial (kSt (kSt hst).2).2) hls lsA H locs hL hP hS
  refine va_cald C.1 C.2.1 C.2.2.2.2.2.1 hP _ 1 ha rfl hin hd ?_
  rw [hq]
  exact k1
theorem g_zald (C : kCx p s m args meth c w own cc nL rt) {t : Nat} {i z : Int} (n : Int) (hd : decode cc pc = .ok (.baload, 1)) (ht : kSk t = 1 ∧ kTc t = 2) (hn : ((kLen t : Nat) : Int) = n) (hz : 0 ≤ z ∧ z < n) (k : (-2147483648 ≤ M t i z ∧ M t i z < 2147483648) → kG p l e h s m args below meth c w nL kd post (pc + 1) (ls) (vI (M t i z) :: st) (M)) : kG p l e h s m args below meth c w nL kd post (pc) (ls) (vI z :: vR t i :: st) (M) := by
  intro hR hst hls lsA H locs hL hP hS
  obtain ⟨hok, ei⟩ := kVok_ok (kSt (kSt hst).2).1
  have ha := kW_at w M hok
  rw [kCell_arr ht, ei] at ha
  subst hn
  obtain ⟨hin, hq⟩ := kI_ix hz (kLen_lt t)
  have k1 := k (hR t i z (by rw [ht.1]; decide)) hR (kSt_mk trivial (kSt (kSt hst).2).2) hls lsA H locs hL hP hS
  refine va_zald C.1 C.2.1 C.2.2.2.2.2.1 hP _ 2 ha rfl hin hd ?_
  rw [hq]
  exact k1
theorem g_lald (C : kCx p s m args meth c w own cc nL rt) {t : Nat} {i z : Int} (n : Int) (hd : decode cc pc = .ok (.laload, 1)) (ht : kSk t = 2 ∧ kTc t = 3) (hn : ((kLen t : Nat) : Int) = n) (hz : 0 ≤ z ∧ z < n) (k : kG p l e h s m args below meth c w nL kd post (pc + 1) (ls) (vL (M t i z) :: st) (M)) : kG p l e h s m args below meth c w nL kd post (pc) (ls) (vI z :: vR t i :: st) (M) := by
  intro hR hst hls lsA H locs hL hP hS
  obtain ⟨hok, ei⟩ := kVok_ok (kSt (kSt hst).2).1
  have ha := kW_at w M hok
  rw [kCell_lng ht, ei] at ha
  subst hn
  obtain ⟨hin, hq⟩ := kI_ix hz (kLen_lt t)
  have k1 := k hR (kSt_mk trivial (kSt (kSt hst).2).2) hls lsA H locs hL hP hS
  refine va_lald C.1 C.2.1 C.2.2.2.2.2.1 hP _ 3 ha rfl hin hd ?_
  rw [hq]
  exact k1
theorem g_aald (C : kCx p s m args meth c w own cc nL rt) {t : Nat} {i z : Int} (t' : Nat) (n : Int) (hd : decode cc pc = .ok (.aaload, 1)) (ht : kSk t = 3 ∧ 4 ≤ kTc t ∧ kTc t < 7) (he : kEt t = t' ∧ kCnt t' = kLen t ∧ 1 ≤ t' ∧ t' < 55) (hn : ((kLen t : Nat) : Int) = n) (hz : 0 ≤ z ∧ z < n) (k : kG p l e h s m args below meth c w nL kd post (pc + 1) (ls) (vR t' z :: st) (M)) : kG p l e h s m args below meth c w nL kd post (pc) (ls) (vI z :: vR t i :: st) (M) := by
  intro hR hst hls lsA H locs hL hP hS
  obtain ⟨hok, ei⟩ := kVok_ok (kSt (kSt hst).2).1
  have ha := kW_at w M hok
  rw [kCell_ref ⟨ht.1, rfl⟩] at ha
  subst hn
  obtain ⟨hin, hq⟩ := kI_ix hz (kLen_lt t)
  have hlt : (Int32.ofInt z).toNatClampNeg < kLen t := by omega
  have hv : kVok (vR t' z) := ⟨he.2.2.1, he.2.2.2, hz.1, by rw [he.2.1]; exact hz.2⟩
  have k1 := k hR (kSt_mk hv (kSt (kSt hst).2).2) hls lsA H locs hL hP hS
  have key : ∀ (ty : FieldType), (kTys w)[kTc t]? = some (w.2.2 (kTc t), ty) → ty.isReference = true → W p l e (kRm h) s m args below meth c H locs 0 0 (MQ below (kQ w kd post) args s 0 0 (kA w)) (F0 m pc lsA ((vI z :: vR t i :: st).map (kTv w))) := by
    intro ty hty href
    refine W.aald (v := kTv w (vR t' z)) (ty := ty) C.1 C.2.1 (hP _ _ ha) ((C.2.2.2.2.2.1.2 _ _ hty).1 (kLen t) (fun j => va_rf (some (w.2.1 (kEt t) j)))) href (fun q => by cases q) (by show ¬ (Int32.ofInt z < 0 ∨ (arrV _ _ _).slots.size ≤ _); rw [arrV_size]; exact hin) ?_ rfl rfl hd k1
    show (arrV _ _ _).slots[_]? = _
    have e9 : (Int32.ofInt z).toNatClampNeg = z.toNat := by omega
    rw [arrV_read _ _ hlt, he.1, e9]
    rfl
  obtain ⟨h4, h7⟩ := ht.2
  rcases (show kTc t = 4 ∨ kTc t = 5 ∨ kTc t = 6 by omega) with e | e | e
  · exact key (.object "KindNets$Kind") (by rw [e]; rfl) rfl
  · exact key (.array .int) (by rw [e]; rfl) rfl
  · exact key (.array .long) (by rw [e]; rfl) rfl
theorem g_iast (C : kCx p s m args meth c w own cc nL rt) {t : Nat} {i z x : Int} (n : Int) (hd : decode cc pc = .ok (.iastore, 1)) (ht : kSk t = 1 ∧ kTc t = 0) (hn : ((kLen t : Nat) : Int) = n) (hz : 0 ≤ z ∧ z < n) (hx : -2147483648 ≤ x ∧ x < 2147483648) (k : kG p l e h s m args below meth c w nL kd post (pc + 1) (ls) (st) (kUp M t i z x)) : kG p l e h s m args below meth c w nL kd post (pc) (ls) (vI x :: vI z :: vR t i :: st) (M) := by
  intro hR hst hls lsA H locs hL hP hS
  obtain ⟨hvr, hst'⟩ := kSt (kSt (kSt hst).2).2
  obtain ⟨hok, ei⟩ := kVok_ok hvr
  have ha := kW_at w M hok
  rw [kCell_arr ht] at ha
  subst hn
  obtain ⟨hin, hq⟩ := kI_ix hz (kLen_lt t)
  refine va_iast C.1 C.2.1 C.2.2.2.2.2.1 hP (kW_D C.2.2.2.2.2.2.2.1 M) hS _ 0 ha rfl hin hd (fun H1 locs1 hP1 hD1 hS1 => ?_)
  rw [kArr_set hok ht hq, ei] at hP1
  exact k (kRg_up hR (fun _ => by omega)) hst' hls lsA H1 locs1 hL hP1 hS1
theorem g_cast (C : kCx p s m args meth c w own cc nL rt) {t : Nat} {i z x : Int} (n : Int) (hd : decode cc pc = .ok (.castore, 1)) (ht : kSk t = 1 ∧ kTc t = 1) (hn : ((kLen t : Nat) : Int) = n) (hz : 0 ≤ z ∧ z < n) (hx : 0 ≤ x ∧ x < 65536) (k : kG p l e h s m args below meth c w nL kd post (pc + 1) (ls) (st) (kUp M t i z x)) : kG p l e h s m args below meth c w nL kd post (pc) (ls) (vI x :: vI z :: vR t i :: st) (M) := by
  intro hR hst hls lsA H locs hL hP hS
  obtain ⟨hvr, hst'⟩ := kSt (kSt (kSt hst).2).2
  obtain ⟨hok, ei⟩ := kVok_ok hvr
  have ha := kW_at w M hok
  rw [kCell_arr ht] at ha
  subst hn
  obtain ⟨hin, hq⟩ := kI_ix hz (kLen_lt t)
  refine va_cast C.1 C.2.1 C.2.2.2.2.2.1 hP (kW_D C.2.2.2.2.2.2.2.1 M) hS _ 1 ha rfl hin hd (fun H1 locs1 hP1 hD1 hS1 => ?_)
  rw [(kN_char hx).2.1] at hP1
  rw [kArr_set hok ht hq, ei] at hP1
  exact k (kRg_up hR (fun _ => by omega)) hst' hls lsA H1 locs1 hL hP1 hS1
theorem kNz {x : Int} (hx : x = 0 ∨ x = 1) : vp_nar .boolean (Int32.ofInt x) = Int32.ofInt x := by
  rcases hx with rfl | rfl <;> decide
theorem g_zast (C : kCx p s m args meth c w own cc nL rt) {t : Nat} {i z x : Int} (n : Int) (hd : decode cc pc = .ok (.bastore, 1)) (ht : kSk t = 1 ∧ kTc t = 2) (hn : ((kLen t : Nat) : Int) = n) (hz : 0 ≤ z ∧ z < n) (hx : x = 0 ∨ x = 1) (k : kG p l e h s m args below meth c w nL kd post (pc + 1) (ls) (st) (kUp M t i z x)) : kG p l e h s m args below meth c w nL kd post (pc) (ls) (vI x :: vI z :: vR t i :: st) (M) := by
  intro hR hst hls lsA H locs hL hP hS
  obtain ⟨hvr, hst'⟩ := kSt (kSt (kSt hst).2).2
  obtain ⟨hok, ei⟩ := kVok_ok hvr
  have ha := kW_at w M hok
  rw [kCell_arr ht] at ha
  subst hn
  obtain ⟨hin, hq⟩ := kI_ix hz (kLen_lt t)
  refine va_zast C.1 C.2.1 C.2.2.2.2.2.1 hP (kW_D C.2.2.2.2.2.2.2.1 M) hS _ 2 ha rfl hin hd (fun H1 locs1 hP1 hD1 hS1 => ?_)
  rw [(kNz hx)] at hP1
  rw [kArr_set hok ht hq, ei] at hP1
  exact k (kRg_up hR (fun _ => by omega)) hst' hls lsA H1 locs1 hL hP1 hS1
theorem g_last (C : kCx p s m args meth c w own cc nL rt) {t : Nat} {i z x : Int} (n : Int) (hd : decode cc pc = .ok (.lastore, 1)) (ht : kSk t = 2 ∧ kTc t = 3) (hn : ((kLen t : Nat) : Int) = n) (hz : 0 ≤ z ∧ z < n) (k : kG p l e h s m args below meth c w nL kd post (pc + 1) (ls) (st) (kUp M t i z x)) : kG p l e h s m args below meth c w nL kd post (pc) (ls) (vL x :: vI z :: vR t i :: st) (M) := by
  intro hR hst hls lsA H locs hL hP hS
  obtain ⟨hvr, hst'⟩ := kSt (kSt (kSt hst).2).2
  obtain ⟨hok, ei⟩ := kVok_ok hvr
  have ha := kW_at w M hok
  rw [kCell_lng ht] at ha
  subst hn
  obtain ⟨hin, hq⟩ := kI_ix hz (kLen_lt t)
  refine va_last C.1 C.2.1 C.2.2.2.2.2.1 hP (kW_D C.2.2.2.2.2.2.2.1 M) hS _ 3 ha rfl hin hd (fun H1 locs1 hP1 hD1 hS1 => ?_)
  rw [kArr_setL hok ht hq, ei] at hP1
  exact k (kRg_up hR (fun q => absurd ht.1 q)) hst' hls lsA H1 locs1 hL hP1 hS1
/-! ends -/
theorem kEnd {H : Heap} {locs : List Loc} {z : Int} (hp : post z M) (hR : kRg M) (hP : va_P w.1 kCl (kW w M) H) (hS : va_S (kA w) s.heap H locs) (t : State) (ht : t.heap = H) : kQ w kd post args s (.returned (kAns kd z)) t := ⟨⟨z, M, rfl, hp, hR, by rw [ht]; exact hP⟩, hS.F ht⟩
theorem g_iret {args : Array Value} {z : Int} (C : kCx p s m args meth c w own cc nL (some .int)) (hd : decode cc pc = .ok (.ireturn, 1)) (hp : post z M) : kG p l e h s m args below meth c w nL 1 post pc ls [vI z] M := by
  intro hR hst hls lsA H locs hL hP hS
  exact W.iret C.1 C.2.1 C.2.2.2.2.2.2.2.2.2 (fun t ht _ => kEnd (kd := 1) hp hR hP hS t ht) hS.2.2 hd C.2.2.2.2.2.2.2.2.1
theorem g_zret {args : Array Value} {z : Int} (C : kCx p s m args meth c w own cc nL (some .boolean)) (hd : decode cc pc = .ok (.ireturn, 1)) (hz : z = 0 ∨ z = 1) (hp : post z M) : kG p l e h s m args below meth c w nL 1 post pc ls [vI z] M := by
  intro hR hst hls lsA H locs hL hP hS
  exact W.zret C.1 C.2.1 C.2.2.2.2.2.2.2.2.2 (kN_bool hz).1 (fun t ht _ => kEnd (kd := 1) hp hR hP hS t ht) hS.2.2 hd C.2.2.2.2.2.2.2.2.1
theorem g_lret {args : Array Value} {z : Int} (C : kCx p s m args meth c w own cc nL (some .long)) (hd : decode cc pc = .ok (.lreturn, 1)) (hp : post z M) : kG p l e h s m args below meth c w nL 2 post pc ls [vL z] M := by
  intro hR hst hls lsA H locs hL hP hS
  exact W.lret C.1 C.2.1 C.2.2.2.2.2.2.2.2.2 (fun t ht _ => kEnd (kd := 2) hp hR hP hS t ht) hS.2.2 hd C.2.2.2.2.2.2.2.2.1
theorem g_vret {args : Array Value} (C : kCx p s m args meth c w own cc nL none) (hd : decode cc pc = .ok (.return_, 1)) (hp : post 0 M) : kG p l e h s m args below meth c w nL 0 post pc ls [] M := by
  intro hR hst hls lsA H locs hL hP hS
  exact W.vret C.1 C.2.1 C.2.2.2.2.2.2.2.2.2 (fun t ht _ => kEnd (kd := 0) (z := 0) hp hR hP hS t ht) hS.2.2 hd C.2.2.2.2.2.2.2.2.1
/-! a method's start -/
def kEn : List KV → List KV
  | [] => []
  | v :: vs => if kIsL v then v :: vN :: kEn vs else v :: kEn vs
theorem kEn_args : ∀ (av : List KV) (n : Nat), (∀ v ∈ av, v ≠ vN) → ∀ (i : Nat) (x : Value), (∃ v, (kEn av)[i]? = some v ∧ kOv w v = some x) → (n + i, x) ∈ lv_args n (av.map (kTv w))
  | [], n, _, i, x, h => by
    obtain ⟨v, h1, -⟩ := h
    simp [kEn] at h1
  | v :: vs, n, hN, i, x, h => by
    obtain ⟨u, h1, h2⟩ := h
    have ih := kEn_args vs
    unfold kEn at h1
    by_cases hl : kIsL v = true
    · have hc : (kTv w v).category = 2 := by
        rcases v with z | z | q | y
        · cases hl
        · rfl
        · cases hl
        · cases hl
      rw [if_pos hl] at h1
      simp only [List.map_cons, lv_args, hc, if_true]
      match i, h1 with
      | 0, h1 =>
        cases h1
        have : kTv w v = x := by unfold kTv; rw [h2]; rfl
        rw [this]
        exact List.mem_cons_self
      | 1, h1 =>
        cases h1
        cases h2
      | i + 2, h1 =>
        have := ih (n + 2) (fun v h => hN v (List.mem_cons_of_mem _ h)) i x ⟨u, h1, h2⟩
        rw [show n + (i + 2) = n + 2 + i by omega]
        exact List.mem_cons_of_mem _ this
    · have hc : ¬ (kTv w v).category = 2 := by
        rcases v with z | z | q | y
        · exact fun h => by cases h
        · exact absurd rfl hl
        · exact fun h => by cases h
        · exact absurd rfl (hN _ List.mem_cons_self)
      rw [if_neg hl] at h1
      simp only [List.map_cons, lv_args, hc, if_false]
      match i, h1 with
      | 0, h1 =>
        cases h1
        have : kTv w v = x := by unfold kTv; rw [h2]; rfl
        rw [this]
        exact List.mem_cons_self
      | i + 1, h1 =>
        have := ih (n + 1) (fun v h => hN v (List.mem_cons_of_mem _ h)) i x ⟨u, h1, h2⟩
        rw [show n + (i + 1) = n + 1 + i by omega]
        exact List.mem_cons_of_mem _ this
theorem kEn_len : ∀ (av : List KV), (∀ v ∈ av, v ≠ vN) → (lg_sl (av.map (kTv w))).length = (kEn av).length
  | [], _ => rfl
  | v :: vs, hN => by
    have ih := kEn_len vs (fun v h => hN v (List.mem_cons_of_mem _ h))
    unfold kEn
    rcases v with z | z | q | y
    · simp [lg_sl, kIsL, kTv, kOv, Value.category] at ih ⊢
      omega
    · simp [lg_sl, kIsL, kTv, kOv, Value.category] at ih ⊢
      omega
    · simp [lg_sl, kIsL, kTv, kOv, Value.category] at ih ⊢
      omega
    · exact absurd rfl (hN _ List.mem_cons_self)
end KG
def kNoN (av : List KV) : Bool := av.all (fun v => match v with
  | .inr (.inr (.inr _)) => false
  | _ => true)
theorem kNoN_of {av : List KV} (h : kNoN av = true) : ∀ v ∈ av, v ≠ vN := by
  intro v hv e
  have := List.all_eq_true.mp h v hv
  subst e
  cases this
theorem kMet_of {l : Launch} {w : KL} {y : MethodName} {cc : ByteArray} {nL : Nat} {rt : Option FieldType} {kd h : Nat} {av : List KV} {M : KM} {post : Int → KM → Prop} (ls0 : List KV) (hy : plainName y.cls = true) (hI : kInj w) (hN : kNoN av = true) (hls : kEn av ++ List.replicate (nL - (kEn av).length) vN = ls0) (hn : (kEn av).length ≤ nL)
    (body : ∀ (p : Program) (e : Env) (s : State) (m : MethodId) (args : Array Value) (below : List Frame) (meth : Method) (c : Code), kCx p s m args meth c w y.cls cc nL rt → (∀ v ∈ av, kVok v) → kG p l e h s m args below meth c w nL kd post 0 ls0 [] M) : kMet l w y cc nL rt kd h av M post := by
  refine Met.ofW (cc := cc) (maxL := nL) (ret := rt) hy rfl ?_
  intro p e s m args below meth c s₁ B hml hv
  have hN : ∀ v ∈ av, v ≠ vN := kNoN_of hN
  obtain ⟨rfl, hav, hR, hP, hK, hNW⟩ := hv
  have hts := atoms_spec (ws := ws_ y cc nL rt) B.pre
  have hts : ∀ w ∈ lw_all, w.before _ s = true := fun w h => hts w (List.mem_cons_of_mem _ h)
  have hown : s.vm.findClass y.cls = some m.cls := findClass_of_methodNamed B.named
  have hlen := kEn_len (w := w) av hN
  have hl := lv_entry (av.map (kTv w)) (n := nL) (by rw [hlen]; exact hn)
  rw [lg_entry_eq]
  generalize (lg_sl (av.map (kTv w)) ++ List.replicate (nL - (lg_sl (av.map (kTv w))).length) Slot.unset).toArray = lsA at hl ⊢
  have k := body p e s m _ below meth c ⟨B.exec, B.bytes, hml, hown, hts, hK, hNW, hI, B.notSynchronized, B.returns⟩ hav
  refine k hR (fun v hv => by cases hv) ?_ lsA s.heap [] (hl.less ?_) hP va_S.rf
  · intro v hv
    rw [← hls] at hv
    have key : ∀ (a : List KV), (∀ x ∈ a, kVok x) → ∀ x ∈ kEn a, kVok x := by
      intro a
      induction a with
      | nil => intro _ x hx; simp [kEn] at hx
      | cons b a ih =>
        intro ha x hx
        obtain ⟨h1, h2⟩ := List.forall_mem_cons.mp ha
        unfold kEn at hx
        split at hx
        · rcases List.mem_cons.mp hx with rfl | hx
          · exact h1
          · rcases List.mem_cons.mp hx with rfl | hx
            · trivial
            · exact ih h2 x hx
        · rcases List.mem_cons.mp hx with rfl | hx
          · exact h1
          · exact ih h2 x hx
    rcases List.mem_append.mp hv with h | h
    · exact key av hav v h
    · rw [List.eq_of_mem_replicate h]; trivial
  · rintro ⟨i, x⟩ hq
    obtain ⟨v, h1, h2⟩ := kLs_mem.mp hq
    rw [← hls] at h1
    by_cases hi : i < (kEn av).length
    · rw [List.getElem?_append_left hi] at h1
      simpa using kEn_args (w := w) av 0 hN i x ⟨v, h1, h2⟩
    · rw [List.getElem?_append_right (by omega)] at h1
      have := List.eq_of_mem_replicate (List.mem_of_getElem? h1)
      subst this
      cases h2
/-! calls -/
section KCALL
variable {p : Program} {l : Launch} {e : Env} {h : Nat} {s : State} {m : MethodId} {args : Array Value} {below : List Frame} {meth : Method} {c : Code} {w : KL} {nL kd : Nat} {post : Int → KM → Prop} {pc : Nat} {ls st : List KV} {M : KM} {own : String} {cc : ByteArray} {rt : Option FieldType}
theorem k_call {kd' : Nat} {post' : Int → KM → Prop} {H H0 : Heap} {locs : List Loc} {lsA : Array Slot} {stv restv : List Value} {a : Array Value} {R : Room} {Q : State → Prop} (hr : va_Run p l e R s m args below meth c H locs 0 0 0 0 (F0 m pc lsA stv) restv (kQ w kd' post' a) (kA w)) (hS : va_S (kA w) H0 H locs)
    (kk : ∀ (z : Int) (M' : KM) (H1 : Heap) (locs1 : List Loc), post' z M' → kRg M' → va_P w.1 kCl (kW w M') H1 → va_S (kA w) H0 H1 locs1 → W p l e R s m args below meth c H1 locs1 0 0 Q (F0 m (pc + 3) lsA ((kAns kd' z).toList ++ restv))) : W p l e R s m args below meth c H locs 0 0 Q (F0 m pc lsA stv) := by
  intro T hT X
  obtain ⟨v, st₀, t, T', L, h0, X', hL, e1, e2, ⟨⟨z, M', hv, hp, hRg, hb⟩, hz, hk⟩, st⟩ := hr T hT X
  cases hv
  rw [h0] at hz hk
  obtain ⟨t2, a1, b1⟩ := kk z M' T'.heap (locs ++ L) hp hRg (by rw [e1]; exact hb)
    ⟨Nat.le_trans hS.1 (by rw [e1]; exact hz), fun q h1 h2 => by rw [e1, hk q (Nat.lt_of_lt_of_le h1 hS.1) h2]; exact hS.2.1 q h1 h2, fun q hq => by
      rcases List.mem_append.mp hq with h | h
      · exact hS.2.2 q h
      · exact hL q h⟩ T' rfl X'
  exact ⟨t2, st t2 a1, b1⟩
def kPush (kd : Nat) (z : Int) (st : List KV) : List KV := match kd with
  | 0 => st
  | 1 => vI z :: st
  | _ => vL z :: st
theorem kPush_ok {kd : Nat} {z : Int} (hst : ∀ v ∈ st, kVok v) : ∀ v ∈ kPush kd z st, kVok v := by
  unfold kPush
  split
  · exact hst
  · exact kSt_mk trivial hst
  · exact kSt_mk trivial hst
theorem kPush_map {kd : Nat} {z : Int} : (kPush kd z st).map (kTv w) = (kAns kd z).toList ++ st.map (kTv w) := by
  unfold kPush kAns
  split <;> rfl
theorem kPc_blind {av : List KV} : FrameBlind (va_Pc (av.map (kTv w)) (fun U => (∀ v ∈ av, kVok v) ∧ kWk w M U)) := by
  intro a U g mk q
  obtain ⟨q0, q1, qR, qP, qK, qN⟩ := q
  exact ⟨q0, q1, qR, qP, va_K.moved (u := U) (U := U.calling g mk a) (Vm.Alike.refl U.vm) qK, qN.same rfl⟩
theorem kPc_at (C : kCx p s m args meth c w own cc nL rt) {av : List KV} {H : Heap} (hR : kRg M) (hav : ∀ v ∈ av, kVok v) (hP : va_P w.1 kCl (kW w M) H) : ∀ U : State, U.heap = H → s.WarmedH U.vm → va_Pc (av.map (kTv w)) (fun U => (∀ v ∈ av, kVok v) ∧ kWk w M U) (av.map (kTv w)).toArray U := by
  intro U hU hW
  exact ⟨rfl, hav, hR, by rw [hU]; exact hP, va_K.moved hW.alike C.2.2.2.2.2.1, C.2.2.2.2.2.2.1.warm hW⟩
/-- entry idx of own's file is the method y: its words, its arguments' count -/
def kCv (own : String) (idx : Nat) (y : MethodName) (cd : ByteArray) (mL : Nat) (rt : Option FieldType) (n : Nat) : Prop := GoodIn lw_all (wsV own idx y.cls y (ws_ y cd mL rt)) ∧ (y.cls = y.cls ∧ y.cls ≠ "java/lang/invoke/MethodHandle" ∧ y.cls ≠ "java/lang/invoke/VarHandle" ∧ (parseMethodDescriptor y.desc).map (fun d => d.parameters.length) = some n)
def kCs (own : String) (idx : Nat) (y : MethodName) (cd : ByteArray) (mL : Nat) (rt : Option FieldType) (n : Nat) : Prop := GoodIn lw_all (va_wsS own idx y (ws_ y cd mL rt)) ∧ (y.cls ≠ "java/lang/invoke/MethodHandle" ∧ y.cls ≠ "java/lang/invoke/VarHandle" ∧ (parseMethodDescriptor y.desc).map (fun d => d.parameters.length) = some n)
def kCat (v : KV) : Nat := match v with
  | .inr (.inl _) => 2
  | _ => 1
theorem kCat_sum : ∀ (st : List KV), ((st.map (kTv w)).map fun v => v.category).sum ≤ (st.map kCat).sum
  | [] => Nat.le_refl _
  | v :: vs => by
    have ih := kCat_sum vs
    simp only [List.map_cons, List.sum_cons]
    have : (kTv w v).category ≤ kCat v := by
      rcases v with z | z | q | y
      · exact Nat.le_refl _
      · exact Nat.le_refl _
      · exact Nat.le_refl _
      · exact Nat.le_refl _
    omega
theorem g_callV (C : kCx p s m args meth c w own cc nL rt) {idx n t mL kd' h' : Nat} {y : MethodName} {cd : ByteArray} {rt' : Option FieldType} {i : Int} {as st0 : List KV} {post' : Int → KM → Prop} (hd : decode cc pc = .ok (.invokevirtual idx, 3)) (V : kCv own idx y cd mL rt' n) (hM : kMet l w y cd mL rt' kd' h' (vR t i :: as) M post')
    (ht : kSk t = 0 ∧ (kCl[kCi t]?).map (fun q => q.1) = some y.cls) (hst0 : as.reverse ++ vR t i :: st = st0) (hn : as.length = n) (hc : (st.map kCat).sum ≤ 8) (hh : h' < h ∧ mL ≤ 40)
    (kk : ∀ (z : Int) (M' : KM), post' z M' → kG p l e h s m args below meth c w nL kd post (pc + 3) (ls) (kPush kd' z st) (M')) : kG p l e h s m args below meth c w nL kd post (pc) (ls) (st0) (M) := by
  intro hR hst hls lsA H locs hL hP hS
  subst hst0
  have hst1 : ∀ v ∈ as, kVok v := fun v hv => hst v (List.mem_append_left _ (List.mem_reverse.mpr hv))
  have hst2 : ∀ v ∈ vR t i :: st, kVok v := fun v hv => hst v (List.mem_append_right _ hv)
  obtain ⟨hvr, hst3⟩ := kSt hst2
  obtain ⟨q, hq1, hq2⟩ := Option.map_eq_some_iff.mp ht.2
  have ha := kW_at w M (kVok_ok hvr).1
  rw [kCell_obj ⟨ht.1, rfl⟩] at ha
  have hrecv := va_recv C.2.2.2.2.2.1 hP hq1 ha
  rw [hq2] at hrecv
  have hroom : (kRm h').frames + 1 ≤ (kRm h).frames ∧ 8 + (mL + 11) + (kRm h').locals ≤ (kRm h).locals := by
    show h' + 1 ≤ h ∧ 8 + (mL + 11) + 60 * h' ≤ 60 * h
    omega
  refine k_call (va_runV (As := as.map (kTv w)) (rest := st.map (kTv w)) (b := w.2.1 t i.toNat) (C := y.cls) ⟨C.1, C.2.1, C.2.2.1, C.2.2.2.1, C.2.2.2.2.1⟩ hM (cwV n C.2.2.2.2.1 V.1 rfl rfl rfl V.2 hroom) ⟨kPc_blind, hrecv, kPc_at C hR (kSt_mk hvr hst1) hP⟩ rfl (by simpa using hn) hL.1 ?_ (lv_room (Nat.le_trans (kCat_sum st) hc)) hd ⟨Nat.le_refl 0, Nat.le_refl 0⟩) hS (fun z M' H1 locs1 hp hR1 hP1 hS1 => ?_)
  · simp [List.map_append, List.map_reverse, kTv, kOv, vR]
  · rw [← kPush_map]
    exact kk z M' hp hR1 (kPush_ok hst3) hls lsA H1 locs1 hL hP1 hS1
theorem g_callS (C : kCx p s m args meth c w own cc nL rt) {idx n mL kd' h' : Nat} {y : MethodName} {cd : ByteArray} {rt' : Option FieldType} {as st0 : List KV} {post' : Int → KM → Prop} (hd : decode cc pc = .ok (.invokestatic idx, 3)) (V : kCs own idx y cd mL rt' n) (hM : kMet l w y cd mL rt' kd' h' as M post')
    (hst0 : as.reverse ++ st = st0) (hn : as.length = n) (hc : (st.map kCat).sum ≤ 8) (hh : h' < h ∧ mL ≤ 40)
    (kk : ∀ (z : Int) (M' : KM), post' z M' → kG p l e h s m args below meth c w nL kd post (pc + 3) (ls) (kPush kd' z st) (M')) : kG p l e h s m args below meth c w nL kd post (pc) (ls) (st0) (M) := by
  intro hR hst hls lsA H locs hL hP hS
  subst hst0
  have hst1 : ∀ v ∈ as, kVok v := fun v hv => hst v (List.mem_append_left _ (List.mem_reverse.mpr hv))
  have hst3 : ∀ v ∈ st, kVok v := fun v hv => hst v (List.mem_append_right _ hv)
  have hroom : (kRm h').frames + 1 ≤ (kRm h).frames ∧ 8 + (mL + 11) + (kRm h').locals ≤ (kRm h).locals := by
    show h' + 1 ≤ h ∧ 8 + (mL + 11) + 60 * h' ≤ 60 * h
    omega
  refine k_call (va_runS (As := as.map (kTv w)) (rest := st.map (kTv w)) ⟨C.1, C.2.1, C.2.2.1, C.2.2.2.1, C.2.2.2.2.1⟩ hM (va_cwS n C.2.2.2.2.1 V.1 rfl rfl rfl V.2 hroom) ⟨kPc_blind, kPc_at C hR hst1 hP⟩ rfl (by simpa using hn) hL.1 ?_ (lv_room (Nat.le_trans (kCat_sum st) hc)) hd ⟨Nat.le_refl 0, Nat.le_refl 0⟩) hS (fun z M' H1 locs1 hp hR1 hP1 hS1 => ?_)
  · simp [List.map_append, List.map_reverse]
  · rw [← kPush_map]
    exact kk z M' hp hR1 (kPush_ok hst3) hls lsA H1 locs1 hL hP1 hS1
/-- the one static call of a nest mate's private method: Reader.isName out of KindNets -/
theorem g_callSN (C : kCx p s m args meth c w own cc nL rt) {n mL kd' h' : Nat} {cd : ByteArray} {rt' : Option FieldType} {as st0 : List KV} {post' : Int → KM → Prop} (hown : own = "KindNets") (hd : decode cc pc = .ok (.invokestatic 105, 3)) (h1 : Cond.code yX1_isName cd mL rt' ∈ lw_all) (h2 : Cond.static yX1_isName ∈ lw_all) (h3 : Cond.initialized RX1 ∈ lw_all) (hM : kMet l w yX1_isName cd mL rt' kd' h' as M post')
    (hst0 : as.reverse ++ st = st0) (hn : as.length = 1) (hc : (st.map kCat).sum ≤ 8) (hh : h' < h ∧ mL ≤ 40)
    (kk : ∀ (z : Int) (M' : KM), post' z M' → kG p l e h s m args below meth c w nL kd post (pc + 3) (ls) (kPush kd' z st) (M')) : kG p l e h s m args below meth c w nL kd post (pc) (ls) (st0) (M) := by
  intro hR hst hls lsA H locs hL hP hS
  subst hst0
  subst hown
  have hst1 : ∀ v ∈ as, kVok v := fun v hv => hst v (List.mem_append_left _ (List.mem_reverse.mpr hv))
  have hst3 : ∀ v ∈ st, kVok v := fun v hv => hst v (List.mem_append_right _ hv)
  have hroom : (kRm h').frames + 1 ≤ (kRm h).frames ∧ 8 + (mL + 11) + (kRm h').locals ≤ (kRm h).locals := by
    show h' + 1 ≤ h ∧ 8 + (mL + 11) + 60 * h' ≤ 60 * h
    omega
  refine k_call (va_runSN (As := as.map (kTv w)) (rest := st.map (kTv w)) (host := "KindNets") ⟨C.1, C.2.1, C.2.2.1, C.2.2.2.1, C.2.2.2.2.1⟩ hM ⟨va_cnB 1 C.2.2.2.2.1 (lw_meth h1) rfl rfl rfl C.2.2.2.2.2.2.1.2 (C.2.2.2.2.1 _ h3) ⟨by decide +kernel, by decide +kernel, by decide +kernel⟩ hroom, C.2.2.2.2.1 _ h2, trivial⟩ ⟨kPc_blind, kPc_at C hR hst1 hP⟩ rfl (by simpa using hn) hL.1 ?_ (lv_room (Nat.le_trans (kCat_sum st) hc)) hd ⟨Nat.le_refl 0, Nat.le_refl 0⟩) hS (fun z M' H1 locs1 hp hR1 hP1 hS1 => ?_)
  · simp [List.map_append, List.map_reverse]
  · rw [← kPush_map]
    exact kk z M' hp hR1 (kPush_ok hst3) hls lsA H1 locs1 hL hP1 hS1
theorem g_callVv (C : kCx p s m args meth c w own cc nL rt) {idx n t mL h' : Nat} {y : MethodName} {cd : ByteArray} {rt' : Option FieldType} {i : Int} {as st0 : List KV} {post' : Int → KM → Prop} (hd : decode cc pc = .ok (.invokevirtual idx, 3)) (V : kCv own idx y cd mL rt' n) (hM : kMet l w y cd mL rt' 0 h' (vR t i :: as) M post')
    (ht : kSk t = 0 ∧ (kCl[kCi t]?).map (fun q => q.1) = some y.cls) (hst0 : as.reverse ++ vR t i :: st = st0) (hn : as.length = n) (hc : (st.map kCat).sum ≤ 8) (hh : h' < h ∧ mL ≤ 40)
    (kk : ∀ (z : Int) (M' : KM), post' z M' → kG p l e h s m args below meth c w nL kd post (pc + 3) (ls) (st) (M')) : kG p l e h s m args below meth c w nL kd post (pc) (ls) (st0) (M) := g_callV C hd V hM ht hst0 hn hc hh kk
theorem g_callSv (C : kCx p s m args meth c w own cc nL rt) {idx n mL h' : Nat} {y : MethodName} {cd : ByteArray} {rt' : Option FieldType} {as st0 : List KV} {post' : Int → KM → Prop} (hd : decode cc pc = .ok (.invokestatic idx, 3)) (V : kCs own idx y cd mL rt' n) (hM : kMet l w y cd mL rt' 0 h' as M post')
    (hst0 : as.reverse ++ st = st0) (hn : as.length = n) (hc : (st.map kCat).sum ≤ 8) (hh : h' < h ∧ mL ≤ 40)
    (kk : ∀ (z : Int) (M' : KM), post' z M' → kG p l e h s m args below meth c w nL kd post (pc + 3) (ls) (st) (M')) : kG p l e h s m args below meth c w nL kd post (pc) (ls) (st0) (M) := g_callS C hd V hM hst0 hn hc hh kk
theorem g_callVi (C : kCx p s m args meth c w own cc nL rt) {idx n t mL h' : Nat} {y : MethodName} {cd : ByteArray} {rt' : Option FieldType} {i : Int} {as st0 : List KV} {post' : Int → KM → Prop} (hd : decode cc pc = .ok (.invokevirtual idx, 3)) (V : kCv own idx y cd mL rt' n) (hM : kMet l w y cd mL rt' 1 h' (vR t i :: as) M post')
    (ht : kSk t = 0 ∧ (kCl[kCi t]?).map (fun q => q.1) = some y.cls) (hst0 : as.reverse ++ vR t i :: st = st0) (hn : as.length = n) (hc : (st.map kCat).sum ≤ 8) (hh : h' < h ∧ mL ≤ 40)
    (kk : ∀ (z : Int) (M' : KM), post' z M' → kG p l e h s m args below meth c w nL kd post (pc + 3) (ls) (vI z :: st) (M')) : kG p l e h s m args below meth c w nL kd post (pc) (ls) (st0) (M) := g_callV C hd V hM ht hst0 hn hc hh kk
theorem g_callSi (C : kCx p s m args meth c w own cc nL rt) {idx n mL h' : Nat} {y : MethodName} {cd : ByteArray} {rt' : Option FieldType} {as st0 : List KV} {post' : Int → KM → Prop} (hd : decode cc pc = .ok (.invokestatic idx, 3)) (V : kCs own idx y cd mL rt' n) (hM : kMet l w y cd mL rt' 1 h' as M post')
    (hst0 : as.reverse ++ st = st0) (hn : as.length = n) (hc : (st.map kCat).sum ≤ 8) (hh : h' < h ∧ mL ≤ 40)
    (kk : ∀ (z : Int) (M' : KM), post' z M' → kG p l e h s m args below meth c w nL kd post (pc + 3) (ls) (vI z :: st) (M')) : kG p l e h s m args below meth c w nL kd post (pc) (ls) (st0) (M) := g_callS C hd V hM hst0 hn hc hh kk
theorem g_callVl (C : kCx p s m args meth c w own cc nL rt) {idx n t mL h' : Nat} {y : MethodName} {cd : ByteArray} {rt' : Option FieldType} {i : Int} {as st0 : List KV} {post' : Int → KM → Prop} (hd : decode cc pc = .ok (.invokevirtual idx, 3)) (V : kCv own idx y cd mL rt' n) (hM : kMet l w y cd mL rt' 2 h' (vR t i :: as) M post')
    (ht : kSk t = 0 ∧ (kCl[kCi t]?).map (fun q => q.1) = some y.cls) (hst0 : as.reverse ++ vR t i :: st = st0) (hn : as.length = n) (hc : (st.map kCat).sum ≤ 8) (hh : h' < h ∧ mL ≤ 40)
    (kk : ∀ (z : Int) (M' : KM), post' z M' → kG p l e h s m args below meth c w nL kd post (pc + 3) (ls) (vL z :: st) (M')) : kG p l e h s m args below meth c w nL kd post (pc) (ls) (st0) (M) := g_callV C hd V hM ht hst0 hn hc hh kk
theorem g_callSl (C : kCx p s m args meth c w own cc nL rt) {idx n mL h' : Nat} {y : MethodName} {cd : ByteArray} {rt' : Option FieldType} {as st0 : List KV} {post' : Int → KM → Prop} (hd : decode cc pc = .ok (.invokestatic idx, 3)) (V : kCs own idx y cd mL rt' n) (hM : kMet l w y cd mL rt' 2 h' as M post')
    (hst0 : as.reverse ++ st = st0) (hn : as.length = n) (hc : (st.map kCat).sum ≤ 8) (hh : h' < h ∧ mL ≤ 40)
    (kk : ∀ (z : Int) (M' : KM), post' z M' → kG p l e h s m args below meth c w nL kd post (pc + 3) (ls) (vL z :: st) (M')) : kG p l e h s m args below meth c w nL kd post (pc) (ls) (st0) (M) := g_callS C hd V hM hst0 hn hc hh kk
theorem g_callSNi (C : kCx p s m args meth c w own cc nL rt) {n mL h' : Nat} {cd : ByteArray} {rt' : Option FieldType} {as st0 : List KV} {post' : Int → KM → Prop} (hown : own = "KindNets") (hd : decode cc pc = .ok (.invokestatic 105, 3)) (h1 : Cond.code yX1_isName cd mL rt' ∈ lw_all) (h2 : Cond.static yX1_isName ∈ lw_all) (h3 : Cond.initialized RX1 ∈ lw_all) (hM : kMet l w yX1_isName cd mL rt' 1 h' as M post')
    (hst0 : as.reverse ++ st = st0) (hn : as.length = 1) (hc : (st.map kCat).sum ≤ 8) (hh : h' < h ∧ mL ≤ 40)
    (kk : ∀ (z : Int) (M' : KM), post' z M' → kG p l e h s m args below meth c w nL kd post (pc + 3) (ls) (vI z :: st) (M')) : kG p l e h s m args below meth c w nL kd post (pc) (ls) (st0) (M) := g_callSN (n := n) C hown hd h1 h2 h3 hM hst0 hn hc hh kk
end KCALL
theorem kK0 : kCls 0 RX0 TX0 18 tyX0 := ⟨rfl, rfl, in_X0, tyX0_ok, nmX0⟩
theorem kK1 : kCls 1 RX1 TX1 8 tyX1 := ⟨rfl, rfl, in_X1, tyX1_ok, nmX1⟩
theorem kK2 : kCls 2 RX2 TX2 2 tyX2 := ⟨rfl, rfl, in_X2, tyX2_ok, nmX2⟩
theorem kK3 : kCls 3 RX3 TX3 6 tyX3 := ⟨rfl, rfl, in_X3, tyX3_ok, nmX3⟩
theorem kK4 : kCls 4 RX4 TX4 34 tyX4 := ⟨rfl, rfl, in_X4, tyX4_ok, nmX4⟩
