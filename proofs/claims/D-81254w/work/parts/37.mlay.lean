/-! KindNetsModel: lay -/
set_option maxRecDepth 100000
def kNr (v : Int) : Int := if v = 100000 then -6 else v
def kDF (M : KM) : Int → Int → Int := fun i k => kNr (M 42 0 (60 * i + k))
theorem kNr_ne {v : Int} (h : v ≠ 100000) : kNr v = v := if_neg h
theorem kNr_far : kNr 100000 = -6 := rfl
theorem kUp_60 {M : KM} {t : Nat} {a b v i k n : Int} (hn : n ≤ 60) (hb : 0 ≤ b ∧ b < n) (hk : 0 ≤ k ∧ k < n) : kUp M t 0 (60 * a + b) v t 0 (60 * i + k) = if i = a ∧ k = b then v else M t 0 (60 * i + k) := by
  unfold kUp
  by_cases q : i = a ∧ k = b
  · rw [if_pos ⟨rfl, rfl, by omega⟩, if_pos q]
  · rw [if_neg (by omega), if_neg q]
theorem kRA_not2 {N : KN} {r i k : Int} (hr : 0 ≤ r) (h : kRA N r i k (-6)) (hn : ∀ c, 0 ≤ c → c < 11 → (kStep N i k c).1 ≠ -6 → ∃ v, v ≠ r ∧ (kRA N r (kStep N i k c).1 (kStep N i k c).2 v ∨ kRA N (r + 1) (kStep N i k c).1 (kStep N i k c).2 v)) : kRA N (r + 1) i k (-6) := by
  refine kRA_not hr h (fun c c1 c2 c3 hf => ?_)
  obtain ⟨v, v1, v2⟩ := hn c c1 c2 c3
  have hv := (kRA_iff hr v2).mpr hf
  have hfv : kFell N v.toNat (kStep N i k c).1 (kStep N i k c).2 := by
    rcases v2 with (⟨e, -⟩ | ⟨-, a, -⟩) | (⟨e, -⟩ | ⟨-, a, -⟩)
    · omega
    · exact a
    · omega
    · exact a
  rcases h with ⟨-, a⟩ | ⟨p, -⟩
  · exact a (kFell_mono (show v.toNat + 1 ≤ r.toNat by omega) (Or.inr ⟨c, c1, c2, c3, hfv⟩))
  · omega
/-- what lay leaves -/
def kLL (M M' : KM) : Prop := (∀ t, t ≠ 41 → t ≠ 42 → t ≠ 30 → M' t = M t) ∧ (∀ i k, k ≠ 15 → M' 30 i k = M 30 i k) ∧ M' 30 0 15 = 1 ∧ (∀ i k, kIn2 (kMnet M) i k → kFN (kMnet M) i k (kDF M' i k) ∧ (M' 42 0 (60 * i + k) = 100000 ∨ (0 ≤ M' 42 0 (60 * i + k) ∧ M' 42 0 (60 * i + k) ≤ 3601)) ∧ M' 41 0 (60 * i + k) = if M' 42 0 (60 * i + k) = 100000 then 1 else 0)
/-- what isLaid says -/
def kLd2 (M : KM) : Prop := M 30 0 15 = 0 ∨ (M 30 0 15 = 1 ∧ ∀ i k, kIn2 (kMnet M) i k → kFN (kMnet M) i k (kDF M i k) ∧ (M 42 0 (60 * i + k) = 100000 ∨ (0 ≤ M 42 0 (60 * i + k) ∧ M 42 0 (60 * i + k) ≤ 3601)) ∧ M 41 0 (60 * i + k) = if M 42 0 (60 * i + k) = 100000 then 1 else 0)
theorem kLL.net {M M' : KM} (h : kLL M M') : kMnet M' = kMnet M := kMnet_eq (h.1 32 (by decide) (by decide) (by decide)) (h.1 33 (by decide) (by decide) (by decide)) (h.2.1 0 2 (by decide))
theorem kLL.many {M M' : KM} (h : kLL M M') : M' 30 0 2 = M 30 0 2 := h.2.1 0 2 (by decide)
theorem kLL.ld {M M' : KM} (h : kLL M M') : kLd2 M' := Or.inr ⟨h.2.2.1, by rw [h.net]; exact h.2.2.2⟩
section
variable {l : Launch} {w : KL} {h : Nat} {post : Int → KM → Prop}
theorem m_X4_lay (hh : 3 ≤ h) (hI : kInj w) (M : KM) (hN : kWF (kMnet M)) (hK : kLd2 M) (hp : ∀ z M', kLL M M' → post z M') : kMet l w yX4_lay cX4_lay 8 none 0 h [vR 30 0] M post := by
  obtain ⟨hn, -, -, -, -⟩ := kMwf hN
  have h7 : M 30 0 15 ≠ 0 → kLL M M := by
    intro hne
    rcases hK with q | ⟨q, hF⟩
    · exact absurd q hne
    · exact ⟨fun _ _ _ _ => rfl, fun _ _ _ => rfl, q, hF⟩
  clear hK
  obtain ⟨B, eB⟩ : ∃ B, B = kUp M 30 0 15 1 := ⟨_, rfl⟩
  have eBt : ∀ t, t ≠ 30 → B t = M t := fun t ht => by rw [eB, kUp_t ht]
  have eBk : ∀ i k, k ≠ 15 → B 30 i k = M 30 i k := fun i k hk => by rw [eB, kUp_nk hk]
  have eB1 : B 30 0 15 = 1 := by rw [eB, kUp_eq]
  have eBn : B 30 0 2 = M 30 0 2 := eBk 0 2 (by decide)
  have eBN : kMnet B = kMnet M := kMnet_eq (eBt 32 (by decide)) (eBt 33 (by decide)) eBn
  -- what the loops keep: all but 41, 42 as in B
  have NET : ∀ M1 : KM, (∀ t, t ≠ 41 → t ≠ 42 → M1 t = B t) → M1 30 0 2 = M 30 0 2 ∧ kMnet M1 = kMnet M := by
    intro M1 hs
    have e : M1 30 0 2 = M 30 0 2 := by rw [hs 30 (by decide) (by decide), eBn]
    refine ⟨e, ?_⟩
    rw [← eBN]
    exact kMnet_eq (hs 32 (by decide) (by decide)) (hs 33 (by decide) (by decide)) (by rw [e, eBn])
  have OK : ∀ i k, kIn2 (kMnet M) i k → ¬ kUnl (kMnet M) i k → M 32 0 i = 33 ∨ M 32 0 k = 46 ∨ M 32 0 i = M 32 0 k := by
    intro i k hik hu
    rw [kMunl hik.1 hik.2] at hu
    by_cases q1 : M 32 0 i = 33
    · exact Or.inl q1
    · by_cases q2 : M 32 0 k = 46
      · exact Or.inr (Or.inl q2)
      · by_cases q3 : M 32 0 i = M 32 0 k
        · exact Or.inr (Or.inr q3)
        · exact absurd ⟨⟨q1, q2⟩, Or.inl q3⟩ hu
  refine kMet_of [vR 30 0, vN, vN, vN, vN, vN, vN, vN] (by decide) hI rfl rfl (Nat.le_of_ble_eq_true rfl) ?_
  intro p e s m args below meth c C hVok
  -- the table of who may
  have S0 : ∀ M0 : KM, (∀ t, t ≠ 41 → t ≠ 42 → M0 t = B t) → (∀ i k, kIn2 (kMnet M) i k → kFN (kMnet M) i k (kDF M0 i k)) → (∀ i k, kIn2 (kMnet M) i k → M0 42 0 (60 * i + k) = 100000 ∨ (0 ≤ M0 42 0 (60 * i + k) ∧ M0 42 0 (60 * i + k) ≤ 3601)) →
      ∀ (n2 : Nat) (a mr : Int) (x3 x4 x5 x6 x7 : KV) (M1 : KM), 0 ≤ a → a ≤ M 30 0 2 → M 30 0 2 + 1 ≤ a + n2 → (∀ t, t ≠ 41 → M1 t = M0 t) → (∀ i k, kIn2 (kMnet M) i k → i < a → M1 41 0 (60 * i + k) = if M0 42 0 (60 * i + k) = 100000 then 1 else 0) → kG p l e h s m args below meth c w 8 0 post 220 [vR 30 0, vI mr, vI a, x3, x4, x5, x6, x7] [] (M1) := by
    intro M0 hs0 hF hG n2
    obtain ⟨hm0, eN0⟩ := NET M0 hs0
    induction n2 with
    | zero => intro a mr x3 x4 x5 x6 x7 M1 h1 h2 h3; omega
    | succ n2 ih =>
      intro a mr x3 x4 x5 x6 x7 M1 ha1 ha2 ha3 hs hA
      have inner : ∀ (n3 : Nat) (b : Int) (M2 : KM), a < M 30 0 2 → 0 ≤ b → b ≤ M 30 0 2 → M 30 0 2 + 1 ≤ b + n3 → (∀ t, t ≠ 41 → M2 t = M0 t) → (∀ i k, kIn2 (kMnet M) i k → (i < a ∨ (i = a ∧ k < b)) → M2 41 0 (60 * i + k) = if M0 42 0 (60 * i + k) = 100000 then 1 else 0) → kG p l e h s m args below meth c w 8 0 post 230 [vR 30 0, vI mr, vI a, vI b, x4, x5, x6, x7] [] (M2) := by
        intro n3
        induction n3 with
        | zero => intro b M2 h0 h1 h2 h3; omega
        | succ n3 ih3 =>
          intro b M2 hab hb1 hb2 hb3 hs2 hA2
          have hm2 : M2 30 0 2 = M 30 0 2 := by rw [hs2 30 (by decide), hm0]
          have e42 : M2 42 0 (60 * a + b) = M0 42 0 (60 * a + b) := by rw [hs2 42 (by decide)]
          have nxt : ∀ v, b < M 30 0 2 → v = (if M0 42 0 (60 * a + b) = 100000 then 1 else 0) → ∀ i k, kIn2 (kMnet M) i k → (i < a ∨ (i = a ∧ k < b + 1)) → kUp M2 41 0 (60 * a + b) v 41 0 (60 * i + k) = if M0 42 0 (60 * i + k) = 100000 then 1 else 0 := by
            intro v hb4 hv i k hik hb
            rw [kUp_60 hn.2 ⟨hb1, hb4⟩ hik.2]
            by_cases q : i = a ∧ k = b
            · obtain ⟨rfl, rfl⟩ := q
              rw [if_pos ⟨rfl, rfl⟩, hv]
            · rw [if_neg q]
              exact hA2 i k hik (by omega)
          refine g_iload_n C dX4_lay_230 rfl ?_
          refine g_aload_n C dX4_lay_231 rfl ?_
          refine g_getI C 2 dX4_lay_232 f_X4_116 ⟨rfl, rfl⟩ rfl rfl (fun r_232 => ?_)
          refine g_ic_ge C 276 dX4_lay_235 (by decide) (by omega) (fun c_235 => ?_) (fun c_235 => ?_)
          · refine g_inc_2 C dX4_lay_276 (by decide) rfl ?_
            refine g_goto C 220 dX4_lay_279 (by decide) ?_
            refine ih (a + 1) mr _ _ _ _ _ M2 (by omega) (by omega) (by omega) hs2 (fun i k hik hia => hA2 i k hik ?_)
            have := hik.2.2
            rw [kMnet_n] at this
            omega
          · refine g_aload_n C dX4_lay_238 rfl ?_
            refine g_getR C 41 dX4_lay_239 f_X4_40 ⟨rfl, rfl⟩ rfl (by decide) ?_
            refine g_bipush C dX4_lay_242 (by decide) ?_
            refine g_iload_n C dX4_lay_244 rfl ?_
            refine g_imul C dX4_lay_245 ?_
            refine g_iload_n C dX4_lay_246 rfl ?_
            refine g_iadd C dX4_lay_247 ?_
            refine g_aload_n C dX4_lay_248 rfl ?_
            refine g_getR C 42 dX4_lay_249 f_X4_44 ⟨rfl, rfl⟩ rfl (by decide) ?_
            refine g_bipush C dX4_lay_252 (by decide) ?_
            refine g_iload_n C dX4_lay_254 rfl ?_
            refine g_imul C dX4_lay_255 ?_
            refine g_iload_n C dX4_lay_256 rfl ?_
            refine g_iadd C dX4_lay_257 ?_
            refine g_iald C 3600 dX4_lay_258 ⟨rfl, rfl⟩ rfl (by omega) (fun r_258 => ?_)
            refine g_ldc C (100000) q683 dX4_lay_259 (by decide) ?_
            refine g_ic_ne C 268 dX4_lay_261 (by decide) (by omega) (fun c_261 => ?_) (fun c_261 => ?_)
            · refine g_iconst C dX4_lay_268 ?_
              refine g_zast C 3600 dX4_lay_269 ⟨rfl, rfl⟩ rfl (by omega) (by omega) ?_
              refine g_inc_3 C dX4_lay_270 (by decide) rfl ?_
              refine g_goto C 230 dX4_lay_273 (by decide) ?_
              first
              | exact ih3 (b + 1) _ hab (by omega) (by omega) (by omega) (fun t ht => by rw [kUp_t ht]; exact hs2 t ht) (nxt 0 (by omega) (by rw [← e42, if_neg (by assumption)]))
              | exact ih3 (b + 1) _ hab (by omega) (by omega) (by omega) (fun t ht => by rw [kUp_t ht]; exact hs2 t ht) (nxt 1 (by omega) (by rw [← e42, if_pos (by assumption)]))
            · refine g_iconst C dX4_lay_264 ?_
              refine g_goto C 269 dX4_lay_265 (by decide) ?_
              refine g_zast C 3600 dX4_lay_269 ⟨rfl, rfl⟩ rfl (by omega) (by omega) ?_
              refine g_inc_3 C dX4_lay_270 (by decide) rfl ?_
              refine g_goto C 230 dX4_lay_273 (by decide) ?_
              first
              | exact ih3 (b + 1) _ hab (by omega) (by omega) (by omega) (fun t ht => by rw [kUp_t ht]; exact hs2 t ht) (nxt 0 (by omega) (by rw [← e42, if_neg (by assumption)]))
              | exact ih3 (b + 1) _ hab (by omega) (by omega) (by omega) (fun t ht => by rw [kUp_t ht]; exact hs2 t ht) (nxt 1 (by omega) (by rw [← e42, if_pos (by assumption)]))
      have hm1 : M1 30 0 2 = M 30 0 2 := by rw [hs 30 (by decide), hm0]
      refine g_iload_n C dX4_lay_220 rfl ?_
      refine g_aload_n C dX4_lay_221 rfl ?_
      refine g_getI C 2 dX4_lay_222 f_X4_116 ⟨rfl, rfl⟩ rfl rfl (fun r_222 => ?_)
      refine g_ic_ge C 282 dX4_lay_225 (by decide) (by omega) (fun c_225 => ?_) (fun c_225 => ?_)
      · have fin : ∀ i k, kIn2 (kMnet M) i k → kFN (kMnet M) i k (kDF M1 i k) ∧ (M1 42 0 (60 * i + k) = 100000 ∨ (0 ≤ M1 42 0 (60 * i + k) ∧ M1 42 0 (60 * i + k) ≤ 3601)) ∧ M1 41 0 (60 * i + k) = if M1 42 0 (60 * i + k) = 100000 then 1 else 0 := by
          intro i k hik
          have e9 : M1 42 = M0 42 := hs 42 (by decide)
          refine ⟨by simp only [kDF, e9]; exact hF i k hik, by rw [e9]; exact hG i k hik, ?_⟩
          rw [e9]
          refine hA i k hik ?_
          have := hik.1.2
          rw [kMnet_n] at this
          omega
        exact g_vret C dX4_lay_282 (hp _ _ ⟨fun t h1 h2 h3 => by rw [hs t h1, hs0 t h1 h2, eBt t h3], fun i k h1 => by rw [hs 30 (by decide), hs0 30 (by decide) (by decide), eBk i k h1], by rw [hs 30 (by decide), hs0 30 (by decide) (by decide), eB1], fin⟩)
      · refine g_iconst C dX4_lay_228 ?_
        refine g_istn_3 C dX4_lay_229 (by decide) rfl ?_
        exact inner ((M 30 0 2).toNat + 1) 0 M1 (by omega) (by omega) (by omega) (by omega) hs (fun i k hik hb => hA i k hik (by have := hik.2.1; omega))
  have X : ∀ (r : Int) (x3 x4 x5 x6 x7 : KV) (M1 : KM), (∀ t, t ≠ 41 → t ≠ 42 → M1 t = B t) → (∀ i k, kIn2 (kMnet M) i k → kFN (kMnet M) i k (kDF M1 i k)) → (∀ i k, kIn2 (kMnet M) i k → M1 42 0 (60 * i + k) = 100000 ∨ (0 ≤ M1 42 0 (60 * i + k) ∧ M1 42 0 (60 * i + k) ≤ 3601)) → kG p l e h s m args below meth c w 8 0 post 75 [vR 30 0, vI 0, vI r, x3, x4, x5, x6, x7] [] (M1) := by
    intro r x3 x4 x5 x6 x7 M1 hs hF hG
    refine g_iload_n C dX4_lay_75 rfl ?_
    refine g_if_eq C 218 dX4_lay_76 (by decide) (by omega) (fun c_76 => ?_) (fun c_76 => ?_)
    · refine g_iconst C dX4_lay_218 ?_
      refine g_istn_2 C dX4_lay_219 (by decide) rfl ?_
      exact S0 M1 hs hF hG ((M 30 0 2).toNat + 1) 0 0 _ _ _ _ _ M1 (by omega) (by omega) (by omega) (fun _ _ => rfl) (fun i k hik hi => by have := hik.1.1; omega)
    · omega
  -- the rounds
  have L2 : ∀ (n : Nat) (q : Int) (x3 x4 x5 x6 x7 : KV) (M0 : KM), 0 ≤ q → q + kMu (kDF M0) (M 30 0 2) ≤ 3600 → kMu (kDF M0) (M 30 0 2) < n → (∀ t, t ≠ 41 → t ≠ 42 → M0 t = B t) → (∀ i k, kIn2 (kMnet M) i k → kRA (kMnet M) q i k (kDF M0 i k)) → (∀ i k, kIn2 (kMnet M) i k → M0 42 0 (60 * i + k) = 100000 ∨ (0 ≤ M0 42 0 (60 * i + k) ∧ M0 42 0 (60 * i + k) ≤ 3601)) → kG p l e h s m args below meth c w 8 0 post 75 [vR 30 0, vI 1, vI (q + 1), x3, x4, x5, x6, x7] [] (M0) := by
    intro n
    induction n with
    | zero =>
      intro q x3 x4 x5 x6 x7 M0 h1 h2 h3
      have := kMu_pos (kDF M0) (M 30 0 2)
      omega
    | succ n ihr =>
      intro q x3 x4 x5 x6 x7 M0 hq0 hq1 hq2 hs0 h0 hG0
      have hmu := kMu_pos (kDF M0) (M 30 0 2)
      have R1 : ∀ (n2 : Nat) (a mr : Int) (x4 x5 x6 x7 : KV) (M1 : KM), 0 ≤ a → a ≤ M 30 0 2 → M 30 0 2 + 1 ≤ a + n2 → (∀ t, t ≠ 41 → t ≠ 42 → M1 t = B t) → kSW (kMnet M) q (kDF M0) (kDF M1) a 0 mr → (∀ i k, kIn2 (kMnet M) i k → M1 42 0 (60 * i + k) = 100000 ∨ (0 ≤ M1 42 0 (60 * i + k) ∧ M1 42 0 (60 * i + k) ≤ 3601)) → kG p l e h s m args below meth c w 8 0 post 83 [vR 30 0, vI mr, vI (q + 1), vI a, x4, x5, x6, x7] [] (M1) := by
        intro n2
        induction n2 with
        | zero => intro a mr x4 x5 x6 x7 M1 h1 h2 h3; omega
        | succ n2 ih =>
          intro a mr x4 x5 x6 x7 M1 ha1 ha2 ha3 hs hW hG
          have inner : ∀ (n3 : Nat) (b mr : Int) (x5 x6 x7 : KV) (M2 : KM), a < M 30 0 2 → 0 ≤ b → b ≤ M 30 0 2 → M 30 0 2 + 1 ≤ b + n3 → (∀ t, t ≠ 41 → t ≠ 42 → M2 t = B t) → kSW (kMnet M) q (kDF M0) (kDF M2) a b mr → (∀ i k, kIn2 (kMnet M) i k → M2 42 0 (60 * i + k) = 100000 ∨ (0 ≤ M2 42 0 (60 * i + k) ∧ M2 42 0 (60 * i + k) ≤ 3601)) → kG p l e h s m args below meth c w 8 0 post 94 [vR 30 0, vI mr, vI (q + 1), vI a, vI b, x5, x6, x7] [] (M2) := by
            intro n3
            induction n3 with
            | zero => intro b mr x5 x6 x7 M2 h0 h1 h2 h3; omega
            | succ n3 ih3 =>
              intro b mr x5 x6 x7 M2 hab hb1 hb2 hb3 hs2 hW2 hG2
              obtain ⟨hm2, eN⟩ := NET M2 hs2
              have hN2 : kWF (kMnet M2) := by rw [eN]; exact hN
              have e32 : M2 32 = M 32 := by rw [hs2 32 (by decide) (by decide), eBt 32 (by decide)]
              -- behind the steps: nothing was found
              have D0 : b < M 30 0 2 → kRA (kMnet M) (q + 1) a b (kDF M2 a b) → ∀ x6 x7 : KV, kG p l e h s m args below meth c w 8 0 post 180 [vR 30 0, vI mr, vI (q + 1), vI a, vI b, vI 0, x6, x7] [] (M2) := by
                intro hb4 hra x6 x7
                refine g_iload C dX4_lay_180 rfl ?_
                refine g_if_eq C 200 dX4_lay_182 (by decide) (by omega) (fun c_182 => ?_) (fun c_182 => ?_)
                · refine g_inc_4 C dX4_lay_200 (by decide) rfl ?_
                  refine g_goto C 94 dX4_lay_203 (by decide) ?_
                  exact ih3 (b + 1) mr _ _ _ M2 hab (by omega) (by omega) (by omega) hs2 (kSW_skip hW2 (fun _ => hra)) hG2
                · omega
              have D1 : b < M 30 0 2 → M2 42 0 (60 * a + b) = 100000 → kRA (kMnet M) (q + 1) a b (q + 1) → ∀ x6 x7 : KV, kG p l e h s m args below meth c w 8 0 post 180 [vR 30 0, vI mr, vI (q + 1), vI a, vI b, vI 1, x6, x7] [] (M2) := by
                intro hb4 hfar hra x6 x7
                have hik : kIn2 (kMnet M) a b := ⟨⟨ha1, hab⟩, hb1, hb4⟩
                refine g_iload C dX4_lay_180 rfl ?_
                refine g_if_eq C 200 dX4_lay_182 (by decide) (by omega) (fun c_182 => ?_) (fun c_182 => ?_)
                · omega
                · refine g_aload_n C dX4_lay_185 rfl ?_
                  refine g_getR C 42 dX4_lay_186 f_X4_44 ⟨rfl, rfl⟩ rfl (by decide) ?_
                  refine g_bipush C dX4_lay_189 (by decide) ?_
                  refine g_iload_n C dX4_lay_191 rfl ?_
                  refine g_imul C dX4_lay_192 ?_
                  refine g_iload C dX4_lay_193 rfl ?_
                  refine g_iadd C dX4_lay_195 ?_
                  refine g_iload_n C dX4_lay_196 rfl ?_
                  refine g_iast C 3600 dX4_lay_197 ⟨rfl, rfl⟩ rfl (by omega) (by omega) ?_
                  refine g_iconst C dX4_lay_198 ?_
                  refine g_istn_1 C dX4_lay_199 (by decide) rfl ?_
                  refine g_inc_4 C dX4_lay_200 (by decide) rfl ?_
                  refine g_goto C 94 dX4_lay_203 (by decide) ?_
                  refine ih3 (b + 1) 1 _ _ _ _ hab (by omega) (by omega) (by omega) (fun t h1 h2 => by rw [kUp_t h2]; exact hs2 t h1 h2) (kSW_set hq0 hW2 hik (by simp only [kDF, hfar]; rfl) hra (fun i k hik2 => ?_)) (fun i k hik2 => ?_)
                  · simp only [kDF]
                    rw [kUp_60 hn.2 ⟨hb1, hb4⟩ hik2.2]
                    by_cases q9 : i = a ∧ k = b
                    · rw [if_pos q9, if_pos q9, kNr_ne (by omega)]
                    · rw [if_neg q9, if_neg q9]
                  · rw [kUp_60 hn.2 ⟨hb1, hb4⟩ hik2.2]
                    by_cases q9 : i = a ∧ k = b
                    · rw [if_pos q9]; right; omega
                    · rw [if_neg q9]; exact hG2 i k hik2
              have F1 : b < M 30 0 2 → M2 42 0 (60 * a + b) = 100000 → kRA (kMnet M) (q + 1) a b (q + 1) → ∀ (c1 : Int) (x7 : KV), 0 ≤ c1 → c1 ≤ 11 → kG p l e h s m args below meth c w 8 0 post 109 [vR 30 0, vI mr, vI (q + 1), vI a, vI b, vI 1, vI c1, x7] [] (M2) := by
                intro hb4 hfar hra c1 x7 hc1 hc2
                have h60 : 60 * a + b < 3600 := by omega
                refine g_iload C dX4_lay_109 rfl ?_
                refine g_bipush C dX4_lay_111 (by decide) ?_
                refine g_ic_ge C 180 dX4_lay_113 (by decide) (by omega) (fun c_113 => ?_) (fun c_113 => ?_)
                · first
                  | exact D1 hb4 hfar hra _ _
                  | (exfalso; omega)
                · refine g_aload_n C dX4_lay_116 rfl ?_
                  refine g_getR C 42 dX4_lay_117 f_X4_44 ⟨rfl, rfl⟩ rfl (by decide) ?_
                  refine g_bipush C dX4_lay_120 (by decide) ?_
                  refine g_iload_n C dX4_lay_122 rfl ?_
                  refine g_imul C dX4_lay_123 ?_
                  refine g_iload C dX4_lay_124 rfl ?_
                  refine g_iadd C dX4_lay_126 ?_
                  refine g_iald C 3600 dX4_lay_127 ⟨rfl, rfl⟩ rfl (by omega) (fun r_127 => ?_)
                  refine g_ldc C (100000) q683 dX4_lay_128 (by decide) ?_
                  refine g_ic_ne C 180 dX4_lay_130 (by decide) (by omega) (fun c_130 => ?_) (fun c_130 => ?_)
                  · first
                    | exact D1 hb4 hfar hra _ _
                    | (exfalso; omega)
                  · refine g_iload C dX4_lay_133 rfl ?_
                    refine g_if_ne C 180 dX4_lay_135 (by decide) (by omega) (fun c_135 => ?_) (fun c_135 => ?_)
                    · first
                      | exact D1 hb4 hfar hra _ _
                      | (exfalso; omega)
                    · omega
              have F0 : b < M 30 0 2 → M2 42 0 (60 * a + b) ≠ 100000 → ∀ x7 : KV, kG p l e h s m args below meth c w 8 0 post 109 [vR 30 0, vI mr, vI (q + 1), vI a, vI b, vI 0, vI 0, x7] [] (M2) := by
                intro hb4 hfar x7
                have hik : kIn2 (kMnet M) a b := ⟨⟨ha1, hab⟩, hb1, hb4⟩
                have h42 := hG2 a b hik
                have hkeep := kRA_keep (hW2.2.1 a b hik (by omega)) (by simp only [kDF]; rw [kNr_ne hfar]; omega)
                have h60 : 60 * a + b < 3600 := by omega
                refine g_iload C dX4_lay_109 rfl ?_
                refine g_bipush C dX4_lay_111 (by decide) ?_
                refine g_ic_ge C 180 dX4_lay_113 (by decide) (by omega) (fun c_113 => ?_) (fun c_113 => ?_)
                · omega
                · refine g_aload_n C dX4_lay_116 rfl ?_
                  refine g_getR C 42 dX4_lay_117 f_X4_44 ⟨rfl, rfl⟩ rfl (by decide) ?_
                  refine g_bipush C dX4_lay_120 (by decide) ?_
                  refine g_iload_n C dX4_lay_122 rfl ?_
                  refine g_imul C dX4_lay_123 ?_
                  refine g_iload C dX4_lay_124 rfl ?_
                  refine g_iadd C dX4_lay_126 ?_
                  refine g_iald C 3600 dX4_lay_127 ⟨rfl, rfl⟩ rfl (by omega) (fun r_127 => ?_)
                  refine g_ldc C (100000) q683 dX4_lay_128 (by decide) ?_
                  refine g_ic_ne C 180 dX4_lay_130 (by decide) (by omega) (fun c_130 => ?_) (fun c_130 => ?_)
                  · exact D0 hb4 hkeep _ _
                  · omega
              -- the steps
              have STEP : ∀ (n4 : Nat) (c0 : Int) (x7 : KV), b < M 30 0 2 → M2 42 0 (60 * a + b) = 100000 → 0 ≤ c0 → c0 ≤ 11 → 12 ≤ c0 + n4 → (∀ c, 0 ≤ c → c < c0 → (kStep (kMnet M) a b c).1 ≠ -6 → M2 42 0 (60 * (kStep (kMnet M) a b c).1 + (kStep (kMnet M) a b c).2) ≠ q) → kG p l e h s m args below meth c w 8 0 post 109 [vR 30 0, vI mr, vI (q + 1), vI a, vI b, vI 0, vI c0, x7] [] (M2) := by
                intro n4
                induction n4 with
                | zero => intro c0 x7 h9 h0 h1 h2 h3; omega
                | succ n4 ih4 =>
                  intro c0 x7 hb4 hfar hc1 hc2 hc3 hc4
                  have hik : kIn2 (kMnet M) a b := ⟨⟨ha1, hab⟩, hb1, hb4⟩
                  have h6 : kRA (kMnet M) q a b (-6) := by
                    have := hW2.2.1 a b hik (by omega)
                    simpa only [kDF, hfar, kNr_far] using this
                  have hu : ¬ kUnl (kMnet M) a b := by
                    rcases h6 with ⟨-, z⟩ | ⟨z, -⟩
                    · exact fun z2 => z (kFell_mono (Nat.zero_le _) z2)
                    · omega
                  have hg := OK a b hik hu
                  have none : c0 = 11 → kG p l e h s m args below meth c w 8 0 post 180 [vR 30 0, vI mr, vI (q + 1), vI a, vI b, vI 0, vI c0, x7] [] (M2) := by
                    intro e11
                    refine D0 hb4 ?_ _ _
                    simp only [kDF, hfar]
                    refine kRA_not2 hq0 h6 (fun c c1 c2 c3 => ?_)
                    have hst : kIn2 (kMnet M) (kStep (kMnet M) a b c).1 (kStep (kMnet M) a b c).2 := by
                      rcases kStep_in hN hik ⟨c1, c2⟩ with z | z
                      · rw [z] at c3; exact absurd rfl c3
                      · exact z.2
                    have hne := hc4 c c1 (by omega) c3
                    refine ⟨_, ?_, kSW_any hW2 hst⟩
                    simp only [kDF]
                    by_cases q9 : M2 42 0 (60 * (kStep (kMnet M) a b c).1 + (kStep (kMnet M) a b c).2) = 100000
                    · rw [q9, kNr_far]; omega
                    · rw [kNr_ne q9]; exact hne
                  have nxt : c0 < 11 → ((kStep (kMnet M) a b c0).1 ≠ -6 → M2 42 0 (60 * (kStep (kMnet M) a b c0).1 + (kStep (kMnet M) a b c0).2) ≠ q) → ∀ x7 : KV, kG p l e h s m args below meth c w 8 0 post 109 [vR 30 0, vI mr, vI (q + 1), vI a, vI b, vI 0, vI (c0 + 1), x7] [] (M2) := by
                    intro hlt hne x7
                    refine ih4 (c0 + 1) x7 hb4 hfar (by omega) (by omega) (by omega) (fun c c1 c2 c3 => ?_)
                    by_cases q9 : c = c0
                    · subst q9; exact hne c3
                    · exact hc4 c c1 (by omega) c3
                  clear hu
                  have hgf : ∀ u : Unit, M2 32 0 a = 33 ∨ M2 32 0 b = 46 ∨ M2 32 0 a = M2 32 0 b := fun _ => by rw [e32]; exact hg
                  clear hg
                  have h60 : 60 * a + b < 3600 := by omega
                  have fnd : ∀ x y, kStep (kMnet M) a b c0 = (x, y) → (0 ≤ x ∧ x < M2 30 0 2) → (0 ≤ y ∧ y < M2 30 0 2) → M2 42 0 (60 * x + y) = q → kFell (kMnet M) q.toNat (kStep (kMnet M) a b c0).1 (kStep (kMnet M) a b c0).2 := by
                    intro x y e hx hy hq9
                    rw [e]
                    refine (kRA_iff hq0 (kSW_any hW2 (i := x) (k := y) ⟨by rw [kMnet_n]; omega, by rw [kMnet_n]; omega⟩)).mp ?_
                    simp only [kDF]
                    rw [hq9, kNr_ne (by omega)]
                    omega
                  refine g_iload C dX4_lay_109 rfl ?_
                  refine g_bipush C dX4_lay_111 (by decide) ?_
                  refine g_ic_ge C 180 dX4_lay_113 (by decide) (by omega) (fun c_113 => ?_) (fun c_113 => ?_)
                  · first
                    | exact none (by omega)
                    | (exfalso; omega)
                  · refine g_aload_n C dX4_lay_116 rfl ?_
                    refine g_getR C 42 dX4_lay_117 f_X4_44 ⟨rfl, rfl⟩ rfl (by decide) ?_
                    refine g_bipush C dX4_lay_120 (by decide) ?_
                    refine g_iload_n C dX4_lay_122 rfl ?_
                    refine g_imul C dX4_lay_123 ?_
                    refine g_iload C dX4_lay_124 rfl ?_
                    refine g_iadd C dX4_lay_126 ?_
                    refine g_iald C 3600 dX4_lay_127 ⟨rfl, rfl⟩ rfl (by omega) (fun r_127 => ?_)
                    refine g_ldc C (100000) q683 dX4_lay_128 (by decide) ?_
                    refine g_ic_ne C 180 dX4_lay_130 (by decide) (by omega) (fun c_130 => ?_) (fun c_130 => ?_)
                    · first
                      | exact none (by omega)
                      | (exfalso; omega)
                    · refine g_iload C dX4_lay_133 rfl ?_
                      refine g_if_ne C 180 dX4_lay_135 (by decide) (by omega) (fun c_135 => ?_) (fun c_135 => ?_)
                      · first
                        | exact none (by omega)
                        | (exfalso; omega)
                      · refine g_aload_n C dX4_lay_138 rfl ?_
                        refine g_iload_n C dX4_lay_139 rfl ?_
                        refine g_iload C dX4_lay_140 rfl ?_
                        refine g_iload C dX4_lay_142 rfl ?_
                        refine g_callVi C dX4_lay_144 v_X4_138 (m_X4_stepTo (h := 2) (by omega) hI a b c0 M2 hN2 (by omega) (by omega) (by omega) (hgf ()) (fun _ _ q => q)) ⟨rfl, rfl⟩ rfl rfl (Nat.le_of_ble_eq_true rfl) (by omega) ?_
                        rintro z M' ⟨⟨e, rfl⟩ | ⟨x, y, e, hx, hy, rfl⟩, rfl⟩
                        · refine g_ist_7 C dX4_lay_147 (by decide) rfl ?_
                          refine g_iload C dX4_lay_149 rfl ?_
                          refine g_if_lt C 171 dX4_lay_151 (by decide) (by omega) (fun c_151 => ?_) (fun c_151 => ?_)
                          · refine g_iconst C dX4_lay_171 ?_
                            refine g_ist_5 C dX4_lay_172 (by decide) rfl ?_
                            refine g_inc_6 C dX4_lay_174 (by decide) rfl ?_
                            refine g_goto C 109 dX4_lay_177 (by decide) ?_
                            rw [eN] at e
                            exact nxt (by omega) (fun z => by rw [e] at z; exact absurd rfl z) _
                          · omega
                        · refine g_ist_7 C dX4_lay_147 (by decide) rfl ?_
                          refine g_iload C dX4_lay_149 rfl ?_
                          refine g_if_lt C 171 dX4_lay_151 (by decide) (by omega) (fun c_151 => ?_) (fun c_151 => ?_)
                          · omega
                          · refine g_aload_n C dX4_lay_154 rfl ?_
                            refine g_getR C 42 dX4_lay_155 f_X4_44 ⟨rfl, rfl⟩ rfl (by decide) ?_
                            refine g_iload C dX4_lay_158 rfl ?_
                            rw [eN] at e
                            refine g_iald C 3600 dX4_lay_160 ⟨rfl, rfl⟩ rfl (by omega) (fun r_160 => ?_)
                            refine g_iload_n C dX4_lay_161 rfl ?_
                            refine g_iconst C dX4_lay_162 ?_
                            refine g_isub C dX4_lay_163 ?_
                            refine g_ic_ne C 171 dX4_lay_164 (by decide) (by omega) (fun c_164 => ?_) (fun c_164 => ?_)
                            · refine g_iconst C dX4_lay_171 ?_
                              refine g_ist_5 C dX4_lay_172 (by decide) rfl ?_
                              refine g_inc_6 C dX4_lay_174 (by decide) rfl ?_
                              refine g_goto C 109 dX4_lay_177 (by decide) ?_
                              first
                              | exact nxt (by omega) (fun z => by rw [e]; dsimp only; omega) _
                              | exact F1 hb4 hfar (kRA_new hq0 h6 (c := c0) (by omega) (by rw [e]; dsimp only; omega) (fnd x y e hx hy (by omega))) (c0 + 1) _ (by omega) (by omega)
                            · refine g_iconst C dX4_lay_167 ?_
                              refine g_goto C 172 dX4_lay_168 (by decide) ?_
                              refine g_ist_5 C dX4_lay_172 (by decide) rfl ?_
                              refine g_inc_6 C dX4_lay_174 (by decide) rfl ?_
                              refine g_goto C 109 dX4_lay_177 (by decide) ?_
                              first
                              | exact nxt (by omega) (fun z => by rw [e]; dsimp only; omega) _
                              | exact F1 hb4 hfar (kRA_new hq0 h6 (c := c0) (by omega) (by rw [e]; dsimp only; omega) (fnd x y e hx hy (by omega))) (c0 + 1) _ (by omega) (by omega)
              refine g_iload C dX4_lay_94 rfl ?_
              refine g_aload_n C dX4_lay_96 rfl ?_
              refine g_getI C 2 dX4_lay_97 f_X4_116 ⟨rfl, rfl⟩ rfl rfl (fun r_97 => ?_)
              refine g_ic_ge C 206 dX4_lay_100 (by decide) (by omega) (fun c_100 => ?_) (fun c_100 => ?_)
              · refine g_inc_3 C dX4_lay_206 (by decide) rfl ?_
                refine g_goto C 83 dX4_lay_209 (by decide) ?_
                exact ih (a + 1) mr _ _ _ _ M2 (by omega) (by omega) (by omega) hs2 (kSW_row (by rw [kMnet_n, show M 30 0 2 = b by omega]; exact hW2)) hG2
              · refine g_iconst C dX4_lay_103 ?_
                refine g_ist_5 C dX4_lay_104 (by decide) rfl ?_
                refine g_iconst C dX4_lay_106 ?_
                refine g_ist_6 C dX4_lay_107 (by decide) rfl ?_
                by_cases hfar : M2 42 0 (60 * a + b) = 100000
                · exact STEP 12 0 _ (by omega) hfar (by omega) (by omega) (by omega) (fun c c1 c2 => by omega)
                · exact F0 (by omega) hfar _
          obtain ⟨hm1, -⟩ := NET M1 hs
          refine g_iload_n C dX4_lay_83 rfl ?_
          refine g_aload_n C dX4_lay_84 rfl ?_
          refine g_getI C 2 dX4_lay_85 f_X4_116 ⟨rfl, rfl⟩ rfl rfl (fun r_85 => ?_)
          refine g_ic_ge C 212 dX4_lay_88 (by decide) (by omega) (fun c_88 => ?_) (fun c_88 => ?_)
          · refine g_inc_2 C dX4_lay_212 (by decide) rfl ?_
            refine g_goto C 75 dX4_lay_215 (by decide) ?_
            have hE := kSW_end hN hq0 h0 (by rw [kMnet_n, show M 30 0 2 = a by omega]; exact hW)
            rcases hE.2 with ⟨rfl, hF⟩ | ⟨rfl, hlt⟩
            · exact X _ _ _ _ _ _ M1 hs hF hG
            · rw [kMnet_n] at hlt
              exact ihr (q + 1) _ _ _ _ _ M1 (by omega) (by omega) (by omega) hs hE.1 hG
          · refine g_iconst C dX4_lay_91 ?_
            refine g_ist_4 C dX4_lay_92 (by decide) rfl ?_
            exact inner ((M 30 0 2).toNat + 1) 0 mr _ _ _ M1 (by omega) (by omega) (by omega) (by omega) hs hW hG
      refine g_iload_n C dX4_lay_75 rfl ?_
      refine g_if_eq C 218 dX4_lay_76 (by decide) (by omega) (fun c_76 => ?_) (fun c_76 => ?_)
      · omega
      · refine g_iconst C dX4_lay_79 ?_
        refine g_istn_1 C dX4_lay_80 (by decide) rfl ?_
        refine g_iconst C dX4_lay_81 ?_
        refine g_istn_3 C dX4_lay_82 (by decide) rfl ?_
        exact R1 ((M 30 0 2).toNat + 1) 0 0 _ _ _ _ M0 (by omega) (by omega) (by omega) hs0 (kSW_0 h0) hG0
  -- the start
  have R0 : ∀ (n2 : Nat) (a : Int) (x2 : KV) (M1 : KM), 0 ≤ a → a ≤ M 30 0 2 → M 30 0 2 + 1 ≤ a + n2 → (∀ t, t ≠ 41 → t ≠ 42 → M1 t = B t) → kI0 (kMnet M) (kDF M1) a 0 → (∀ i k, kIn2 (kMnet M) i k → i < a → M1 42 0 (60 * i + k) = 100000 ∨ (0 ≤ M1 42 0 (60 * i + k) ∧ M1 42 0 (60 * i + k) ≤ 3601)) → kG p l e h s m args below meth c w 8 0 post 15 [vR 30 0, vI a, x2, vN, vN, vN, vN, vN] [] (M1) := by
    intro n2
    induction n2 with
    | zero => intro a x2 M1 h1 h2 h3; omega
    | succ n2 ih =>
      intro a x2 M1 ha1 ha2 ha3 hs hW hG
      have inner : ∀ (n3 : Nat) (b : Int) (M2 : KM), a < M 30 0 2 → 0 ≤ b → b ≤ M 30 0 2 → M 30 0 2 + 1 ≤ b + n3 → (∀ t, t ≠ 41 → t ≠ 42 → M2 t = B t) → kI0 (kMnet M) (kDF M2) a b → (∀ i k, kIn2 (kMnet M) i k → (i < a ∨ (i = a ∧ k < b)) → M2 42 0 (60 * i + k) = 100000 ∨ (0 ≤ M2 42 0 (60 * i + k) ∧ M2 42 0 (60 * i + k) ≤ 3601)) → kG p l e h s m args below meth c w 8 0 post 25 [vR 30 0, vI a, vI b, vN, vN, vN, vN, vN] [] (M2) := by
        intro n3
        induction n3 with
        | zero => intro b M2 h0 h1 h2 h3; omega
        | succ n3 ih3 =>
          intro b M2 hab hb1 hb2 hb3 hs2 hW2 hG2
          obtain ⟨hm2, eN⟩ := NET M2 hs2
          have nxt : ∀ v, b < M 30 0 2 → (v = 100000 ∨ (0 ≤ v ∧ v ≤ 3601)) → kRA (kMnet M) 0 a b (kNr v) → kG p l e h s m args below meth c w 8 0 post 25 [vR 30 0, vI a, vI (b + 1), vN, vN, vN, vN, vN] [] (kUp M2 42 0 (60 * a + b) v) := by
            intro v hb4 hv hra
            refine ih3 (b + 1) _ hab (by omega) (by omega) (by omega) (fun t h1 h2 => by rw [kUp_t h2]; exact hs2 t h1 h2) (kI0_set hW2 hra (fun i k hik => ?_)) (fun i k hik hb => ?_)
            · simp only [kDF]
              rw [kUp_60 hn.2 ⟨hb1, hb4⟩ hik.2]
              by_cases q9 : i = a ∧ k = b
              · rw [if_pos q9, if_pos q9]
              · rw [if_neg q9, if_neg q9]
            · rw [kUp_60 hn.2 ⟨hb1, hb4⟩ hik.2]
              by_cases q9 : i = a ∧ k = b
              · rw [if_pos q9]; exact hv
              · rw [if_neg q9]; exact hG2 i k hik (by omega)
          have h60 : 60 * a + b ≤ 3600 := by omega
          refine g_iload_n C dX4_lay_25 rfl ?_
          refine g_aload_n C dX4_lay_26 rfl ?_
          refine g_getI C 2 dX4_lay_27 f_X4_116 ⟨rfl, rfl⟩ rfl rfl (fun r_27 => ?_)
          refine g_ic_ge C 65 dX4_lay_30 (by decide) (by omega) (fun c_30 => ?_) (fun c_30 => ?_)
          · refine g_inc_1 C dX4_lay_65 (by decide) rfl ?_
            refine g_goto C 15 dX4_lay_68 (by decide) ?_
            refine ih (a + 1) _ M2 (by omega) (by omega) (by omega) hs2 (kI0_row (by rw [kMnet_n, show M 30 0 2 = b by omega]; exact hW2)) (fun i k hik hi => hG2 i k hik ?_)
            have := hik.2.2
            rw [kMnet_n] at this
            omega
          · refine g_aload_n C dX4_lay_33 rfl ?_
            refine g_getR C 42 dX4_lay_34 f_X4_44 ⟨rfl, rfl⟩ rfl (by decide) ?_
            refine g_bipush C dX4_lay_37 (by decide) ?_
            refine g_iload_n C dX4_lay_39 rfl ?_
            refine g_imul C dX4_lay_40 ?_
            refine g_iload_n C dX4_lay_41 rfl ?_
            refine g_iadd C dX4_lay_42 ?_
            refine g_aload_n C dX4_lay_43 rfl ?_
            refine g_iload_n C dX4_lay_44 rfl ?_
            refine g_iload_n C dX4_lay_45 rfl ?_
            refine g_callVi C dX4_lay_46 v_X4_133 (m_X4_fitsAlone (h := 2) (by omega) hI a b M2 (by rw [eN]; exact hN) (by omega) (by omega) (fun _ _ q => q)) ⟨rfl, rfl⟩ rfl rfl (Nat.le_of_ble_eq_true rfl) (by omega) ?_
            rintro z M' ⟨⟨hz, rfl⟩ | ⟨hz, rfl⟩, rfl⟩
            · refine g_if_eq C 57 dX4_lay_49 (by decide) (by omega) (fun c_49 => ?_) (fun c_49 => ?_)
              · refine g_iconst C dX4_lay_57 ?_
                refine g_iast C 3600 dX4_lay_58 ⟨rfl, rfl⟩ rfl (by omega) (by omega) ?_
                refine g_inc_2 C dX4_lay_59 (by decide) rfl ?_
                refine g_goto C 25 dX4_lay_62 (by decide) ?_
                rw [eN] at hz
                exact nxt 0 (by omega) (by omega) (kRA_0.1 hz)
              · omega
            · refine g_if_eq C 57 dX4_lay_49 (by decide) (by omega) (fun c_49 => ?_) (fun c_49 => ?_)
              · omega
              · refine g_ldc C (100000) q683 dX4_lay_52 (by decide) ?_
                refine g_goto C 58 dX4_lay_54 (by decide) ?_
                refine g_iast C 3600 dX4_lay_58 ⟨rfl, rfl⟩ rfl (by omega) (by omega) ?_
                refine g_inc_2 C dX4_lay_59 (by decide) rfl ?_
                refine g_goto C 25 dX4_lay_62 (by decide) ?_
                rw [eN] at hz
                exact nxt 100000 (by omega) (by omega) (kRA_0.2 hz)
      obtain ⟨hm1, -⟩ := NET M1 hs
      refine g_iload_n C dX4_lay_15 rfl ?_
      refine g_aload_n C dX4_lay_16 rfl ?_
      refine g_getI C 2 dX4_lay_17 f_X4_116 ⟨rfl, rfl⟩ rfl rfl (fun r_17 => ?_)
      refine g_ic_ge C 71 dX4_lay_20 (by decide) (by omega) (fun c_20 => ?_) (fun c_20 => ?_)
      · refine g_iconst C dX4_lay_71 ?_
        refine g_istn_1 C dX4_lay_72 (by decide) rfl ?_
        refine g_iconst C dX4_lay_73 ?_
        refine g_istn_2 C dX4_lay_74 (by decide) rfl ?_
        have := kMu_le (kDF M1) hn
        exact L2 3601 0 _ _ _ _ _ M1 (by omega) (by omega) (by omega) hs (fun i k hik => hW i k hik (Or.inl (by have := hik.1.2; rw [kMnet_n] at this; omega))) (fun i k hik => hG i k hik (by have := hik.1.2; rw [kMnet_n] at this; omega))
      · refine g_iconst C dX4_lay_23 ?_
        refine g_istn_2 C dX4_lay_24 (by decide) rfl ?_
        exact inner ((M 30 0 2).toNat + 1) 0 M1 (by omega) (by omega) (by omega) (by omega) hs hW (fun i k hik hb => hG i k hik (by have := hik.2.1; omega))
  refine g_aload_n C dX4_lay_0 rfl ?_
  refine g_getI C 15 dX4_lay_1 f_X4_119 ⟨rfl, rfl⟩ rfl rfl (fun r_1 => ?_)
  refine g_if_eq C 8 dX4_lay_4 (by decide) (by omega) (fun c_4 => ?_) (fun c_4 => ?_)
  · refine g_aload_n C dX4_lay_8 rfl ?_
    refine g_iconst C dX4_lay_9 ?_
    refine g_putZ C 15 dX4_lay_10 f_X4_119 ⟨rfl, rfl⟩ rfl rfl (by omega) ?_
    rw [← eB]
    refine g_iconst C dX4_lay_13 ?_
    refine g_istn_1 C dX4_lay_14 (by decide) rfl ?_
    exact R0 ((M 30 0 2).toNat + 1) 0 _ B (by omega) (by omega) (by omega) (fun _ _ _ => rfl) kI0_0 (fun i k hik hi => by have := hik.1.1; omega)
  · exact g_vret C dX4_lay_7 (hp _ _ (h7 c_4))
end

