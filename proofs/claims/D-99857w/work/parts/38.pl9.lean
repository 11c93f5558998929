/-! ===== sets as bits ===== -/
set_option maxRecDepth 100000
theorem bit_sh : ∀ k, k < 32 → ((nI k &&& 31).toBitVec.smod 32).toNat = k := by decide +kernel
theorem bv_1 (x : BitVec 32) : (x &&& 1#32 = 1#32) ↔ x.getLsbD 0 = true := by
  rw [BitVec.and_one_eq_setWidth_ofBool_getLsbD]
  cases x.getLsbD 0 <;> decide
theorem hs_bit {x : Int32} {k : Nat} (hk : k < 32) : hs x (nI k) = x.toBitVec.getLsbD k := by
  have e : ((x >>> (nI k &&& 31)) &&& nI 1 = nI 1) ↔ x.toBitVec.getLsbD k = true := by
    rw [← Int32.toBitVec_inj, Int32.toBitVec_and, Int32.toBitVec_shiftRight]
    have h1 : (nI 1).toBitVec = 1#32 := by decide
    rw [h1, bv_1, BitVec.sshiftRight_eq', bit_sh k hk, BitVec.getLsbD_sshiftRight]
    simp [hk]
  unfold hs
  by_cases h : x.toBitVec.getLsbD k = true
  · rw [h]; exact decide_eq_true (e.mpr h)
  · rw [Bool.eq_false_iff.mpr h]; exact decide_eq_false fun q => h (e.mp q)
theorem bi_bit : ∀ q, q < 32 → ∀ k, k < 32 → (bi q).toBitVec.getLsbD k = decide (k = q) := by decide +kernel
theorem hs_or {x y : Int32} {k : Nat} (hk : k < 32) : hs (x ||| y) (nI k) = (hs x (nI k) || hs y (nI k)) := by
  rw [hs_bit hk, hs_bit hk, hs_bit hk, Int32.toBitVec_or, BitVec.getLsbD_or]
theorem hs_and {x y : Int32} {k : Nat} (hk : k < 32) : hs (x &&& y) (nI k) = (hs x (nI k) && hs y (nI k)) := by
  rw [hs_bit hk, hs_bit hk, hs_bit hk, Int32.toBitVec_and, BitVec.getLsbD_and]
theorem hs_not {x : Int32} {k : Nat} (hk : k < 32) : hs (x ^^^ (-1)) (nI k) = !hs x (nI k) := by
  rw [hs_bit hk, hs_bit hk, Int32.toBitVec_xor, BitVec.getLsbD_xor]
  have h : ∀ k, k < 32 → (-1 : Int32).toBitVec.getLsbD k = true := by decide +kernel
  rw [h k hk, Bool.xor_true]
theorem hs_bi {q k : Nat} (hq : q < 32) (hk : k < 32) : hs (bi q) (nI k) = decide (k = q) := by
  rw [hs_bit hk, bi_bit q hq k hk]
theorem hs_orF {f : Nat → Bool} {n k : Nat} (hn : n ≤ 32) (hk : k < 32) : hs (orF f n) (nI k) = (decide (k < n) && f k) := by
  induction n with
  | zero =>
    rw [show orF f 0 = nI 0 from rfl, hs_0 hk]
    simp
  | succ n ih =>
    rw [show orF f (n + 1) = orF f n ||| (if f n then nI 1 <<< (nI n &&& 31) else nI 0) from rfl, hs_or hk, ih (by omega)]
    by_cases hf : f n = true
    · rw [if_pos hf, show nI 1 <<< (nI n &&& 31) = bi n from rfl, hs_bi (by omega) hk]
      by_cases e : k = n
      · subst e
        simp [hf]
      · have : decide (k < n + 1) = decide (k < n) := decide_eq_decide.mpr (by omega)
        rw [this, decide_eq_false e, Bool.or_false]
    · rw [if_neg hf, hs_0 hk, Bool.or_false]
      by_cases e : k = n
      · subst e
        simp [hf]
      · have : decide (k < n + 1) = decide (k < n) := decide_eq_decide.mpr (by omega)
        rw [this]
/-- two sets of at most 32 that have the same members -/
theorem hs_ext {x y : Int32} (h : ∀ k, k < 32 → hs x (nI k) = hs y (nI k)) : x = y := by
  apply Int32.toBitVec_inj.mp
  apply BitVec.eq_of_getLsbD_eq
  intro k hk
  rw [← hs_bit hk, ← hs_bit hk]
  exact h k hk
