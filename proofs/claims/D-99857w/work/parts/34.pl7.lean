/-! ===== fractions; a tray poured; rounds ===== -/
set_option maxRecDepth 100000
theorem gcd_step (x y : Nat) : Nat.gcd y (x % y) = Nat.gcd x y := by
  rw [Nat.gcd_comm x y, Nat.gcd_rec y x, Nat.gcd_comm]
abbrev frM (M : mS) (t b : Nat) : mS := mL (mL M 2 (lN (t / Nat.gcd t b))) 3 (lN (b / Nat.gcd t b))
/-- what a pour answers -/
def spPour (tm so : Nat → Int32) (tr i to j mn : Int32) : Nat := match ix tr 4, ix to 4 with
  | some a, some b => if tm a < 0 ∨ ¬ 0 ≤ tm b then 3 else if ¬ so a = so b then 11 else if ¬ 0 ≤ mn then 6 else if i < 0 ∨ j < 0 ∨ (tm a).toInt64 < i.toInt64 + mn.toInt64 ∨ ¬ j.toInt64 + mn.toInt64 ≤ (tm b).toInt64 then 4 else 0
  | _, _ => 1
/-- n numbers moved from a to b, as they stood -/
def mov (f : Nat → Int64) (a b n : Nat) : Nat → Int64 := fun q => if b ≤ q ∧ q < b + n then f (a + (q - b)) else f q
def pouI (n k : Nat) (r : Bool) : Nat := if r = true then n - 1 - k else k
def pouF (f : Nat → Int64) (a b n k : Nat) (r : Bool) : Nat → Int64 := fun q => if (if r = true then b + (n - k) ≤ q ∧ q < b + n else b ≤ q ∧ q < b + k) then f (a + (q - b)) else f q
theorem pouF_0 {f : Nat → Int64} {a b n : Nat} {r : Bool} : pouF f a b n 0 r = f := by
  funext q
  unfold pouF
  rw [if_neg (by split <;> omega)]
theorem pouF_n {f : Nat → Int64} {a b n : Nat} {r : Bool} : pouF f a b n n r = mov f a b n := by
  funext q
  unfold pouF mov
  cases r <;> simp
theorem pouF_s {f : Nat → Int64} {a b n k : Nat} {r : Bool} (hk : k < n) (h : if r = true then a < b ∨ b + n ≤ a else b ≤ a ∨ a + n ≤ b) : vp_updL (pouF f a b n k r) (b + pouI n k r) (pouF f a b n k r (a + pouI n k r)) = pouF f a b n (k + 1) r := by
  have e : pouF f a b n k r (a + pouI n k r) = f (a + pouI n k r) := by
    unfold pouF pouI
    cases r
    · simp only [Bool.false_eq_true, if_false] at h ⊢
      rw [if_neg (by omega)]
    · simp only [if_true] at h ⊢
      rw [if_neg (by omega)]
  rw [e]
  funext q
  unfold vp_updL
  by_cases hq : q = b + pouI n k r
  · rw [if_pos hq, hq]
    unfold pouF pouI
    cases r
    · simp only [Bool.false_eq_true, if_false]
      rw [if_pos (by omega)]
      congr 1
      omega
    · simp only [if_true]
      rw [if_pos (by omega)]
      congr 1
      omega
  · rw [if_neg hq]
    unfold pouI at hq
    unfold pouF
    cases r
    · simp only [Bool.false_eq_true, if_false] at hq ⊢
      by_cases h2 : b ≤ q ∧ q < b + k
      · rw [if_pos h2, if_pos (by omega)]
      · rw [if_neg h2, if_neg (by omega)]
    · simp only [if_true] at hq ⊢
      by_cases h2 : b + (n - k) ≤ q ∧ q < b + n
      · rw [if_pos h2, if_pos (by omega)]
      · rw [if_neg h2, if_neg (by omega)]
def pouM (M : mS) (tr i to j mn : Int32) : mS := if spPour (M.2.2.1 2) (M.2.2.1 1) tr i to j mn = 0 then mSB (mI (mI M 1 (nI 0)) 0 (nI 0)) 3 (mov (M.2.2.2 3) (60 * cl tr + cl i) (60 * cl to + cl j) (cl mn)) else mI (mI M 1 (nI 0)) 0 (nI (spPour (M.2.2.1 2) (M.2.2.1 1) tr i to j mn))
