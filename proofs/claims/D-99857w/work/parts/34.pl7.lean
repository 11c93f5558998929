/-! ===== fractions; a tray poured; rounds ===== -/
set_option maxRecDepth 100000
theorem gcd_step (x y : Nat) : Nat.gcd y (x % y) = Nat.gcd x y := by
  rw [Nat.gcd_comm x y, Nat.gcd_rec y x, Nat.gcd_comm]
abbrev frM (M : mS) (t b : Nat) : mS := mL (mL M 2 (lN (t / Nat.gcd t b))) 3 (lN (b / Nat.gcd t b))
