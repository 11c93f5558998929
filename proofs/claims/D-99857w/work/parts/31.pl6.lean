/-! ===== the fewest ===== -/
set_option maxRecDepth 100000
def covT (set : Nat) (best : Int32) : Bool := decide (best < 0) || decide (szF (nI set) 9 < szF best 9)
def covP (c : Nat → Int32) (set p : Nat) (is : Bool) : Bool := is && decide (¬ nI set &&& c (12 + p) = 0)
def covF (c : Nat → Int32) (pm set : Nat) (best : Int32) : Int32 := if itN (covP c set) pm (covT set best) = true then nI set else best
def covS (c : Nat → Int32) (tm pm : Nat) : Int32 := itN (covF c pm) (2 ^ tm) (-1)
def blaP (c : Nat → Int32) (set t : Nat) (is : Bool) : Bool := is && (decide (c (60 + t) = 0) || decide (¬ nI set &&& c (69 + t) = 0))
def blaF (c : Nat → Int32) (tn set : Nat) (best : Int32) : Int32 := if itN (blaP c set) tn (covT set best) = true then nI set else best
def blaS (c : Nat → Int32) (pm tn : Nat) : Int32 := itN (blaF c tn) (2 ^ pm) (-1)
theorem itN_false {f : Nat → Bool → Bool} {b : Bool} (hf : ∀ p, f p false = false) {j : Nat} (hj : itN f j b = false) : ∀ n, j ≤ n → itN f n b = false
  | 0, h => by rw [show j = 0 by omega] at hj; exact hj
  | n + 1, h => by
    by_cases e : j = n + 1
    · rw [← e]; exact hj
    · show f n (itN f n b) = false
      rw [itN_false hf hj n (by omega)]
      exact hf n
def spCover (c : Nat → Int32) (tm pm : Nat) : Int32 × Nat := if covS c tm pm < 0 then (-1, 8) else (nI (szF (covS c tm pm) 9), 0)
def spCoverSet (c : Nat → Int32) (tm pm : Nat) : Int32 × Nat := if covS c tm pm < 0 then (-1, 8) else (covS c tm pm, 0)
