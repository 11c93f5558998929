/-! ===== the fewest ===== -/
set_option maxRecDepth 100000
def covT (set : Nat) (best : Int32) : Bool := decide (best < 0) || decide (szF (nI set) 9 < szF best 9)
def covP (c : Nat → Int32) (set p : Nat) (is : Bool) : Bool := is && decide (¬ nI set &&& c (12 + p) = 0)
def covF (c : Nat → Int32) (pm set : Nat) (best : Int32) : Int32 := if itN (covP c set) pm (covT set best) = true then nI set else best
def covS (c : Nat → Int32) (tm pm : Nat) : Int32 := itN (covF c pm) (2 ^ tm) (-1)
def blaP (c : Nat → Int32) (set t : Nat) (is : Bool) : Bool := is && (decide (c (60 + t) = 0) || decide (¬ nI set &&& c (69 + t) = 0))
def blaF (c : Nat → Int32) (tn set : Nat) (best : Int32) : Int32 := if itN (blaP c set) tn (covT set best) = true then nI set else best
def blaS (c : Nat → Int32) (pm tn : Nat) : Int32 := itN (blaF c tn) (2 ^ pm) (-1)
theorem itN_false {f : Nat → Bool → Bool} {b : Bool} (hf : ∀ p, f p false = false) {j : Nat} (hj : itN f j b = false) : ∀ n, j ≤ n → itN f n b = false
  | 0, h => by rw [show j = 0 by omega] at hj; exact hj
  | n + 1, h => by
    by_cases e : j = n + 1
    · rw [← e]; exact hj
    · show f n (itN f n b) = false
      rw [itN_false hf hj n (by omega)]
      exact hf n
def spCover (c : Nat → Int32) (tm pm : Nat) : Int32 × Nat := if covS c tm pm < 0 then (-1, 8) else (nI (szF (covS c tm pm) 9), 0)
def spCoverSet (c : Nat → Int32) (tm pm : Nat) : Int32 × Nat := if covS c tm pm < 0 then (-1, 8) else (covS c tm pm, 0)
def anyB (f : Nat → Bool) (n : Nat) : Bool := itN (fun t b => b || f t) n false
theorem anyB_s {f : Nat → Bool} {i : Nat} (h : anyB f i = false) (h2 : f i = false) : anyB f (i + 1) = false := by
  show (anyB f i || f i) = false
  rw [h, h2]
  rfl
theorem anyB_t {f : Nat → Bool} {i : Nat} (h : f i = true) : ∀ n, i < n → anyB f n = true
  | 0, hi => absurd hi (Nat.not_lt_zero _)
  | n + 1, hi => by
    show (anyB f n || f n) = true
    by_cases e : i = n
    · rw [← e, h, Bool.or_true]
    · rw [anyB_t h n (by omega), Bool.true_or]
def canF (c : Nat → Int32) (pm p q t : Nat) : Bool := decide (c (42 + t) = nI p) && hs (nxS c pm t p) (nI q)
def canB (c : Nat → Int32) (pm tn p q : Nat) : Bool := anyB (canF c pm p q) tn
def rolS (c : Nat → Int32) (pm tn fi : Nat) : Nat → Nat → Int32 → Int32
  | 0, la, _ => xb (canB c pm tn la fi)
  | k + 1, la, se => suF (fun i => if hs se (nI (fi + 1 + i)) = false ∧ canB c pm tn la (fi + 1 + i) = true then rolS c pm tn fi k (fi + 1 + i) (se ||| bi (fi + 1 + i)) else nI 0) (pm - (fi + 1))
def spWheels (c : Nat → Int32) (pm tn : Nat) (w : Int32) : Int32 × Nat := match ix w 8 with
  | none => (-1, 5)
  | some n => if n < 2 then (-1, 5) else (suF (fun p => rolS c pm tn p (n - 1) p (bi p)) pm, 0)
theorem inS_2 {w : Int32} {a n : Nat} (h : ix w (n + 1) = none) (ha : a < 2 ^ 31) (hn : n < 2 ^ 31) : inS w.toInt64 (lN a) (lN n) = false := by
  refine decide_eq_false fun q => ?_
  have h1 : (a : Int) ≤ w.toInt := by
    have := Int64.le_iff_toInt_le.mp q.1
    rw [pk_lT (by omega), i64_toInt] at this
    exact this
  have h2 := (le_lN (by omega)).mp q.2
  rcases ix_none h with e | e <;> omega
