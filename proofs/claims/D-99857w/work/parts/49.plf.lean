/-! ===== years: plain words ===== -/
set_option maxRecDepth 100000
def drw (r : Nat) : Nat := (r * 2971 + 10891) % 65536
abbrev gotS (c : Nat → Int32) (pm : Nat) : Int32 := suF (fun p => c (26 + p)) pm
def biB (c : Nat → Int32) (t r : Nat) : Bool := !goB c t && !decide (c (51 + t) = 0) && decide (nI (drw r / 8 % 16) < c 4)
def biM (M : mS) (t r : Nat) : mS := if goB (M.2.2.1 5) t = true ∨ M.2.2.1 5 (51 + t) = 0 then M else if nI (drw r / 8 % 16) < M.2.2.1 5 4 then mI (mSA (mI M 40 (nI (drw r))) 5 (fiC (M.2.2.1 5) t)) 44 (M.1 44 + nI 1) else mI M 40 (nI (drw r))
def anT (tn r : Nat) : Nat := drw r / 8 % tn
def anQ (pm r : Nat) : Nat := drw (drw r) / 8 % pm
def anyV (c : Nat → Int32) (pm tn r : Nat) : Bool := !decide (tn = 0) && paB c pm (anT tn r) (anQ pm r)
def anyM (M : mS) (pm tn r : Nat) : mS := if tn = 0 then M else mSA (mI M 40 (nI (drw (drw r)))) 5 (paC (M.2.2.1 5) pm (anT tn r) (anQ pm r))
