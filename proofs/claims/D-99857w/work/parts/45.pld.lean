/-! ===== givings: all tins, all sets ===== -/
set_option maxRecDepth 100000
def gvW (c : Nat → Int32) (pm : Nat) (all : Bool) (tins : Int32) (fr k : Nat) (f : Nat → Int32) : Nat → Int32 := itN (fun i f => if hs tins (nI (fr + i)) = true then tinS c pm (fr + i) all f else f) k f
def gvN (all : Bool) (us : Nat) (W : Nat → Int32) (s : Nat) (n : Int32) : Int32 := if all = true then n + W s else if 0 < W s then maxS n (nI (szF (nI s &&& (nI us ^^^ (-1))) 9)) else n
def gvR (all : Bool) (us : Nat) (W : Nat → Int32) (k : Nat) : Int32 := itN (gvN all us W) k (nI 0)
theorem gvW_s {c : Nat → Int32} {pm : Nat} {all : Bool} {tins : Int32} {fr k : Nat} {f : Nat → Int32} : gvW c pm all tins fr (k + 1) f = if hs tins (nI (fr + k)) = true then tinS c pm (fr + k) all (gvW c pm all tins fr k f) else gvW c pm all tins fr k f := rfl
def gv0 (f0 : Nat → Int32) (us k : Nat) : Nat → Int32 := lay f0 0 k fun s => if s = us then nI 1 else nI 0
def gvS (c : Nat → Int32) (pm tn : Nat) (all : Bool) (tins : Int32) (fr us : Nat) (f0 : Nat → Int32) : Nat → Int32 := gvW c pm all tins fr (tn - fr) (gv0 f0 us 128)
