/-! ===== years: plain words ===== -/
set_option maxRecDepth 100000
def drw (r : Nat) : Nat := (r * 2971 + 10891) % 65536
abbrev gotS (c : Nat → Int32) (pm : Nat) : Int32 := suF (fun p => c (26 + p)) pm
