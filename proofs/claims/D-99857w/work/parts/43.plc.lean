/-! ===== givings: plain words ===== -/
set_option maxRecDepth 100000
def whyG (c : Nat → Int32) (tn : Nat) (s : Int32) : Nat := match ix s (2 ^ tn - 1 + 1) with
  | none => 5
  | some _ => if s &&& goS c tn = 0 then 0 else 9
theorem and_N {s : Nat} {y : Int32} (hs : s < 2 ^ 31) : ∃ r, r ≤ s ∧ nI s &&& y = nI r := by
  refine ⟨(nI s &&& y).toBitVec.toNat, ?_, ?_⟩
  · rw [Int32.toBitVec_and, BitVec.toNat_and]
    refine Nat.le_trans Nat.and_le_left ?_
    show (BitVec.ofNat 32 s).toNat ≤ s
    rw [BitVec.toNat_ofNat]
    exact Nat.mod_le _ _
  · apply Int32.toBitVec_inj.mp
    show _ = BitVec.ofNat 32 _
    rw [BitVec.ofNat_toNat, BitVec.setWidth_eq]
def dnS (i : Nat) : Int32 := if i ≤ 127 then nI (127 - i) else -1
theorem dnS_b {i : Nat} (h : i < 128) : dnS i = nI (127 - i) := if_pos (by omega)
theorem dnS_s : ∀ i, i < 128 → nI (127 - i) + Int32.ofInt (-1) = dnS (i + 1) := by decide +kernel
/-- the ways to one set, from the ways before -/
def tinV (c : Nat → Int32) (pm t : Nat) (all : Bool) (f : Nat → Int32) (s : Nat) (k : Nat) : Int32 := itN (fun p n => if hs (nI s) (nI p) = true ∧ trB c t p = true then n + f (cl (nI s &&& (bi p ^^^ (-1)))) else n) k (if all = true then nI 0 else f s)
def tinW (all : Bool) (n : Int32) : Int32 := if all = false ∧ nI 1 ≤ n then nI 1 else n
def tinF (c : Nat → Int32) (pm t : Nat) (all : Bool) (i : Nat) (f : Nat → Int32) : Nat → Int32 := upd f (127 - i) (if all = true then tinV c pm t all f (127 - i) pm else if tinV c pm t all f (127 - i) pm < nI 1 then tinV c pm t all f (127 - i) pm else nI 1)
def tinS (c : Nat → Int32) (pm t : Nat) (all : Bool) (f : Nat → Int32) : Nat → Int32 := itN (tinF c pm t all) 128 f
