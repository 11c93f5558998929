/-! ===== givings, whatever stood in the array ===== -/
set_option maxRecDepth 100000
def e128 (f g : Nat → Int32) : Prop := ∀ k, k < 128 → f k = g k
theorem tinV_e {c f g : Nat → Int32} {pm t s : Nat} {all : Bool} (h : e128 f g) (hs' : s < 128) (k : Nat) : tinV c pm t all f s k = tinV c pm t all g s k := by
  unfold tinV
  rw [h s hs']
  refine itN_inv2 (fun x y => x = y) rfl k (fun p x y _ e => ?_)
  subst e
  obtain ⟨r, hr, er⟩ := and_N (s := s) (y := bi p ^^^ (-1)) (by omega)
  rw [er, cl_nI (by omega), h r (by omega)]
theorem tinS_e {c f g : Nat → Int32} {pm t : Nat} {all : Bool} (h : e128 f g) : e128 (tinS c pm t all f) (tinS c pm t all g) := by
  unfold tinS
  refine itN_inv2 e128 h 128 (fun i x y hi hxy k hk => ?_)
  unfold tinF
  rw [tinV_e hxy (by omega) pm]
  unfold upd
  split
  · rfl
  · exact hxy k hk
theorem gvS_e {c f g : Nat → Int32} {pm tn fr us : Nat} {all : Bool} {tins : Int32} : e128 (gvS c pm tn all tins fr us f) (gvS c pm tn all tins fr us g) := by
  unfold gvS gvW
  refine itN_inv2 e128 (fun k hk => ?_) _ (fun i x y hi hxy => ?_)
  · unfold gv0 lay
    rw [if_pos (by omega), if_pos (by omega)]
  · split
    · exact tinS_e hxy
    · exact hxy
theorem gvR_e {f g : Nat → Int32} {us : Nat} {all : Bool} (h : e128 f g) : gvR all us f 128 = gvR all us g 128 := by
  unfold gvR
  refine itN_inv2 (fun x y => x = y) rfl 128 (fun p x y hp e => ?_)
  subst e
  unfold gvN
  rw [h p hp]
/-- how many givings; or the most tins given -/
def gvZ (c : Nat → Int32) (pm tn : Nat) (all : Bool) (tins : Int32) (fr us : Nat) : Int32 := gvR all us (gvS c pm tn all tins fr us fun _ => nI 0) 128
theorem gvZ_e {c f : Nat → Int32} {pm tn fr us : Nat} {all : Bool} {tins : Int32} : gvR all us (gvS c pm tn all tins fr us f) 128 = gvZ c pm tn all tins fr us := gvR_e gvS_e
def spGiv (c : Nat → Int32) (pm tn : Nat) (all : Bool) (s : Int32) : Int32 × Nat := (if whyG c tn s = 0 then gvZ c pm tn all s 0 0 else -1, whyG c tn s)
