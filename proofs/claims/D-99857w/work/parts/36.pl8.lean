/-! ===== shares, marks ===== -/
set_option maxRecDepth 100000
theorem suF_N {f : Nat → Int32} {B : Nat} (n : Nat) (h : ∀ t, t < n → ∃ x, x ≤ B ∧ f t = nI x) : ∃ x, x ≤ B * n ∧ suF f n = nI x := by
  induction n with
  | zero => exact ⟨0, Nat.zero_le _, rfl⟩
  | succ n ih =>
    obtain ⟨x, hx, ex⟩ := ih (fun t ht => h t (by omega))
    obtain ⟨y, hy, ey⟩ := h n (by omega)
    refine ⟨x + y, by rw [Nat.mul_succ]; omega, ?_⟩
    rw [suF, ex, ey, nI_add]
theorem wOf_N {c : Nat → Int32} {tm pm tn G t : Nat} (hF : wF c tm pm tn G) (ht : t < tn) : ∃ x, x ≤ 99 ∧ wOf c t = nI x := by
  obtain ⟨k, hk, e⟩ := hF.of ht
  have l0 := hF.l0
  obtain ⟨x, hx, ex⟩ := hF.wo (k := k) (by omega)
  exact ⟨x, hx, by rw [wOf, e, cl_nI (by omega), ex]⟩
theorem waS_N {c : Nat → Int32} {tm pm tn G : Nat} (hF : wF c tm pm tn G) (s : Int32) : ∃ x, x ≤ 891 ∧ waS c tn s = nI x := by
  have l3 := hF.l3
  obtain ⟨x, hx, e⟩ := suF_N (f := fun t => if hs s (nI t) then wOf c t else nI 0) (B := 99) tn (fun t ht => by
    by_cases h : hs s (nI t) = true
    · obtain ⟨x, hx, e⟩ := wOf_N hF ht
      exact ⟨x, hx, by show (if _ then _ else _) = _; rw [if_pos h, e]⟩
    · exact ⟨0, by omega, by show (if _ then _ else _) = _; rw [if_neg h]⟩)
  exact ⟨x, by omega, e⟩
def spShare (c : Nat → Int32) (pm tn : Nat) (p : Int32) : Nat := match ix p pm with
  | none => 2
  | some _ => if cl (thS c tn) = 0 then 8 else 0
def shM (M : mS) (pm tn : Nat) (p : Int32) : mS := if spShare (M.2.2.1 5) pm tn p = 0 then frM (mI (mI M 1 (nI 0)) 0 (nI 0)) (cl (waS (M.2.2.1 5) tn (onS (M.2.2.1 5) tn p))) (cl (thS (M.2.2.1 5) tn)) else mI (mI M 1 (nI 0)) 0 (nI (spShare (M.2.2.1 5) pm tn p))
theorem lay_o {α : Type} {f v : Nat → α} {a n j : Nat} (h : j < a ∨ a + n ≤ j) : lay f a n v j = f j := by
  unfold lay
  rw [if_neg (by omega)]
/-- the block f written over the block t -/
def cpC (c : Nat → Int32) (f t n : Nat) : Nat → Int32 := lay c (359 * t) n fun k => c (359 * f + k)
def cpW (c : Nat → Int64) (f t n : Nat) : Nat → Int64 := lay c (22 * t) n fun k => c (22 * f + k)
abbrev cpM (M : mS) (f t : Nat) : mS := mSB (mSA M 5 (cpC (M.2.2.1 5) f t 359)) 7 (cpW (M.2.2.2 7) f t 22)
theorem cpC_s {c : Nat → Int32} {f t n : Nat} (h : f ≠ t) (hn : n < 359) : upd (cpC c f t n) (359 * t + n) (cpC c f t n (359 * f + n)) = cpC c f t (n + 1) := by
  have e : cpC c f t n (359 * f + n) = c (359 * f + n) := lay_o (by omega)
  rw [e]
  exact layI_s (v := fun k => c (359 * f + k))
theorem cpW_s {c : Nat → Int64} {f t n : Nat} (h : f ≠ t) (hn : n < 22) : vp_updL (cpW c f t n) (22 * t + n) (cpW c f t n (22 * f + n)) = cpW c f t (n + 1) := by
  have e : cpW c f t n (22 * f + n) = c (22 * f + n) := lay_o (by omega)
  rw [e]
  exact layL_s (v := fun k => c (22 * f + k))
