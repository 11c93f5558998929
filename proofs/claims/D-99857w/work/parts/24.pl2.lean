/-! ===== a fen as a block of whole numbers ===== -/
set_option maxRecDepth 100000
/-- the block c holds a fen of tm traits, pm people, tn tins, nobody having got more than G -/
def wF (c : Nat → Int32) (tm pm tn G : Nat) : Prop :=
  (c 0 = nI tm ∧ c 1 = nI pm ∧ c 3 = nI tn) ∧ (tm ≤ 6 ∧ pm ≤ 7 ∧ tn ≤ 9) ∧ (∀ t, t < tn → ∃ k, k < tm ∧ c (33 + t) = nI k) ∧ (∀ t, t < tn → c (42 + t) = -1 ∨ ∃ p, p < pm ∧ c (42 + t) = nI p) ∧
  (∀ k, k < 6 → ∃ x, x ≤ 99 ∧ c (6 + k) = nI x) ∧ (∃ x, x ≤ 12 ∧ c 2 = nI x) ∧ (∃ x, x ≤ 16 ∧ c 4 = nI x) ∧ (∀ t, t < tn → c (51 + t) = nI 0 ∨ c (51 + t) = nI 1) ∧ (∀ t, t < tn → c (60 + t) = nI 0 ∨ (c (60 + t) = nI 1 ∧ c (51 + t) = nI 1)) ∧
  (∀ t, t < tn → ∃ h, 0 < h ∧ h < 2 ^ pm ∧ c (69 + t) = nI h) ∧ (∀ p, p < pm → ∃ g, g ≤ G ∧ c (26 + p) = nI g) ∧ (tn = 0 ∨ 0 < pm)
section WF
variable {c : Nat → Int32} {tm pm tn G : Nat}
theorem wF.c0 (h : wF c tm pm tn G) : c 0 = nI tm := h.1.1
theorem wF.c1 (h : wF c tm pm tn G) : c 1 = nI pm := h.1.2.1
theorem wF.c3 (h : wF c tm pm tn G) : c 3 = nI tn := h.1.2.2
theorem wF.l0 (h : wF c tm pm tn G) : tm ≤ 6 := h.2.1.1
theorem wF.l1 (h : wF c tm pm tn G) : pm ≤ 7 := h.2.1.2.1
theorem wF.l3 (h : wF c tm pm tn G) : tn ≤ 9 := h.2.1.2.2
theorem wF.of (h : wF c tm pm tn G) {t : Nat} (ht : t < tn) : ∃ k, k < tm ∧ c (33 + t) = nI k := h.2.2.1 t ht
theorem wF.on (h : wF c tm pm tn G) {t : Nat} (ht : t < tn) : c (42 + t) = -1 ∨ ∃ p, p < pm ∧ c (42 + t) = nI p := h.2.2.2.1 t ht
theorem wF.wo (h : wF c tm pm tn G) {k : Nat} (hk : k < 6) : ∃ x, x ≤ 99 ∧ c (6 + k) = nI x := h.2.2.2.2.1 k hk
theorem wF.la (h : wF c tm pm tn G) : ∃ x, x ≤ 12 ∧ c 2 = nI x := h.2.2.2.2.2.1
theorem wF.od (h : wF c tm pm tn G) : ∃ x, x ≤ 16 ∧ c 4 = nI x := h.2.2.2.2.2.2.1
theorem wF.le (h : wF c tm pm tn G) {t : Nat} (ht : t < tn) : c (51 + t) = nI 0 ∨ c (51 + t) = nI 1 := h.2.2.2.2.2.2.2.1 t ht
theorem wF.fo (h : wF c tm pm tn G) {t : Nat} (ht : t < tn) : c (60 + t) = nI 0 ∨ (c (60 + t) = nI 1 ∧ c (51 + t) = nI 1) := h.2.2.2.2.2.2.2.2.1 t ht
theorem wF.he (h : wF c tm pm tn G) {t : Nat} (ht : t < tn) : ∃ x, 0 < x ∧ x < 2 ^ pm ∧ c (69 + t) = nI x := h.2.2.2.2.2.2.2.2.2.1 t ht
theorem wF.go (h : wF c tm pm tn G) {p : Nat} (hp : p < pm) : ∃ g, g ≤ G ∧ c (26 + p) = nI g := h.2.2.2.2.2.2.2.2.2.2.1 p hp
theorem wF.so (h : wF c tm pm tn G) : tn = 0 ∨ 0 < pm := h.2.2.2.2.2.2.2.2.2.2.2
end WF
/-- a place of n, said by a long -/
def ixL (w : Int64) (n : Nat) : Option Nat := if 0 ≤ w.toInt ∧ w.toInt < n then some w.toInt.toNat else none
theorem ixL_i (w : Int32) (n : Nat) : ixL w.toInt64 n = ix w n := by
  unfold ixL ix
  rw [i64_toInt]
theorem nI_sub1 {n : Nat} (h : n < 2 ^ 30) : (nI n - nI 1).toInt = (n : Int) - 1 := pk_sub_toInt h (by decide)
theorem inL_ix {w : Int64} {n : Nat} (hn : n < 2 ^ 30) : inS w (lN 0) (nI n - nI 1).toInt64 = (ixL w n).isSome := by
  have e : (nI n - nI 1).toInt64.toInt = (n : Int) - 1 := by rw [i64_toInt, nI_sub1 hn]
  have e1 : lN 0 ≤ w ↔ 0 ≤ w.toInt := by rw [Int64.le_iff_toInt_le, pk_lT (by decide)]; rfl
  have e2 : w ≤ (nI n - nI 1).toInt64 ↔ w.toInt ≤ (n : Int) - 1 := by rw [Int64.le_iff_toInt_le, e]
  unfold inS ixL
  by_cases h : 0 ≤ w.toInt ∧ w.toInt < n
  · rw [if_pos h]
    exact decide_eq_true ⟨e1.mpr h.1, e2.mpr (by omega)⟩
  · rw [if_neg h]
    exact decide_eq_false fun q => h ⟨e1.mp q.1, by have := e2.mp q.2; omega⟩
theorem inI_ix {w : Int32} {n : Nat} (hn : n < 2 ^ 30) : inS w.toInt64 (lN 0) (nI n - nI 1).toInt64 = (ix w n).isSome := by rw [inL_ix hn, ixL_i]
def goB (c : Nat → Int32) (t : Nat) : Bool := decide (c (42 + t) = -1)
def wOf (c : Nat → Int32) (t : Nat) : Int32 := c (6 + cl (c (33 + t)))
def trB (c : Nat → Int32) (t p : Nat) : Bool := hs (c (12 + p)) (c (33 + t))
abbrev onS (c : Nat → Int32) (tn : Nat) (p : Int32) : Int32 := orF (fun t => decide (c (42 + t) = p)) tn
abbrev goS (c : Nat → Int32) (tn : Nat) : Int32 := orF (goB c) tn
abbrev foS (c : Nat → Int32) (tn : Nat) : Int32 := orF (fun t => decide (c (60 + t) = nI 1)) tn
abbrev leS (c : Nat → Int32) (tn : Nat) : Int32 := orF (fun t => decide (c (51 + t) = nI 1)) tn
abbrev waS (c : Nat → Int32) (tn : Nat) (s : Int32) : Int32 := suF (fun t => if hs s (nI t) then wOf c t else nI 0) tn
abbrev alS (tn : Nat) : Int32 := nI (2 ^ tn - 1)
abbrev thS (c : Nat → Int32) (tn : Nat) : Int32 := waS c tn (alS tn &&& (goS c tn ^^^ (-1)))
theorem sh_pow : ∀ n, n ≤ 9 → nI 1 <<< (nI n &&& 31) = nI (2 ^ n) := by decide +kernel
theorem sh_pow1 : ∀ n, n ≤ 9 → nI 1 <<< (nI n &&& 31) - nI 1 = nI (2 ^ n - 1) := by decide +kernel
/-- whom a tin can be passed to at once -/
abbrev nxS (c : Nat → Int32) (pm : Nat) (t p : Nat) : Int32 := orF (fun q => hs (c (19 + p)) (nI q) && trB c t q) pm
def thatS (c : Nat → Int32) (tn w : Nat) : Int32 := if w = 0 then goS c tn else if w = 1 then foS c tn else leS c tn
/-- what many answers, and the status -/
def spMany (c : Nat → Int32) (tn : Nat) (w : Int32) : Option Int32 := match ix w 10 with
  | none => none
  | some j => some (if j < 6 then c j else if j < 9 then thatS c tn (j - 6) else thS c tn)
