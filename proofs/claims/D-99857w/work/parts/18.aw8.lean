/-! ===== more rows: truth values, loops with an invariant; numbers ===== -/
set_option maxRecDepth 100000
def xb (b : Bool) : Int32 := if b then nI 1 else nI 0
theorem xb_t {b : Bool} (h : b = true) : xb b = nI 1 := by rw [h]; rfl
theorem xb_f {b : Bool} (h : b = false) : xb b = nI 0 := by rw [h]; rfl
theorem xb_n (b : Bool) : narrow .boolean (.int (xb b)) = .int (xb b) := by cases b <;> rfl
theorem xb_fit (b : Bool) : fits .boolean (.int (xb b)) = true := by cases b <;> rfl
theorem xb_0 {b : Bool} : xb b = 0 ↔ b = false := by cases b <;> decide +kernel
theorem xb_eq {a b : Bool} : xb a = xb b ↔ a = b := by cases a <;> cases b <;> decide +kernel
theorem m1_toInt : (-1 : Int32).toInt = -1 := by decide +kernel
theorem nI_lt0 {n : Nat} (h : n < 2 ^ 31) : (nI n < 0) ↔ False := ⟨fun q => nI_pos h q, fun q => q.elim⟩
theorem nI_ge0 {n : Nat} (h : n < 2 ^ 31) : (0 ≤ nI n) ↔ True := ⟨fun _ => trivial, fun _ => nI_pos' h⟩
theorem nI_le0 {n : Nat} (h : n < 2 ^ 31) : (nI n ≤ 0) ↔ n = 0 := (nI_leI h (show 0 < 2 ^ 31 by decide)).trans Nat.le_zero
theorem nI_gt0 {n : Nat} (h : n < 2 ^ 31) : (0 < nI n) ↔ 0 < n := nI_ltI (show 0 < 2 ^ 31 by decide) h
theorem nI_e0 {n : Nat} (h : n < 2 ^ 31) : (nI n = 0) ↔ n = 0 := nI_eq h (show 0 < 2 ^ 31 by decide)
theorem nI_m1 {n : Nat} (h : n < 2 ^ 31) : (nI n = -1) ↔ False := by
  refine ⟨fun q => ?_, fun q => q.elim⟩
  have h1 := nI_toInt h
  rw [q] at h1
  have h2 : (-1 : Int32).toInt = -1 := by decide +kernel
  omega
theorem m1_nI {n : Nat} (h : n < 2 ^ 31) : (-1 = nI n) ↔ False := ⟨fun q => (nI_m1 h).mp q.symm, fun q => q.elim⟩
theorem m1_lt0 : ((-1 : Int32) < 0) ↔ True := by decide +kernel
theorem nI_le_m1 {n : Nat} (h : n < 2 ^ 31) : (nI n ≤ -1) ↔ False := ⟨fun q => by
  rw [Int32.le_iff_toInt_le, nI_toInt h] at q
  have h2 : (-1 : Int32).toInt = -1 := by decide +kernel
  omega, fun q => q.elim⟩
theorem lN_leI {a b : Nat} (ha : a < 2 ^ 63) (hb : b < 2 ^ 63) : lN a ≤ lN b ↔ a ≤ b := pk_lLE ha hb
theorem lN_ltI {a b : Nat} (ha : a < 2 ^ 63) (hb : b < 2 ^ 63) : lN a < lN b ↔ a < b := pk_lLT ha hb
theorem lN_eqI {a b : Nat} (ha : a < 2 ^ 63) (hb : b < 2 ^ 63) : lN a = lN b ↔ a = b := pk_lEQ ha hb
/-- a place of n: the number, if it is in range -/
def ix (w : Int32) (n : Nat) : Option Nat := if 0 ≤ w.toInt ∧ w.toInt < n then some w.toInt.toNat else none
theorem ix_some {w : Int32} {n j : Nat} (h : ix w n = some j) (hn : n ≤ 2 ^ 31) : w = nI j ∧ j < n := by
  unfold ix at h
  split at h
  · rename_i q
    cases h
    refine ⟨?_, by omega⟩
    apply Int32.toInt_inj.mp
    rw [nI_toInt (by omega)]
    omega
  · cases h
theorem ix_none {w : Int32} {n : Nat} (h : ix w n = none) : w.toInt < 0 ∨ (n : Int) ≤ w.toInt := by
  unfold ix at h
  split at h
  · cases h
  · omega
theorem ix_nI {n j : Nat} (h : j < n) (hn : n ≤ 2 ^ 31) : ix (nI j) n = some j := by
  unfold ix
  rw [nI_toInt (by omega), if_pos (by omega)]
  congr 1
theorem ix_nI' {n j : Nat} (h : n ≤ j) (hj : j < 2 ^ 31) : ix (nI j) n = none := by
  unfold ix
  rw [nI_toInt (by omega), if_neg (by omega)]
theorem i64_toInt (x : Int32) : x.toInt64.toInt = x.toInt := Int32.toInt_toInt64 x
theorem lN0_le {x : Int32} : (lN 0 ≤ x.toInt64) ↔ 0 ≤ x.toInt := by
  rw [Int64.le_iff_toInt_le, i64_toInt, pk_lT (by decide)]
  rfl
theorem le_lN {x : Int32} {n : Nat} (h : n < 2 ^ 63) : (x.toInt64 ≤ lN n) ↔ x.toInt ≤ n := by
  rw [Int64.le_iff_toInt_le, i64_toInt, pk_lT h]
theorem ix_lt0 {w : Int32} : (w < 0) ↔ w.toInt < 0 := by rw [Int32.lt_iff_toInt_lt]; rfl
theorem ix_ge {w : Int32} {n : Nat} (h : n < 2 ^ 31) : (nI n ≤ w) ↔ (n : Int) ≤ w.toInt := by rw [Int32.le_iff_toInt_le, nI_toInt h]
theorem ix_gt {w : Int32} {n : Nat} (h : n < 2 ^ 31) : (nI n < w) ↔ (n : Int) < w.toInt := by rw [Int32.lt_iff_toInt_lt, nI_toInt h]
theorem ix_lt {w : Int32} {n : Nat} (h : n < 2 ^ 31) : (w < nI n) ↔ w.toInt < n := by rw [Int32.lt_iff_toInt_lt, nI_toInt h]
theorem ix_le {w : Int32} {n : Nat} (h : n < 2 ^ 31) : (w ≤ nI n) ↔ w.toInt ≤ n := by rw [Int32.le_iff_toInt_le, nI_toInt h]
theorem ix_eq {w : Int32} {n : Nat} (h : n < 2 ^ 31) : (w = nI n) ↔ w.toInt = n := by rw [← Int32.toInt_inj, nI_toInt h]
section XB
variable {Γ : xG} {cc : ByteArray} {kc ks pc : Nat} {l : List (Option Value)} {st : List Value} {h : xH}
theorem x_ifb_eq {b : Bool} {off : Int} {tgt : Nat} (d : decode cc pc = .ok (.ifCond .eq off, 3)) (ht : (pc : Int) + off = (tgt : Int)) (kt : b = false → AW Γ cc kc ks tgt l st h) (kf : b = true → AW Γ cc kc ks (pc + 3) l st h) : AW Γ cc kc ks pc l (.int (xb b) :: st) h :=
  x_if_eq d ht (fun q => kt (xb_0.mp q)) (fun q => kf (by cases b; exact absurd rfl q; rfl))
theorem x_ifb_ne {b : Bool} {off : Int} {tgt : Nat} (d : decode cc pc = .ok (.ifCond .ne off, 3)) (ht : (pc : Int) + off = (tgt : Int)) (kt : b = true → AW Γ cc kc ks tgt l st h) (kf : b = false → AW Γ cc kc ks (pc + 3) l st h) : AW Γ cc kc ks pc l (.int (xb b) :: st) h :=
  x_if_ne d ht (fun q => kt (by cases b; exact absurd rfl q; rfl)) (fun q => kf (xb_0.mp q))
theorem x_forP {n : Nat} (P : Nat → Prop) (S : Nat → List (Option Value)) (T : Nat → List Value) (U : Nat → xH) (h0 : P 0) (hx : P n → AW Γ cc kc ks pc (S n) (T n) (U n)) (hb : ∀ i, i < n → P i → (P (i + 1) → AW Γ cc kc ks pc (S (i + 1)) (T (i + 1)) (U (i + 1))) → AW Γ cc kc ks pc (S i) (T i) (U i)) : AW Γ cc kc ks pc (S 0) (T 0) (U 0) := by
  have : ∀ k, k ≤ n → P (n - k) → AW Γ cc kc ks pc (S (n - k)) (T (n - k)) (U (n - k)) := by
    intro k
    induction k with
    | zero => intro _ q; exact hx q
    | succ k ih =>
      intro hk q
      have h1 := ih (by omega)
      rw [show n - k = n - (k + 1) + 1 by omega] at h1
      exact hb _ (by omega) q h1
  have h2 := this n (Nat.le_refl _)
  rw [Nat.sub_self] at h2
  exact h2 h0
theorem x_wh {σ : Type} (S : σ → List (Option Value)) (T : σ → List Value) (U : σ → xH) (I : σ → Prop) (μ : σ → Nat) (s : σ) (h0 : I s) (hb : ∀ s, I s → (∀ s', I s' → μ s' < μ s → AW Γ cc kc ks pc (S s') (T s') (U s')) → AW Γ cc kc ks pc (S s) (T s) (U s)) : AW Γ cc kc ks pc (S s) (T s) (U s) := by
  have : ∀ k s, μ s ≤ k → I s → AW Γ cc kc ks pc (S s) (T s) (U s) := by
    intro k
    induction k with
    | zero => intro s h1 h2; exact hb s h2 (fun s' _ h4 => absurd h4 (by omega))
    | succ k ih => intro s h1 h2; exact hb s h2 (fun s' h3 h4 => ih s' (by omega) h3)
  exact this _ s (Nat.le_refl _) h0
theorem x_i2lN {n : Nat} (hn : n < 2 ^ 31) (d : decode cc pc = .ok (.i2l, 1)) (k : AW Γ cc kc ks (pc + 1) l (.long (lN n) :: st) h) : AW Γ cc kc ks pc l (.int (nI n) :: st) h := x_i2l d (x_lval (nI_l hn) k)
theorem x_l2iN {n : Nat} (d : decode cc pc = .ok (.l2i, 1)) (k : AW Γ cc kc ks (pc + 1) l (.int (nI n) :: st) h) : AW Γ cc kc ks pc l (.long (lN n) :: st) h := x_l2i d (x_ival (lN_i n) k)
theorem x_laddN {a b : Nat} (d : decode cc pc = .ok (.ladd, 1)) (k : AW Γ cc kc ks (pc + 1) l (.long (lN (a + b)) :: st) h) : AW Γ cc kc ks pc l (.long (lN b) :: .long (lN a) :: st) h := x_ladd d (x_lval (lN_add a b) k)
theorem x_lmulN {a b : Nat} (d : decode cc pc = .ok (.lmul, 1)) (k : AW Γ cc kc ks (pc + 1) l (.long (lN (a * b)) :: st) h) : AW Γ cc kc ks pc l (.long (lN b) :: .long (lN a) :: st) h := x_lmul d (x_lval (lN_mul a b) k)
theorem x_lsubN {a b : Nat} (hb : b ≤ a) (d : decode cc pc = .ok (.lsub, 1)) (k : AW Γ cc kc ks (pc + 1) l (.long (lN (a - b)) :: st) h) : AW Γ cc kc ks pc l (.long (lN b) :: .long (lN a) :: st) h := x_lsub d (x_lval (lN_sub hb) k)
theorem lN_ne0 {b : Nat} (h0 : 0 < b) (hb : b < 2 ^ 63) : ¬ lN b = 0 := fun q => by have := (pk_lEQ (a := b) (b := 0) hb (by decide)).mp q; omega
theorem x_ldivN {a b : Nat} (h0 : 0 < b) (ha : a < 2 ^ 63) (hb : b < 2 ^ 63) (d : decode cc pc = .ok (.ldiv, 1)) (k : AW Γ cc kc ks (pc + 1) l (.long (lN (a / b)) :: st) h) : AW Γ cc kc ks pc l (.long (lN b) :: .long (lN a) :: st) h := x_ldiv (lN_ne0 h0 hb) d (x_lval (pk_lDiv ha h0 hb) k)
theorem x_lremN {a b : Nat} (h0 : 0 < b) (ha : a < 2 ^ 63) (hb : b < 2 ^ 63) (d : decode cc pc = .ok (.lrem, 1)) (k : AW Γ cc kc ks (pc + 1) l (.long (lN (a % b)) :: st) h) : AW Γ cc kc ks pc l (.long (lN b) :: .long (lN a) :: st) h := x_lrem (lN_ne0 h0 hb) d (x_lval (pk_lRem ha h0 hb) k)
theorem x_idivN {a b : Nat} (h0 : 0 < b) (ha : a < 2 ^ 31) (hb : b < 2 ^ 31) (d : decode cc pc = .ok (.idiv, 1)) (k : AW Γ cc kc ks (pc + 1) l (.int (nI (a / b)) :: st) h) : AW Γ cc kc ks pc l (.int (nI b) :: .int (nI a) :: st) h := x_idiv (nI_ne0 h0 hb) d (x_ival (pk_div ha h0 hb) k)
theorem x_iremN {a b : Nat} (h0 : 0 < b) (ha : a < 2 ^ 31) (hb : b < 2 ^ 31) (d : decode cc pc = .ok (.irem, 1)) (k : AW Γ cc kc ks (pc + 1) l (.int (nI (a % b)) :: st) h) : AW Γ cc kc ks pc l (.int (nI b) :: .int (nI a) :: st) h := x_irem (nI_ne0 h0 hb) d (x_ival (pk_rem ha h0 hb) k)
end XB
