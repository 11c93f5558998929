/-! ===== blocks of names; the model's state ===== -/
set_option maxRecDepth 100000
abbrev nm (b r : Nat) : Nat := 32 * b + r
/-- the heap h, but what stands in the block b -/
def hB (b : Nat) (f : Nat → Option xE) (h : xH) : xH := fun n => if n / 32 = b then f (n % 32) else h n
theorem hB_at {b r : Nat} {f : Nat → Option xE} {h : xH} (hr : r < 32) : hB b f h (nm b r) = f r := by
  unfold hB nm
  rw [if_pos (by omega), show (32 * b + r) % 32 = r by omega]
theorem hB_ne {b b' r : Nat} {f : Nat → Option xE} {h : xH} (hr : r < 32) (hb : b' ≠ b) : hB b f h (nm b' r) = h (nm b' r) := by
  unfold hB nm
  rw [if_neg (by omega)]
theorem hB_up {b r : Nat} {f g : Nat → Option xE} {h : xH} {e : xE} (hr : r < 32) (h1 : g r = some e) (h2 : ∀ q, q < 32 → q ≠ r → g q = f q) : xup (hB b f h) (nm b r) e = hB b g h := by
  funext n
  unfold xup hB nm
  by_cases e1 : n = 32 * b + r
  · rw [if_pos e1, if_pos (by omega), show n % 32 = r by omega, h1]
  · rw [if_neg e1]
    by_cases e2 : n / 32 = b
    · rw [if_pos e2, if_pos e2, h2 _ (Nat.mod_lt _ (by decide)) (by omega)]
    · rw [if_neg e2, if_neg e2]
theorem hB_hB {b : Nat} {f g : Nat → Option xE} {h : xH} : hB b f (hB b g h) = hB b f h := by
  funext n
  unfold hB
  by_cases e2 : n / 32 = b
  · rw [if_pos e2, if_pos e2]
  · rw [if_neg e2, if_neg e2, if_neg e2]
theorem hB_comm {b c : Nat} {f g : Nat → Option xE} {h : xH} (hbc : b ≠ c) : hB b f (hB c g h) = hB c g (hB b f h) := by
  funext n
  unfold hB
  by_cases e2 : n / 32 = b
  · rw [if_pos e2, if_neg (by omega), if_pos e2]
  · rw [if_neg e2]
    by_cases e3 : n / 32 = c
    · rw [if_pos e3, if_pos e3]
    · rw [if_neg e3, if_neg e3, if_neg e2]
/-- the model: its whole numbers, its longs, its arrays of ints (bytes, booleans), its arrays of longs -/
abbrev mS : Type := (Nat → Int32) × (Nat → Int64) × (Nat → Nat → Int32) × (Nat → Nat → Int64)
abbrev mfs (M : mS) : List Value := [.int (M.1 0), .int (M.1 1), .long (M.2.1 2), .long (M.2.1 3), .ref 33, .ref 34, .ref 35, .ref 36, .int (M.1 8), .int (M.1 9), .int (M.1 10), .int (M.1 11), .int (M.1 12), .int (M.1 13), .int (M.1 14), .int (M.1 15), .int (M.1 16), .int (M.1 17), .int (M.1 18), .long (M.2.1 19), .ref 37, .ref 38, .ref 39, .int (M.1 23), .int (M.1 24), .int (M.1 25), .ref 40, .ref 41, .ref 42, .int (M.1 29), .ref 43, .int (M.1 31), .int (M.1 32), .int (M.1 33), .ref 44, .int (M.1 35), .ref 45, .ref 46, .int (M.1 38), .int (M.1 39), .int (M.1 40), .int (M.1 41), .int (M.1 42), .int (M.1 43), .int (M.1 44), .int (M.1 45), .int (M.1 46)]
def mC (M : mS) (r : Nat) : Option xE := match r with
  | 0 => some (.inr (7, mfs M))
  | 1 => some (.inl (0, 4, .inl (M.2.2.1 1)))
  | 2 => some (.inl (0, 4, .inl (M.2.2.1 2)))
  | 3 => some (.inl (1, 240, .inr (.inl (M.2.2.2 3))))
  | 4 => some (.inl (2, 900, .inl (M.2.2.1 4)))
  | 5 => some (.inl (0, 1795, .inl (M.2.2.1 5)))
  | 6 => some (.inl (0, 87, .inl (M.2.2.1 6)))
  | 7 => some (.inl (1, 110, .inr (.inl (M.2.2.2 7))))
  | 8 => some (.inl (0, 7, .inl (M.2.2.1 8)))
  | 9 => some (.inl (0, 7, .inl (M.2.2.1 9)))
  | 10 => some (.inl (0, 7, .inl (M.2.2.1 10)))
  | 11 => some (.inl (0, 128, .inl (M.2.2.1 11)))
  | 12 => some (.inl (3, 64, .inl (M.2.2.1 12)))
  | 13 => some (.inl (1, 10, .inr (.inl (M.2.2.2 13))))
  | 14 => some (.inl (0, 5, .inl (M.2.2.1 14)))
  | _ => none
abbrev hM (M : mS) (R : xH) : xH := hB 1 (mC M) R
abbrev mI (M : mS) (k : Nat) (x : Int32) : mS := (upd M.1 k x, M.2.1, M.2.2.1, M.2.2.2)
abbrev mL (M : mS) (k : Nat) (x : Int64) : mS := (M.1, vp_updL M.2.1 k x, M.2.2.1, M.2.2.2)
def upA {α : Type} (f : Nat → α) (r : Nat) (x : α) : Nat → α := fun q => if q = r then x else f q
abbrev mA (M : mS) (r k : Nat) (x : Int32) : mS := (M.1, M.2.1, upA M.2.2.1 r (upd (M.2.2.1 r) k x), M.2.2.2)
abbrev mB (M : mS) (r k : Nat) (x : Int64) : mS := (M.1, M.2.1, M.2.2.1, upA M.2.2.2 r (vp_updL (M.2.2.2 r) k x))
theorem mC_I {M : mS} {k : Nat} {x : Int32} : ∀ q, q < 32 → q ≠ 0 → mC (mI M k x) q = mC M q := by
  intro q _ hq
  match q, hq with
  | 0, hq => exact absurd rfl hq

  | 1, _ => rfl
  | 2, _ => rfl
  | 3, _ => rfl
  | 4, _ => rfl
  | 5, _ => rfl
  | 6, _ => rfl
  | 7, _ => rfl
  | 8, _ => rfl
  | 9, _ => rfl
  | 10, _ => rfl
  | 11, _ => rfl
  | 12, _ => rfl
  | 13, _ => rfl
  | 14, _ => rfl
  | _ + 15, _ => rfl
theorem mC_L {M : mS} {k : Nat} {x : Int64} : ∀ q, q < 32 → q ≠ 0 → mC (mL M k x) q = mC M q := by
  intro q _ hq
  match q, hq with
  | 0, hq => exact absurd rfl hq
  | 1, _ => rfl
  | 2, _ => rfl
  | 3, _ => rfl
  | 4, _ => rfl
  | 5, _ => rfl
  | 6, _ => rfl
  | 7, _ => rfl
  | 8, _ => rfl
  | 9, _ => rfl
  | 10, _ => rfl
  | 11, _ => rfl
  | 12, _ => rfl
  | 13, _ => rfl
  | 14, _ => rfl
  | _ + 15, _ => rfl
theorem upA_s {α : Type} {f : Nat → α} {r : Nat} {x : α} : upA f r x r = x := if_pos rfl
theorem upA_n {α : Type} {f : Nat → α} {r q : Nat} {x : α} (h : q ≠ r) : upA f r x q = f q := if_neg h
theorem mC_A {M : mS} {r k : Nat} {x : Int32} (hr : r ≠ 0) : ∀ q, q < 32 → q ≠ r → mC (mA M r k x) q = mC M q := by
  intro q _ hq
  match q, hq with
  | 0, _ => rfl
  | 1, hq => simp only [mC, upA_n hq]
  | 2, hq => simp only [mC, upA_n hq]
  | 3, _ => rfl
  | 4, hq => simp only [mC, upA_n hq]
  | 5, hq => simp only [mC, upA_n hq]
  | 6, hq => simp only [mC, upA_n hq]
  | 7, _ => rfl
  | 8, hq => simp only [mC, upA_n hq]
  | 9, hq => simp only [mC, upA_n hq]
  | 10, hq => simp only [mC, upA_n hq]
  | 11, hq => simp only [mC, upA_n hq]
  | 12, hq => simp only [mC, upA_n hq]
  | 13, _ => rfl
  | 14, hq => simp only [mC, upA_n hq]
  | _ + 15, _ => rfl
theorem mC_B {M : mS} {r k : Nat} {x : Int64} (hr : r ≠ 0) : ∀ q, q < 32 → q ≠ r → mC (mB M r k x) q = mC M q := by
  intro q _ hq
  match q, hq with
  | 0, _ => rfl
  | 1, _ => rfl
  | 2, _ => rfl
  | 3, hq => simp only [mC, upA_n hq]
  | 4, _ => rfl
  | 5, _ => rfl
  | 6, _ => rfl
  | 7, hq => simp only [mC, upA_n hq]
  | 8, _ => rfl
  | 9, _ => rfl
  | 10, _ => rfl
  | 11, _ => rfl
  | 12, _ => rfl
  | 13, hq => simp only [mC, upA_n hq]
  | 14, _ => rfl
  | _ + 15, _ => rfl
section XM
variable {Γ : xG} {cc : ByteArray} {kc ks pc : Nat} {l : List (Option Value)} {st : List Value} {M : mS} {R : xH}
theorem m_puti {index k : Nat} {ty : FieldType} {x : Int32} {ini : Bool} (G : xPut RX8 index 7 k ty ini) (ho : gown Γ = RX8) (hi : gini Γ = ini) (d : decode cc pc = .ok (.putfield index, 3)) (hn : narrow ty (.int x) = .int x) (hf : fits ty (.int x) = true) (hk : k < 47) (hs : (mfs M).set k (.int x) = mfs (mI M k x)) (kk : AW Γ cc kc ks (pc + 3) l st (hM (mI M k x) R)) : AW Γ cc kc ks pc l (.int x :: .ref 32 :: st) (hM M R) := by
  refine x_putf G ho hi d (hB_at (b := 1) (r := 0) (by decide)) trivial hn hf hk ?_
  have e : xup (hM M R) 32 (.inr (7, (mfs M).set k (.int x))) = hM (mI M k x) R := hB_up (b := 1) (r := 0) (by decide) (by rw [hs]; rfl) mC_I
  rw [e]
  exact kk
theorem m_putl {index k : Nat} {x : Int64} {ini : Bool} (G : xPut RX8 index 7 k .long ini) (ho : gown Γ = RX8) (hi : gini Γ = ini) (d : decode cc pc = .ok (.putfield index, 3)) (hk : k < 47) (hs : (mfs M).set k (.long x) = mfs (mL M k x)) (kk : AW Γ cc kc ks (pc + 3) l st (hM (mL M k x) R)) : AW Γ cc kc ks pc l (.long x :: .ref 32 :: st) (hM M R) := by
  refine x_putf G ho hi d (hB_at (b := 1) (r := 0) (by decide)) trivial rfl rfl hk ?_
  have e : xup (hM M R) 32 (.inr (7, (mfs M).set k (.long x))) = hM (mL M k x) R := hB_up (b := 1) (r := 0) (by decide) (by rw [hs]; rfl) mC_L
  rw [e]
  exact kk
/-- a store into the array r of ints -/
theorem m_iast {r k n : Nat} {i x : Int32} (d : decode cc pc = .ok (.iastore, 1)) (hr : r < 32) (hr0 : r ≠ 0) (hc : ∀ M : mS, mC M r = some (.inl (0, n, .inl (M.2.2.1 r)))) (hi : i = nI k) (hk : k < n) (hn : n ≤ 1000000) (kk : AW Γ cc kc ks (pc + 1) l st (hM (mA M r k x) R)) : AW Γ cc kc ks pc l (.int x :: .int i :: .ref (32 + r) :: st) (hM M R) := by
  refine x_iast d ((hB_at (b := 1) hr).trans (hc M)) hi hk hn ?_
  have e : xup (hM M R) (32 + r) (.inl (0, n, .inl (upd (M.2.2.1 r) k x))) = hM (mA M r k x) R := hB_up (b := 1) hr (by rw [hc]; dsimp only [mA]; rw [upA_s]) (mC_A hr0)
  rw [e]
  exact kk
theorem m_bast {r k n : Nat} {i x : Int32} (d : decode cc pc = .ok (.bastore, 1)) (hr : r < 32) (hr0 : r ≠ 0) (hc : ∀ M : mS, mC M r = some (.inl (2, n, .inl (M.2.2.1 r)))) (hi : i = nI k) (hk : k < n) (hn : n ≤ 1000000) (kk : AW Γ cc kc ks (pc + 1) l st (hM (mA M r k x.toInt8.toInt32) R)) : AW Γ cc kc ks pc l (.int x :: .int i :: .ref (32 + r) :: st) (hM M R) := by
  refine x_bast d ((hB_at (b := 1) hr).trans (hc M)) hi hk hn ?_
  have e : xup (hM M R) (32 + r) (.inl (2, n, .inl (upd (M.2.2.1 r) k x.toInt8.toInt32))) = hM (mA M r k x.toInt8.toInt32) R := hB_up (b := 1) hr (by rw [hc]; dsimp only [mA]; rw [upA_s]) (mC_A hr0)
  rw [e]
  exact kk
theorem m_zast {r k n : Nat} {i x : Int32} (hx : narrow .boolean (.int x) = .int x) (d : decode cc pc = .ok (.bastore, 1)) (hr : r < 32) (hr0 : r ≠ 0) (hc : ∀ M : mS, mC M r = some (.inl (3, n, .inl (M.2.2.1 r)))) (hi : i = nI k) (hk : k < n) (hn : n ≤ 1000000) (kk : AW Γ cc kc ks (pc + 1) l st (hM (mA M r k x) R)) : AW Γ cc kc ks pc l (.int x :: .int i :: .ref (32 + r) :: st) (hM M R) := by
  refine x_zast hx d ((hB_at (b := 1) hr).trans (hc M)) hi hk hn ?_
  have e : xup (hM M R) (32 + r) (.inl (3, n, .inl (upd (M.2.2.1 r) k x))) = hM (mA M r k x) R := hB_up (b := 1) hr (by rw [hc]; dsimp only [mA]; rw [upA_s]) (mC_A hr0)
  rw [e]
  exact kk
theorem m_last {r k n : Nat} {i : Int32} {x : Int64} (d : decode cc pc = .ok (.lastore, 1)) (hr : r < 32) (hr0 : r ≠ 0) (hc : ∀ M : mS, mC M r = some (.inl (1, n, .inr (.inl (M.2.2.2 r))))) (hi : i = nI k) (hk : k < n) (hn : n ≤ 1000000) (kk : AW Γ cc kc ks (pc + 1) l st (hM (mB M r k x) R)) : AW Γ cc kc ks pc l (.long x :: .int i :: .ref (32 + r) :: st) (hM M R) := by
  refine x_last d ((hB_at (b := 1) hr).trans (hc M)) hi hk hn ?_
  have e : xup (hM M R) (32 + r) (.inl (1, n, .inr (.inl (vp_updL (M.2.2.2 r) k x)))) = hM (mB M r k x) R := hB_up (b := 1) hr (by rw [hc]; dsimp only [mB]; rw [upA_s]) (mC_B hr0)
  rw [e]
  exact kk
end XM
theorem ms_0 (M : mS) (x : Int32) : (mfs M).set 0 (.int x) = mfs (mI M 0 x) := rfl
theorem ms_1 (M : mS) (x : Int32) : (mfs M).set 1 (.int x) = mfs (mI M 1 x) := rfl
theorem ms_2 (M : mS) (x : Int64) : (mfs M).set 2 (.long x) = mfs (mL M 2 x) := rfl
theorem ms_3 (M : mS) (x : Int64) : (mfs M).set 3 (.long x) = mfs (mL M 3 x) := rfl
theorem ms_8 (M : mS) (x : Int32) : (mfs M).set 8 (.int x) = mfs (mI M 8 x) := rfl
theorem ms_9 (M : mS) (x : Int32) : (mfs M).set 9 (.int x) = mfs (mI M 9 x) := rfl
theorem ms_10 (M : mS) (x : Int32) : (mfs M).set 10 (.int x) = mfs (mI M 10 x) := rfl
theorem ms_11 (M : mS) (x : Int32) : (mfs M).set 11 (.int x) = mfs (mI M 11 x) := rfl
theorem ms_12 (M : mS) (x : Int32) : (mfs M).set 12 (.int x) = mfs (mI M 12 x) := rfl
theorem ms_13 (M : mS) (x : Int32) : (mfs M).set 13 (.int x) = mfs (mI M 13 x) := rfl
theorem ms_14 (M : mS) (x : Int32) : (mfs M).set 14 (.int x) = mfs (mI M 14 x) := rfl
theorem ms_15 (M : mS) (x : Int32) : (mfs M).set 15 (.int x) = mfs (mI M 15 x) := rfl
theorem ms_16 (M : mS) (x : Int32) : (mfs M).set 16 (.int x) = mfs (mI M 16 x) := rfl
theorem ms_17 (M : mS) (x : Int32) : (mfs M).set 17 (.int x) = mfs (mI M 17 x) := rfl
theorem ms_18 (M : mS) (x : Int32) : (mfs M).set 18 (.int x) = mfs (mI M 18 x) := rfl
theorem ms_19 (M : mS) (x : Int64) : (mfs M).set 19 (.long x) = mfs (mL M 19 x) := rfl
theorem ms_23 (M : mS) (x : Int32) : (mfs M).set 23 (.int x) = mfs (mI M 23 x) := rfl
theorem ms_24 (M : mS) (x : Int32) : (mfs M).set 24 (.int x) = mfs (mI M 24 x) := rfl
theorem ms_25 (M : mS) (x : Int32) : (mfs M).set 25 (.int x) = mfs (mI M 25 x) := rfl
theorem ms_29 (M : mS) (x : Int32) : (mfs M).set 29 (.int x) = mfs (mI M 29 x) := rfl
theorem ms_31 (M : mS) (x : Int32) : (mfs M).set 31 (.int x) = mfs (mI M 31 x) := rfl
theorem ms_32 (M : mS) (x : Int32) : (mfs M).set 32 (.int x) = mfs (mI M 32 x) := rfl
theorem ms_33 (M : mS) (x : Int32) : (mfs M).set 33 (.int x) = mfs (mI M 33 x) := rfl
theorem ms_35 (M : mS) (x : Int32) : (mfs M).set 35 (.int x) = mfs (mI M 35 x) := rfl
theorem ms_38 (M : mS) (x : Int32) : (mfs M).set 38 (.int x) = mfs (mI M 38 x) := rfl
theorem ms_39 (M : mS) (x : Int32) : (mfs M).set 39 (.int x) = mfs (mI M 39 x) := rfl
theorem ms_40 (M : mS) (x : Int32) : (mfs M).set 40 (.int x) = mfs (mI M 40 x) := rfl
theorem ms_41 (M : mS) (x : Int32) : (mfs M).set 41 (.int x) = mfs (mI M 41 x) := rfl
theorem ms_42 (M : mS) (x : Int32) : (mfs M).set 42 (.int x) = mfs (mI M 42 x) := rfl
theorem ms_43 (M : mS) (x : Int32) : (mfs M).set 43 (.int x) = mfs (mI M 43 x) := rfl
theorem ms_44 (M : mS) (x : Int32) : (mfs M).set 44 (.int x) = mfs (mI M 44 x) := rfl
theorem ms_45 (M : mS) (x : Int32) : (mfs M).set 45 (.int x) = mfs (mI M 45 x) := rfl
theorem ms_46 (M : mS) (x : Int32) : (mfs M).set 46 (.int x) = mfs (mI M 46 x) := rfl
