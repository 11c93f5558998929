/-! ===== pure words: what the methods compute ===== -/
set_option maxRecDepth 100000
def hs (x k : Int32) : Bool := decide ((x >>> (k &&& 31)) &&& nI 1 = nI 1)
/-- how many of the first n bits are set -/
def szF (x : Int32) : Nat → Nat
  | 0 => 0
  | n + 1 => szF x n + (if hs x (nI n) then 1 else 0)
theorem szF_le (x : Int32) : ∀ n, szF x n ≤ n
  | 0 => Nat.le_refl _
  | n + 1 => by have := szF_le x n; unfold szF; split <;> omega
/-- the set of the places at which f holds -/
def orF (f : Nat → Bool) : Nat → Int32
  | 0 => nI 0
  | n + 1 => orF f n ||| (if f n then nI 1 <<< (nI n &&& 31) else nI 0)
def suF (f : Nat → Int32) : Nat → Int32
  | 0 => nI 0
  | n + 1 => suF f n + f n
def cutS (so : Int32) (v : Int64) : Int64 := if so = 0 then v.toInt32.toInt8.toInt32.toInt64 else if so = nI 1 then v.toInt32.toInt16.toInt32.toInt64 else if so = nI 2 then v.toInt32.toInt64 else v
def inS (x a b : Int64) : Bool := decide (a ≤ x ∧ x ≤ b)
theorem inS_ix {w : Int32} {n : Nat} (hn : n < 2 ^ 31) : inS w.toInt64 (lN 0) (lN n) = (ix w (n + 1)).isSome := by
  unfold inS ix
  by_cases h : 0 ≤ w.toInt ∧ w.toInt < (n + 1 : Nat)
  · rw [if_pos h]
    exact decide_eq_true ⟨lN0_le.mpr h.1, (le_lN (by omega)).mpr (by omega)⟩
  · rw [if_neg h]
    refine decide_eq_false fun q => h ⟨lN0_le.mp q.1, ?_⟩
    have := (le_lN (by omega)).mp q.2
    omega
/-- whole numbers of the model that a text leaves: only arrays of longs -/
abbrev mSA (M : mS) (r : Nat) (f : Nat → Int32) : mS := (M.1, M.2.1, upA M.2.2.1 r f, M.2.2.2)
abbrev mSB (M : mS) (r : Nat) (f : Nat → Int64) : mS := (M.1, M.2.1, M.2.2.1, upA M.2.2.2 r f)
theorem upA_upA {α : Type} {f : Nat → α} {r : Nat} {x y : α} : upA (upA f r x) r y = upA f r y := by
  funext q
  unfold upA
  split <;> rfl
theorem upA_id {α : Type} {f : Nat → α} {r : Nat} : upA f r (f r) = f := by
  funext q
  unfold upA
  split
  · rename_i h; rw [h]
  · rfl
theorem mA_SA {M : mS} {r k : Nat} {f : Nat → Int32} {x : Int32} : mA (mSA M r f) r k x = mSA M r (upd f k x) := by
  dsimp only [mA, mSA]
  rw [upA_upA, upA_s]
theorem mB_SB {M : mS} {r k : Nat} {f : Nat → Int64} {x : Int64} : mB (mSB M r f) r k x = mSB M r (vp_updL f k x) := by
  dsimp only [mB, mSB]
  rw [upA_upA, upA_s]
theorem upd_upd {f : Nat → Int32} {k : Nat} {x y : Int32} : upd (upd f k x) k y = upd f k y := by
  funext j
  unfold upd
  split <;> rfl
theorem mI_mI {M : mS} {k : Nat} {x y : Int32} : mI (mI M k x) k y = mI M k y := by
  dsimp only [mI]
  rw [upd_upd]
theorem mSA_id {M : mS} {r : Nat} : mSA M r (M.2.2.1 r) = M := by dsimp only [mSA]; rw [upA_id]
theorem mSB_id {M : mS} {r : Nat} : mSB M r (M.2.2.2 r) = M := by dsimp only [mSB]; rw [upA_id]
/-- n places from a on get the value v -/
def fil {α : Type} (f : Nat → α) (a n : Nat) (v : α) : Nat → α := fun j => if a ≤ j ∧ j < a + n then v else f j
theorem fil_0 {α : Type} {f : Nat → α} {a : Nat} {v : α} : fil f a 0 v = f := by
  funext j
  unfold fil
  rw [if_neg (by omega)]
theorem filI_s {f : Nat → Int32} {a n : Nat} {v : Int32} : upd (fil f a n v) (a + n) v = fil f a (n + 1) v := by
  funext j
  unfold upd fil
  by_cases h : j = a + n
  · rw [if_pos h, if_pos (by omega)]
  · rw [if_neg h]
    by_cases h2 : a ≤ j ∧ j < a + n
    · rw [if_pos h2, if_pos (by omega)]
    · rw [if_neg h2, if_neg (by omega)]
theorem filL_s {f : Nat → Int64} {a n : Nat} {v : Int64} : vp_updL (fil f a n v) (a + n) v = fil f a (n + 1) v := by
  funext j
  unfold vp_updL fil
  by_cases h : j = a + n
  · rw [if_pos h, if_pos (by omega)]
  · rw [if_neg h]
    by_cases h2 : a ≤ j ∧ j < a + n
    · rw [if_pos h2, if_pos (by omega)]
    · rw [if_neg h2, if_neg (by omega)]
abbrev cl (x : Int32) : Nat := x.toNatClampNeg
theorem cl_nI {n : Nat} (h : n < 2 ^ 31) : cl (nI n) = n := nI_clamp h
def trayedS (tm : Nat → Int32) (tr : Int32) : Nat := match ix tr 4 with
  | none => 1
  | some t => if 0 ≤ tm t then 0 else 3
theorem ix_or (w : Int32) {n : Nat} (hn : n ≤ 2 ^ 31) : (ix w n = none ∧ (w.toInt < 0 ∨ (n : Int) ≤ w.toInt)) ∨ ∃ t, t < n ∧ w = nI t ∧ ix w n = some t := by
  cases h : ix w n with
  | none => exact Or.inl ⟨rfl, ix_none h⟩
  | some t => exact Or.inr ⟨t, (ix_some h hn).2, (ix_some h hn).1, rfl⟩
theorem ix_by (w : Int32) {n : Nat} (hn : n ≤ 2 ^ 31) (P : Nat → Prop) : (ix w n = none ∧ (w.toInt < 0 ∨ (n : Int) ≤ w.toInt)) ∨ (∃ t, t < n ∧ w = nI t ∧ ix w n = some t ∧ P t) ∨ ∃ t, t < n ∧ w = nI t ∧ ix w n = some t ∧ ¬ P t := by
  rcases ix_or w hn with h | ⟨t, h1, h2, h3⟩
  · exact Or.inl h
  · by_cases hp : P t
    · exact Or.inr (Or.inl ⟨t, h1, h2, h3, hp⟩)
    · exact Or.inr (Or.inr ⟨t, h1, h2, h3, hp⟩)
/-- a place of a tray: 0, or what is wrong -/
def placedS (tm : Nat → Int32) (tr k : Int32) : Nat := match ix tr 4 with
  | none => 1
  | some t => if 0 ≤ tm t then (if k < 0 then 4 else if k < tm t then 0 else 4) else 3
/-- the trays' lengths -/
def wT (tm : Nat → Int32) : Prop := ∀ t, t < 4 → tm t = -1 ∨ ∃ n, n ≤ 60 ∧ tm t = nI n
theorem ix_m1 {n : Nat} : ix (-1) n = none := by
  unfold ix
  rw [m1_toInt, if_neg (by omega)]
theorem wT_pos {tm : Nat → Int32} (h : wT tm) {t : Nat} (ht : t < 4) (h0 : 0 ≤ tm t) : ∃ n, n ≤ 60 ∧ tm t = nI n := by
  rcases h t ht with e | e
  · rw [e] at h0
    exact absurd h0 (by decide +kernel)
  · exact e
theorem placedS_0 {tm : Nat → Int32} {tr k : Int32} (h : placedS tm tr k = 0) (hT : wT tm) : ∃ t j n, t < 4 ∧ tr = nI t ∧ k = nI j ∧ tm t = nI n ∧ j < n ∧ n ≤ 60 := by
  unfold placedS at h
  cases hx : ix tr 4 with
  | none => simp [hx] at h
  | some t =>
    obtain ⟨e, ht⟩ := ix_some hx (by decide)
    simp only [hx] at h
    by_cases h0 : 0 ≤ tm t
    · rw [if_pos h0] at h
      obtain ⟨n, hn, en⟩ := wT_pos hT ht h0
      by_cases h1 : k < 0
      · rw [if_pos h1] at h; cases h
      · rw [if_neg h1] at h
        by_cases h2 : k < tm t
        · rw [en] at h2
          obtain ⟨j, hj, ej⟩ := nI_of h1
          rw [ej, nI_ltI hj (by omega)] at h2
          exact ⟨t, j, n, ht, e, ej, en, h2, hn⟩
        · rw [if_neg h2] at h; cases h
    · rw [if_neg h0] at h; cases h
theorem placedS_in {tm : Nat → Int32} {t j n : Nat} (ht : t < 4) (e : tm t = nI n) (hj : j < n) (hn : n ≤ 60) : placedS tm (nI t) (nI j) = 0 := by
  unfold placedS
  simp only [ix_nI ht (by decide), e]
  rw [if_pos (nI_pos' (by omega)), if_neg (nI_pos (by omega)), if_pos (nI_lt hj (by omega))]
theorem placedS_le {tm : Nat → Int32} {tr k : Int32} : placedS tm tr k ≤ 4 := by
  unfold placedS
  split
  · omega
  · split
    · split
      · omega
      · split <;> omega
    · omega
/-- the model behind write -/
def wrM (M : mS) (tr k : Int32) (v : Int64) : mS := if placedS (M.2.2.1 2) tr k = 0 then mB (mI (mI M 1 (nI 0)) 0 (nI 0)) 3 (60 * cl tr + cl k) (cutS (M.2.2.1 1 (cl tr)) v) else mI (mI M 1 (nI 0)) 0 (nI (placedS (M.2.2.1 2) tr k))
/-- the model behind tray -/
def spTray (tr so mn : Int32) : Nat := if tr < 0 then 1 else if nI 4 ≤ tr then 1 else if so < 0 then 1 else if nI 3 < so then 1 else if nI 60 < mn then 5 else if mn < 0 then 6 else 0
def trM (M : mS) (tr so mn : Int32) : mS := if spTray tr so mn = 0 then mSB (mA (mA (mI (mI M 1 (nI 0)) 0 (nI 0)) 1 (cl tr) so) 2 (cl tr) mn) 3 (fil (M.2.2.2 3) (60 * cl tr) (cl mn) (lN 0)) else mI (mI M 1 (nI 0)) 0 (nI (spTray tr so mn))
theorem spTray_0 {tr so mn : Int32} (h : spTray tr so mn = 0) : ∃ t s n, t < 4 ∧ s < 4 ∧ n ≤ 60 ∧ tr = nI t ∧ so = nI s ∧ mn = nI n := by
  unfold spTray at h
  by_cases h1 : tr < 0
  · rw [if_pos h1] at h; cases h
  rw [if_neg h1] at h
  by_cases h2 : nI 4 ≤ tr
  · rw [if_pos h2] at h; cases h
  rw [if_neg h2] at h
  by_cases h3 : so < 0
  · rw [if_pos h3] at h; cases h
  rw [if_neg h3] at h
  by_cases h4 : nI 3 < so
  · rw [if_pos h4] at h; cases h
  rw [if_neg h4] at h
  by_cases h5 : nI 60 < mn
  · rw [if_pos h5] at h; cases h
  rw [if_neg h5] at h
  by_cases h6 : mn < 0
  · rw [if_pos h6] at h; cases h
  obtain ⟨t, ht, rfl⟩ := nI_of h1
  obtain ⟨s, hs, rfl⟩ := nI_of h3
  obtain ⟨n, hn, rfl⟩ := nI_of h6
  rw [nI_leI (by omega) ht] at h2
  rw [nI_ltI (by omega) hs] at h4
  rw [nI_ltI (by omega) hn] at h5
  exact ⟨t, s, n, by omega, by omega, by omega, rfl, rfl, rfl⟩
theorem spTray_in {t s n : Nat} (ht : t < 4) (hs : s < 4) (hn : n ≤ 60) : spTray (nI t) (nI s) (nI n) = 0 := by
  unfold spTray
  rw [if_neg (nI_pos (by omega)), if_neg (nI_ge ht (by omega)), if_neg (nI_pos (by omega)), if_neg (nI_nlt (by omega) (by omega)), if_neg (nI_nlt hn (by omega)), if_neg (nI_pos (by omega))]
