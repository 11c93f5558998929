/-! ===== what is done at a fen: plain words ===== -/
set_option maxRecDepth 100000
def spWorth (c : Nat → Int32) (tm : Nat) (k : Int32) : Int32 × Nat := match ix k tm with
  | none => (-1, 2)
  | some k => (c (6 + k), 0)
def spPerson (c : Nat → Int32) (pm tn : Nat) (p w : Int32) : Int32 × Nat := match ix p pm, ix w 5 with
  | none, _ => (-1, 2)
  | some _, none => (-1, 5)
  | some p, some 0 => (c (12 + p), 0)
  | some p, some 1 => (c (19 + p), 0)
  | some p, some 2 => (onS c tn (nI p), 0)
  | some p, some 3 => (c (26 + p), 0)
  | some p, some _ => (waS c tn (onS c tn (nI p)), 0)
def spTin (c : Nat → Int32) (tn : Nat) (t w : Int32) : Int32 × Nat := match ix t tn, ix w 5 with
  | none, _ => (-1, 2)
  | some _, none => (-1, 5)
  | some t, some 0 => (c (33 + t), 0)
  | some t, some 1 => if goB c t then (-1, 8) else (c (42 + t), 0)
  | some t, some 2 => (c (51 + t), 0)
  | some t, some 3 => (c (69 + t), 0)
  | some t, some _ => (c (78 + t), 0)
/-- n places from a on get the values v -/
def lay {α : Type} (f : Nat → α) (a n : Nat) (v : Nat → α) : Nat → α := fun j => if a ≤ j ∧ j < a + n then v (j - a) else f j
theorem lay_0 {α : Type} {f v : Nat → α} {a : Nat} : lay f a 0 v = f := by
  funext j
  unfold lay
  rw [if_neg (by omega)]
theorem layI_s {f v : Nat → Int32} {a n : Nat} : upd (lay f a n v) (a + n) (v n) = lay f a (n + 1) v := by
  funext j
  unfold upd lay
  by_cases h : j = a + n
  · rw [if_pos h, if_pos (by omega), h, show a + n - a = n by omega]
  · rw [if_neg h]
    by_cases h2 : a ≤ j ∧ j < a + n
    · rw [if_pos h2, if_pos (by omega)]
    · rw [if_neg h2, if_neg (by omega)]
theorem layL_s {f v : Nat → Int64} {a n : Nat} : vp_updL (lay f a n v) (a + n) (v n) = lay f a (n + 1) v := by
  funext j
  unfold vp_updL lay
  by_cases h : j = a + n
  · rw [if_pos h, if_pos (by omega), h, show a + n - a = n by omega]
  · rw [if_neg h]
    by_cases h2 : a ≤ j ∧ j < a + n
    · rw [if_pos h2, if_pos (by omega)]
    · rw [if_neg h2, if_neg (by omega)]
/-- whether a tin can be passed to someone -/
def paB (c : Nat → Int32) (pm t q : Nat) : Bool := !goB c t && hs (nxS c pm t (cl (c (42 + t)))) (nI q)
/-- the set that has one more -/
abbrev bi (q : Nat) : Int32 := nI 1 <<< (nI q &&& 31)
def pasC (c : Nat → Int32) (t q : Nat) : Nat → Int32 := upd (upd (upd (upd (upd c (26 + cl (c (42 + t))) (c (26 + cl (c (42 + t))) + wOf c t)) (42 + t) (nI q)) (69 + t) (c (69 + t) ||| bi q)) (78 + t) (c (78 + t) + nI 1)) 5 (c 5 + nI 1)
def paC (c : Nat → Int32) (pm t q : Nat) : Nat → Int32 := if paB c pm t q then pasC c t q else c
def spPass (c : Nat → Int32) (pm tn : Nat) (t q : Int32) : Int32 × Nat × (Nat → Int32) := match ix t tn, ix q pm with
  | some t, some q => if paB c pm t q then (pasC c t q (26 + cl (c (42 + t))), 0, pasC c t q) else (-1, 9, c)
  | _, _ => (-1, 2, c)
/-- found -/
def fiC (c : Nat → Int32) (t : Nat) : Nat → Int32 := upd (upd c (60 + t) (nI 1)) (42 + t) (-1)
def spBite (c : Nat → Int32) (tn : Nat) (t : Int32) : Int32 × Nat × (Nat → Int32) := match ix t tn with
  | none => (-1, 2, c)
  | some t => if goB c t then (-1, 9, c) else if c (51 + t) = nI 1 then (nI 1, 0, fiC c t) else (c (60 + t), 0, c)
def reC (c : Nat → Int32) (t p : Nat) : Nat → Int32 := upd (upd c (42 + t) (nI p)) (69 + t) (c (69 + t) ||| bi p)
def spRecite (c : Nat → Int32) (pm tn : Nat) (t p : Int32) : Int32 × Nat × (Nat → Int32) := match ix t tn, ix p pm with
  | some t, some p => if c (60 + t) = nI 1 ∨ trB c t p = false ∨ c (42 + t) = nI p then (nI 0, 9, c) else (nI 1, 0, reC c t p)
  | _, _ => (nI 0, 2, c)
def spDrop (c : Nat → Int32) (tn : Nat) (t : Int32) : Int32 × Nat × (Nat → Int32) := match ix t tn with
  | none => (-1, 2, c)
  | some t => if goB c t then (-1, 9, c) else (c (42 + t), 0, upd c (42 + t) (-1))
def stC (c : Nat → Int32) (B t : Nat) (k : Int32) (p : Nat) (l : Int32) : Nat → Int32 := upd (upd (upd (upd (upd (upd (upd c (B + 33 + t) k) (B + 42 + t) (nI p)) (B + 51 + t) l) (B + 60 + t) (nI 0)) (B + 69 + t) (bi p)) (B + 78 + t) (nI 0)) (B + 3) (nI (t + 1))
def spStrike (tm pm tn : Nat) (k p : Int32) : Int32 × Nat := match ix k tm, ix p pm with
  | some _, some _ => if tn = 9 then (-1, 7) else (nI tn, 0)
  | _, _ => (-1, 2)
def skM (M : mS) (tm pm tn : Nat) (k p : Int32) (l : Bool) : mS := if (spStrike tm pm tn k p).2 = 0 then mSA (mB M 7 (13 + tn) (lN 0)) 5 (stC (M.2.2.1 5) 0 tn k (cl p) (xb l)) else M
def teB (c : Nat → Int32) (p : Nat) (k : Int32) (b : Bool) : Bool := hs (c (12 + p)) k != b
def teC (c : Nat → Int32) (p : Nat) (k : Int32) (b : Bool) : Nat → Int32 := if teB c p k b then upd c (12 + p) (c (12 + p) ^^^ (nI 1 <<< (k &&& 31))) else c
def spTeach (c : Nat → Int32) (tm pm : Nat) (p k : Int32) (b : Bool) : Int32 × Nat × (Nat → Int32) := match ix p pm, ix k tm with
  | some p, some k => (xb (teB c p (nI k) b), if teB c p (nI k) b then 0 else 9, teC c p (nI k) b)
  | _, _ => (nI 0, 2, c)
def meC (c : Nat → Int32) (B p q : Nat) : Nat → Int32 := upd (upd (upd c (B + 19 + p) (c (B + 19 + p) ||| bi q)) (B + 19 + q) (upd c (B + 19 + p) (c (B + 19 + p) ||| bi q) (B + 19 + q) ||| bi p)) (B + 2) (c (B + 2) + nI 1)
def spLane (c : Nat → Int32) (pm : Nat) (p q : Int32) : Int32 × Nat × (Nat → Int32) := match ix p pm, ix q pm with
  | some p, some q => if p = q then (-1, 5, c) else if c 2 = nI 12 then (-1, 7, c) else (c 2 + nI 1, 0, meC c 0 p q)
  | _, _ => (-1, 2, c)
def spPrice (c : Nat → Int32) (tm : Nat) (k w : Int32) : Int32 × Nat × (Nat → Int32) := match ix k tm, ix w 100 with
  | none, _ => (nI 0, 2, c)
  | some _, none => (nI 0, 5, c)
  | some k, some w => (nI 1, 0, upd c (6 + k) (nI w))
def spRule (c : Nat → Int32) (w : Int32) : Int32 × Nat × (Nat → Int32) := match ix w 17 with
  | none => (nI 0, 5, c)
  | some w => (nI 1, 0, upd c 4 (nI w))
theorem mA_5 {M : mS} {r k : Nat} {x : Int32} : mA M r k x = mSA M r (upd (M.2.2.1 r) k x) := rfl
theorem ix_both {c d : Int32} {m n : Nat} (hm : m ≤ 2 ^ 31) (hn : n ≤ 2 ^ 31) : ((ix c m = none ∨ ix d n = none) ∧ (ix c m = none ∨ ∃ t, t < m ∧ c = nI t ∧ ix c m = some t ∧ ix d n = none)) ∨ ∃ t q, t < m ∧ q < n ∧ c = nI t ∧ d = nI q ∧ ix c m = some t ∧ ix d n = some q := by
  rcases ix_or c hm with ⟨h, _⟩ | ⟨t, ht, e, h⟩
  · exact Or.inl ⟨Or.inl h, Or.inl h⟩
  · rcases ix_or d hn with ⟨h2, _⟩ | ⟨q, hq, e2, h2⟩
    · exact Or.inl ⟨Or.inr h2, Or.inr ⟨t, ht, e, h, h2⟩⟩
    · exact Or.inr ⟨t, q, ht, hq, e, e2, h, h2⟩
theorem inS_N {a j n : Nat} (ha : a < 2 ^ 63) (hj : j < 2 ^ 63) (hn : n < 2 ^ 63) : inS (lN j) (lN a) (lN n) = decide (a ≤ j ∧ j ≤ n) := by
  exact decide_eq_decide.mpr (and_congr (lN_leI ha hj) (lN_leI hj hn))
theorem ixL_N {t n : Nat} (h : t < n) (hn : n < 2 ^ 62) : ixL (lN t) n = some t := by
  unfold ixL
  rw [pk_lT (by omega), if_pos (by omega)]
  congr 1
theorem mSA_mSA {M : mS} {r : Nat} {f g : Nat → Int32} : mSA (mSA M r f) r g = mSA M r g := by
  dsimp only [mSA]
  rw [upA_upA]
theorem upd_n {f : Nat → Int32} {k j : Nat} {x : Int32} (h : j ≠ k) : upd f k x j = f j := if_neg h
theorem upd_s {f : Nat → Int32} {k : Nat} {x : Int32} : upd f k x k = x := if_pos rfl
theorem goB_1 {c : Nat → Int32} {t : Nat} (e : c (42 + t) = -1) : goB c t = true := decide_eq_true e
theorem goB_0 {c : Nat → Int32} {t p : Nat} (e : c (42 + t) = nI p) (hp : p < 2 ^ 31) : goB c t = false := decide_eq_false fun q => by rw [e] at q; exact (nI_m1 hp).mp q
theorem paB_1 {c : Nat → Int32} {pm t q : Nat} (e : c (42 + t) = -1) : paB c pm t q = false := by rw [paB, goB_1 e]; rfl
theorem paB_0 {c : Nat → Int32} {pm t q p : Nat} (e : c (42 + t) = nI p) (hp : p < 2 ^ 31) : paB c pm t q = hs (nxS c pm t p) (nI q) := by rw [paB, goB_0 e hp, e, cl_nI hp]; rfl
theorem teN {a b : Bool} (h : ¬ xb a = xb b) : a = !b := by
  cases a <;> cases b <;> first | rfl | exact absurd rfl h
def spGot (tm : Nat → Int32) (c : Nat → Int32) (pm : Nat) (tr : Int32) : Int32 × Nat := match ix tr 4 with
  | none => (-1, 1)
  | some t => if tm t < 0 then (-1, 3) else if tm t < nI pm then (-1, 4) else (nI pm, 0)
/-- the model behind copyGot -/
def cgM (M : mS) (pm : Nat) (tr : Int32) : mS := if (spGot (M.2.2.1 2) (M.2.2.1 5) pm tr).2 = 0 then mSB M 3 (lay (M.2.2.2 3) (60 * cl tr) pm fun p => cutS (M.2.2.1 1 (cl tr)) (M.2.2.1 5 (26 + p)).toInt64) else M
def naS (k : Nat) : Nat := if k = 0 then 0 else if k = 1 then 6 else 13
theorem mI_SB {M : mS} {r k : Nat} {x : Int32} {f : Nat → Int64} : mI (mSB M r f) k x = mSB (mI M k x) r f := rfl
theorem mI_SA {M : mS} {r k : Nat} {x : Int32} {f : Nat → Int32} : mI (mSA M r f) k x = mSA (mI M k x) r f := rfl
theorem mI_4 {M : mS} {a b c d : Int32} : mI (mI (mI (mI M 1 a) 0 b) 1 c) 0 d = mI (mI M 1 c) 0 d := by
  dsimp only [mI]
  refine congrArg (fun f => (f, M.2.1, M.2.2.1, M.2.2.2)) (funext fun j => ?_)
  simp only [upd]
  by_cases h0 : j = 0
  · rw [if_pos h0, if_pos h0]
  · rw [if_neg h0, if_neg h0]
    by_cases h1 : j = 1
    · rw [if_pos h1, if_neg h0, if_pos h1]
    · rw [if_neg h1, if_neg h1, if_neg h0, if_neg h1]
