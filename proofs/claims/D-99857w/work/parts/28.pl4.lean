/-! ===== what can come: plain words; the model's lasting state ===== -/
set_option maxRecDepth 100000
def xrt (v : Option Value) (P : mS → Prop) (R : xH) : xO → xH → Prop := fun o h' => o = .inl v ∧ ∃ M', h' = hM M' R ∧ P M'
def dI (k : Nat) : Bool := k == 0 || k == 1 || k == 8 || k == 10 || k == 11 || k == 23 || k == 38
def dA (r : Nat) : Bool := r == 1 || r == 2 || r == 4 || r == 14
/-- two states of the model that answer alike -/
def mQ (M M' : mS) : Prop := (∀ k, dI k = true → M.1 k = M'.1 k) ∧ (M.2.1 2 = M'.2.1 2 ∧ M.2.1 3 = M'.2.1 3) ∧ (∀ r, dA r = true → M.2.2.1 r = M'.2.2.1 r) ∧ (∀ k, k < 1436 → M.2.2.1 5 k = M'.2.2.1 5 k) ∧ M.2.2.2 3 = M'.2.2.2 3 ∧ ∀ k, k < 88 → M.2.2.2 7 k = M'.2.2.2 7 k
theorem mQ_r (M : mS) : mQ M M := ⟨fun _ _ => rfl, ⟨rfl, rfl⟩, fun _ _ => rfl, fun _ _ => rfl, rfl, fun _ _ => rfl⟩
theorem mQ_SA {M M' : mS} {r : Nat} {f : Nat → Int32} (h : mQ M M') (h1 : dA r = false) (h2 : 5 ≠ r) : mQ (mSA M r f) M' :=
  ⟨h.1, h.2.1, fun q hq => by
    have hn : q ≠ r := fun e => by rw [e, h1] at hq; cases hq
    show upA M.2.2.1 r f q = _
    rw [upA_n hn]
    exact h.2.2.1 q hq, fun k hk => by
    show upA M.2.2.1 r f 5 k = _
    rw [upA_n h2]
    exact h.2.2.2.1 k hk, h.2.2.2.2⟩
theorem mQ_I {M M' : mS} {k : Nat} {x : Int32} (h : mQ M M') (h1 : dI k = false) : mQ (mI M k x) M' :=
  ⟨fun q hq => by
    have hn : q ≠ k := fun e => by rw [e, h1] at hq; cases hq
    show upd M.1 k x q = _
    rw [upd_n hn]
    exact h.1 q hq, h.2⟩
theorem mQ_II {M M' : mS} {k : Nat} {x : Int32} (h : mQ M M') : mQ (mI M k x) (mI M' k x) :=
  ⟨fun q hq => by
    show upd M.1 k x q = upd M'.1 k x q
    unfold upd
    split
    · rfl
    · exact h.1 q hq, h.2⟩
theorem mA_5n {M : mS} {r k : Nat} {x : Int32} : mA M r k x = mSA M r (upd (M.2.2.1 r) k x) := rfl
def itN {α : Type} (f : Nat → α → α) : Nat → α → α
  | 0, a => a
  | n + 1, a => f n (itN f n a)
def whyT (c : Nat → Int32) (tn : Nat) (t : Int32) : Nat := match ix t tn with
  | none => 2
  | some t => if goB c t then 9 else 0
def whyW (c : Nat → Int32) (pm tn : Nat) (t p : Int32) : Nat := match ix t tn, ix p pm with
  | some t, some _ => if goB c t then 9 else 0
  | _, _ => 2
def reaS (c : Nat → Int32) (pm t : Nat) (s0 : Int32) : Int32 := itN (fun _ s => itN (fun p s => s ||| (if hs s (nI p) then nxS c pm t p else nI 0)) pm s) 7 s0
def spReach (c : Nat → Int32) (pm tn : Nat) (t : Int32) : Int32 × Nat := match ix t tn with
  | none => (-1, 2)
  | some t => if goB c t then (-1, 9) else (reaS c pm t (bi (cl (c (42 + t)))), 0)
def spNext (c : Nat → Int32) (pm tn : Nat) (t : Int32) : Int32 × Nat := match ix t tn with
  | none => (-1, 2)
  | some t => if goB c t then (-1, 9) else (nxS c pm t (cl (c (42 + t))), 0)
theorem whyT_le {c : Nat → Int32} {tn : Nat} {t : Int32} : whyT c tn t ≤ 9 := by unfold whyT; split; (· decide); (· split <;> decide)
/-- the round of a breadth first search: q as a next one -/
def faQ (nx : Int32) (n p q : Nat) (g : Nat → Int32) : Nat → Int32 := if hs nx (nI q) && decide (g q = nI n) then upd g p (nI (n + 1)) else g
def faP (c : Nat → Int32) (pm t n p : Nat) (f : Nat → Int32) : Nat → Int32 := itN (faQ (if f p < nI 99 then nI 0 else nxS c pm t p) n p) 7 f
def farS (c : Nat → Int32) (pm t to : Nat) (f0 : Nat → Int32) : Nat → Int32 := itN (fun n => itN (faP c pm t n) pm) 7 (lay f0 0 7 fun p => if p = to then nI 0 else nI 99)
theorem x_drop {Γ : xG} {cc : ByteArray} {kc ks pc : Nat} {l : List (Option Value)} {st : List Value} {h : xH} {k : Nat} (kk : AW Γ cc kc ks pc (l.set k none) st h) : AW Γ cc kc ks pc l st h :=
  x_le (fun i v hi => by
    rw [List.getElem?_set] at hi
    split at hi
    · split at hi
      · cases hi
      · cases hi
    · exact hi) kk
theorem layI_0 {f v : Nat → Int32} {n : Nat} {x : Int32} (h : x = v n) : upd (lay f 0 n v) n x = lay f 0 (n + 1) v := by
  have := layI_s (f := f) (v := v) (a := 0) (n := n)
  rw [Nat.zero_add] at this
  rw [h, this]
theorem wF_8 {M : mS} {tm pm tn G : Nat} (hF : wF (M.2.2.1 5) tm pm tn G) (r : Nat) (h : 5 ≠ r) (f : Nat → Int32) : wF ((mSA M r f).2.2.1 5) tm pm tn G := by
  rw [show (mSA M r f).2.2.1 5 = M.2.2.1 5 from upA_n h]
  exact hF
theorem mSA_5 {M : mS} {r : Nat} {f : Nat → Int32} (h : 5 ≠ r) : (mSA M r f).2.2.1 5 = M.2.2.1 5 := upA_n h
