/-! ===== breadth first: what stands there ===== -/
set_option maxRecDepth 100000
def firstS (P : Nat → Bool) : Nat → Nat → Nat
  | i, 0 => i
  | i, n + 1 => if P i then i else firstS P (i + 1) n
theorem firstS_s {P : Nat → Bool} : ∀ {n i : Nat}, (∃ q, i ≤ q ∧ q < i + n ∧ P q = true) → P (firstS P i n) = true ∧ firstS P i n < i + n ∧ i ≤ firstS P i n ∧ ∀ j, i ≤ j → j < firstS P i n → P j = false
  | 0, i, h => by obtain ⟨q, h1, h2, _⟩ := h; omega
  | n + 1, i, h => by
    unfold firstS
    by_cases hp : P i = true
    · rw [if_pos hp]
      exact ⟨hp, by omega, Nat.le_refl _, fun j h1 h2 => absurd h1 (by omega)⟩
    · rw [if_neg hp]
      obtain ⟨q, h1, h2, h3⟩ := h
      have hq : q ≠ i := fun e => hp (e ▸ h3)
      obtain ⟨a, b, c, d⟩ := firstS_s (P := P) (n := n) (i := i + 1) ⟨q, by omega, by omega, h3⟩
      refine ⟨a, by omega, by omega, fun j h4 h5 => ?_⟩
      by_cases hj : j = i
      · rw [hj]; exact Bool.eq_false_iff.mpr hp
      · exact d j (by omega) h5
theorem itN_inv {α : Type} {f : Nat → α → α} {a : α} (P : Nat → α → Prop) (h0 : P 0 a) : ∀ n, (∀ i x, i < n → P i x → P (i + 1) (f i x)) → P n (itN f n a)
  | 0, _ => h0
  | n + 1, h => h n _ (by omega) (itN_inv P h0 n (fun i x hi => h i x (by omega)))
/-- how far each is: 99, or 0 at the aim, or one more than a next one -/
def okF (c : Nat → Int32) (pm t to : Nat) (f : Nat → Int32) : Prop := ∀ p, p < 7 → f p = nI 99 ∨ (p = to ∧ f p = nI 0) ∨ ∃ m q, m ≤ 6 ∧ q < 7 ∧ p < pm ∧ f p = nI (m + 1) ∧ hs (nxS c pm t p) (nI q) = true ∧ f q = nI m
theorem okF_0 {c f0 : Nat → Int32} {pm t to : Nat} : okF c pm t to (lay f0 0 7 fun p => if p = to then nI 0 else nI 99) := by
  intro p hp
  unfold lay
  rw [if_pos (by omega)]
  by_cases h : p = to
  · refine Or.inr (Or.inl ⟨h, ?_⟩)
    show (if p - 0 = to then nI 0 else nI 99) = _
    rw [if_pos (by omega)]
  · refine Or.inl ?_
    show (if p - 0 = to then nI 0 else nI 99) = _
    rw [if_neg (by omega)]
theorem hs_0 {k : Nat} (hk : k < 32) : hs (nI 0) (nI k) = false := by
  revert hk
  have : ∀ k, k < 32 → hs (nI 0) (nI k) = false := by decide +kernel
  exact this k
theorem okF_v {c f : Nat → Int32} {pm t to p : Nat} (h : okF c pm t to f) (hp : p < 7) : f p = nI 99 ∨ ∃ m, m ≤ 7 ∧ f p = nI m := by
  rcases h p hp with e | ⟨_, e⟩ | ⟨m, q, h1, _, _, e, _⟩
  · exact Or.inl e
  · exact Or.inr ⟨0, by omega, e⟩
  · exact Or.inr ⟨m + 1, by omega, e⟩
theorem okF_P {c f : Nat → Int32} {pm t to n p : Nat} (h : okF c pm t to f) (hn : n < 7) (hp : p < pm) (hpm : pm ≤ 7) : okF c pm t to (faP c pm t n p f) := by
  unfold faP
  rcases okF_v h (p := p) (by omega) with e | ⟨m, hm, e⟩
  · rw [if_neg (show ¬ f p < nI 99 from by rw [e]; decide +kernel)]
    refine (itN_inv (fun _ g => okF c pm t to g ∧ (g p = nI 99 ∨ g p = nI (n + 1))) ⟨h, Or.inl e⟩ 7 (fun q g hq hg => ?_)).1
    unfold faQ
    by_cases hc : (hs (nxS c pm t p) (nI q) && decide (g q = nI n)) = true
    · rw [if_pos hc]
      obtain ⟨h1, h2⟩ := Bool.and_eq_true_iff.mp hc
      have h2 := of_decide_eq_true h2
      have hqp : q ≠ p := by
        intro e1
        rw [e1] at h2
        rcases hg.2 with e2 | e2
        · rw [e2] at h2
          have := (nI_eq (by omega) (by omega)).mp h2
          omega
        · rw [e2] at h2
          have := (nI_eq (by omega) (by omega)).mp h2
          omega
      refine ⟨fun r hr => ?_, Or.inr upd_s⟩
      by_cases hrp : r = p
      · subst hrp
        refine Or.inr (Or.inr ⟨n, q, by omega, hq, hp, upd_s, h1, ?_⟩)
        rw [upd_n hqp, h2]
      · rcases hg.1 r hr with e1 | ⟨e0, e1⟩ | ⟨m, s, a1, a2, a3, a4, a5, a6⟩
        · exact Or.inl (by rw [upd_n hrp, e1])
        · exact Or.inr (Or.inl ⟨e0, by rw [upd_n hrp, e1]⟩)
        · refine Or.inr (Or.inr ⟨m, s, a1, a2, a3, by rw [upd_n hrp, a4], a5, ?_⟩)
          by_cases hs' : s = p
          · rw [hs'] at a6 ⊢
            rw [upd_s]
            rcases hg.2 with e2 | e2
            · rw [e2] at a6
              have := (nI_eq (by omega) (by omega)).mp a6
              omega
            · rw [e2] at a6
              exact a6
          · rw [upd_n hs', a6]
    · rw [if_neg hc]
      exact hg
  · rw [if_pos (show f p < nI 99 from by rw [e]; exact nI_lt (by omega) (by omega))]
    refine itN_inv (fun _ g => okF c pm t to g) h 7 (fun q g hq hg => ?_)
    unfold faQ
    rw [if_neg (by rw [hs_0 (by omega)]; exact Bool.false_ne_true)]
    exact hg
theorem okF_S {c f0 : Nat → Int32} {pm t to : Nat} (hpm : pm ≤ 7) : okF c pm t to (farS c pm t to f0) := by
  unfold farS
  exact itN_inv (fun _ f => okF c pm t to f) okF_0 7 (fun n f hn hf => itN_inv (fun _ f => okF c pm t to f) hf pm (fun p g hp hg => okF_P hg hn hp hpm))
/-- the array's older contents do not matter -/
theorem farS_f {c f0 g0 : Nat → Int32} {pm t to : Nat} (hpm : pm ≤ 7) : ∀ p, p < 7 → farS c pm t to f0 p = farS c pm t to g0 p := by
  have hl : ∀ p, p < 7 → (lay f0 0 7 fun p => if p = to then nI 0 else nI 99) p = (lay g0 0 7 fun p => if p = to then nI 0 else nI 99) p := by
    intro p hp
    unfold lay
    rw [if_pos (by omega), if_pos (by omega)]
  have h2 : ∀ (n p : Nat) (f g : Nat → Int32), p < pm → (∀ q, q < 7 → f q = g q) → ∀ q, q < 7 → faP c pm t n p f q = faP c pm t n p g q := by
    intro n p f g hp hfg
    unfold faP
    rw [hfg p (by omega)]
    generalize (if g p < nI 99 then nI 0 else nxS c pm t p) = nx
    have : ∀ k, k ≤ 7 → ∀ q, q < 7 → itN (faQ nx n p) k f q = itN (faQ nx n p) k g q := by
      intro k
      induction k with
      | zero => intro _; exact hfg
      | succ k ih =>
        intro hk q hq
        have ih := ih (by omega)
        show faQ nx n p k (itN (faQ nx n p) k f) q = faQ nx n p k (itN (faQ nx n p) k g) q
        revert ih
        generalize itN (faQ nx n p) k f = A
        generalize itN (faQ nx n p) k g = B
        intro ih
        unfold faQ
        rw [ih k (by omega)]
        split
        · unfold upd
          split
          · rfl
          · exact ih q hq
        · exact ih q hq
    exact this 7 (by omega)
  have h3 : ∀ (n k : Nat) (f g : Nat → Int32), k ≤ pm → (∀ q, q < 7 → f q = g q) → ∀ q, q < 7 → itN (faP c pm t n) k f q = itN (faP c pm t n) k g q := by
    intro n k f g
    induction k with
    | zero => intro _ h; exact h
    | succ k ih => intro hk h q hq; exact h2 n k _ _ (by omega) (ih (by omega) h) q hq
  unfold farS
  generalize 7 = N at *
  have h4 : ∀ k, ∀ q, q < N → itN (fun n => itN (faP c pm t n) pm) k (lay f0 0 N fun p => if p = to then nI 0 else nI 99) q = itN (fun n => itN (faP c pm t n) pm) k (lay g0 0 N fun p => if p = to then nI 0 else nI 99) q := by
    intro k
    induction k with
    | zero => exact hl
    | succ k ih => intro q hq; exact h3 k pm _ _ (Nat.le_refl _) ih q hq
  exact h4 N
def stepS (c : Nat → Int32) (pm t : Nat) (f : Nat → Int32) (r : Nat) : Nat := firstS (fun q => hs (nxS c pm t r) (nI q) && decide (f q = f r - nI 1)) 0 7
theorem stepS_s {c f : Nat → Int32} {pm t r : Nat} (h : ∃ q, q < 7 ∧ hs (nxS c pm t r) (nI q) = true ∧ f q = f r - nI 1) : hs (nxS c pm t r) (nI (stepS c pm t f r)) = true ∧ f (stepS c pm t f r) = f r - nI 1 ∧ stepS c pm t f r < 7 ∧ ∀ j, j < stepS c pm t f r → ¬ (hs (nxS c pm t r) (nI j) = true ∧ f j = f r - nI 1) := by
  obtain ⟨q, h1, h2, h3⟩ := h
  obtain ⟨a, b, _, d⟩ := firstS_s (P := fun q => hs (nxS c pm t r) (nI q) && decide (f q = f r - nI 1)) (n := 7) (i := 0) ⟨q, by omega, by omega, by
    show (_ && _) = true
    rw [h2, decide_eq_true h3]
    rfl⟩
  obtain ⟨a1, a2⟩ := Bool.and_eq_true_iff.mp a
  refine ⟨a1, of_decide_eq_true a2, ?_, fun j hj hq => ?_⟩
  · rw [Nat.zero_add] at b
    exact b
  · have := d j (Nat.zero_le _) hj
    rw [hq.1, decide_eq_true hq.2] at this
    cases this
abbrev goW (c : Nat → Int32) (pm t : Nat) (f : Nat → Int32) (i p : Nat) : Nat := itN (fun _ r => stepS c pm t f r) i p
theorem nI_s1 {m : Nat} (h : 0 < m) : nI m - nI 1 = nI (m - 1) := pk_sub (by omega)
theorem stepS_ok {c f : Nat → Int32} {pm t to r m : Nat} (h : okF c pm t to f) (hr : r < 7) (hm : m ≤ 7) (e : f r = nI m) (h0 : 0 < m) : ∃ q, q < 7 ∧ hs (nxS c pm t r) (nI q) = true ∧ f q = f r - nI 1 := by
  rcases h r hr with e1 | ⟨_, e1⟩ | ⟨m', q, a1, a2, a3, a4, a5, a6⟩
  · rw [e] at e1
    have := (nI_eq (by omega) (by omega)).mp e1
    omega
  · rw [e] at e1
    have := (nI_eq (by omega) (by omega)).mp e1
    omega
  · rw [e] at a4
    have hh := (nI_eq (by omega) (by omega)).mp a4
    refine ⟨q, a2, a5, ?_⟩
    rw [a6, e, nI_s1 h0, hh]
    rfl
theorem goW_ok {c f : Nat → Int32} {pm t to p m : Nat} (h : okF c pm t to f) (hp : p < 7) (hm : m ≤ 7) (e : f p = nI m) : ∀ i, i ≤ m → goW c pm t f i p < 7 ∧ f (goW c pm t f i p) = nI (m - i)
  | 0, _ => ⟨hp, e⟩
  | i + 1, hi => by
    obtain ⟨h1, h2⟩ := goW_ok h hp hm e i (by omega)
    obtain ⟨a, b, d, _⟩ := stepS_s (stepS_ok h h1 (by omega) h2 (by omega))
    refine ⟨d, ?_⟩
    show f (stepS c pm t f (goW c pm t f i p)) = _
    rw [b, h2, nI_s1 (by omega), Nat.sub_sub]
theorem inS_of {k : Int32} {m : Nat} (h : inS k.toInt64 (lN 0) (nI m).toInt64 = true) (hm : m < 2 ^ 31) : ∃ j, j ≤ m ∧ k = nI j := by
  rw [nI_l hm, inS_ix hm] at h
  rcases ix_or k (n := m + 1) (by omega) with ⟨e, _⟩ | ⟨t, ht, e, _⟩
  · rw [e] at h; cases h
  · exact ⟨t, by omega, e⟩
abbrev farZ (c : Nat → Int32) (pm t to : Nat) : Nat → Int32 := farS c pm t to fun _ => nI 0
def spWay (c : Nat → Int32) (pm tn : Nat) (t p : Int32) : Int32 × Nat := match ix t tn, ix p pm with
  | some t, some p => if goB c t then (-1, 9) else if farZ c pm t p (cl (c (42 + t))) < nI 99 then (farZ c pm t p (cl (c (42 + t))), 0) else (-1, 8)
  | _, _ => (-1, 2)
def spWayAt (c : Nat → Int32) (pm tn : Nat) (t p k : Int32) : Int32 × Nat := match ix t tn, ix p pm with
  | some t, some p => if goB c t then (-1, 9) else if farZ c pm t p (cl (c (42 + t))) < nI 99 ∧ inS k.toInt64 (lN 0) (farZ c pm t p (cl (c (42 + t)))).toInt64 = true then (nI (goW c pm t (farZ c pm t p) (cl k) (cl (c (42 + t)))), 0) else (-1, 8)
  | _, _ => (-1, 2)
theorem mQ_R {X : mS} {f : Nat → Int32} {a y : Int32} : mQ (mI (mSA (mI X 0 a) 8 f) 0 y) (mI X 0 y) := by
  rw [mI_SA, mI_mI]
  exact mQ_SA (mQ_r _) (by decide) (by decide)
