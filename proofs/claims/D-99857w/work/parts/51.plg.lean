/-! ===== a fen stays a fen ===== -/
set_option maxRecDepth 100000
section KW
variable {c : Nat → Int32} {tm pm tn G : Nat}
theorem wF_up (h : wF c tm pm tn G) {c' : Nat → Int32} (h0 : c' 0 = c 0 ∧ c' 1 = c 1 ∧ c' 3 = c 3) (hof : ∀ t, t < tn → c' (33 + t) = c (33 + t)) (hon : ∀ t, t < tn → c' (42 + t) = c (42 + t) ∨ c' (42 + t) = -1 ∨ ∃ p, p < pm ∧ c' (42 + t) = nI p) (hwo : ∀ k, k < 6 → c' (6 + k) = c (6 + k) ∨ ∃ x, x ≤ 99 ∧ c' (6 + k) = nI x) (hla : c' 2 = c 2 ∨ ∃ x, x ≤ 12 ∧ c' 2 = nI x) (hod : c' 4 = c 4 ∨ ∃ x, x ≤ 16 ∧ c' 4 = nI x) (hle : ∀ t, t < tn → c' (51 + t) = c (51 + t)) (hfo : ∀ t, t < tn → c' (60 + t) = c (60 + t) ∨ (c' (60 + t) = nI 1 ∧ c (51 + t) = nI 1)) (hhe : ∀ t, t < tn → c' (69 + t) = c (69 + t) ∨ ∃ x, 0 < x ∧ x < 2 ^ pm ∧ c' (69 + t) = nI x) {G' : Nat} (hG : G ≤ G') (hgo : ∀ p, p < pm → c' (26 + p) = c (26 + p) ∨ ∃ g, g ≤ G' ∧ c' (26 + p) = nI g) : wF c' tm pm tn G' := by
  refine ⟨⟨h0.1.trans h.c0, h0.2.1.trans h.c1, h0.2.2.trans h.c3⟩, ⟨h.l0, h.l1, h.l3⟩, fun t ht => ?_, fun t ht => ?_, fun k hk => ?_, ?_, ?_, fun t ht => ?_, fun t ht => ?_, fun t ht => ?_, fun p hp => ?_, h.so⟩
  · rw [hof t ht]; exact h.of ht
  · rcases hon t ht with e | e
    · rw [e]; exact h.on ht
    · exact e
  · rcases hwo k hk with e | e
    · rw [e]; exact h.wo hk
    · exact e
  · rcases hla with e | e
    · rw [e]; exact h.la
    · exact e
  · rcases hod with e | e
    · rw [e]; exact h.od
    · exact e
  · rw [hle t ht]; exact h.le ht
  · rw [hle t ht]
    rcases hfo t ht with e | e
    · rw [e]; exact h.fo ht
    · exact Or.inr e
  · rcases hhe t ht with e | e
    · rw [e]; exact h.he ht
    · exact e
  · rcases hgo p hp with e | e
    · obtain ⟨g, hg, eg⟩ := h.go hp
      exact ⟨g, by omega, by rw [e, eg]⟩
    · exact e
/-- one cell of a tin's place -/
theorem wF_on (h : wF c tm pm tn G) {t : Nat} (ht : t < tn) {x : Int32} (hx : x = -1 ∨ ∃ p, p < pm ∧ x = nI p) : wF (upd c (42 + t) x) tm pm tn G := by
  have l3 := h.l3
  refine wF_up h ⟨upd_n (by omega), upd_n (by omega), upd_n (by omega)⟩ (fun s hs => upd_n (by omega)) (fun s hs => ?_) (fun k hk => Or.inl (upd_n (by omega))) (Or.inl (upd_n (by omega))) (Or.inl (upd_n (by omega))) (fun s hs => upd_n (by omega)) (fun s hs => Or.inl (upd_n (by omega))) (fun s hs => Or.inl (upd_n (by omega))) (Nat.le_refl _) (fun p hp => Or.inl (upd_n (by have := h.l1; omega)))
  by_cases e : s = t
  · subst e
    rw [upd_s]
    exact Or.inr hx
  · exact Or.inl (upd_n (by omega))
end KW
section KW2
variable {c : Nat → Int32} {tm pm tn G : Nat}
theorem wF_price (h : wF c tm pm tn G) {k x : Nat} (hk : k < tm) (hx : x ≤ 99) : wF (upd c (6 + k) (nI x)) tm pm tn G := by
  have l0 := h.l0
  refine wF_up h ⟨upd_n (by omega), upd_n (by omega), upd_n (by omega)⟩ (fun s hs => upd_n (by omega)) (fun s hs => Or.inl (upd_n (by omega))) (fun q hq => ?_) (Or.inl (upd_n (by omega))) (Or.inl (upd_n (by omega))) (fun s hs => upd_n (by omega)) (fun s hs => Or.inl (upd_n (by omega))) (fun s hs => Or.inl (upd_n (by omega))) (Nat.le_refl _) (fun p hp => Or.inl (upd_n (by omega)))
  by_cases e : q = k
  · subst e
    rw [upd_s]
    exact Or.inr ⟨x, hx, rfl⟩
  · exact Or.inl (upd_n (by omega))
theorem wF_rule (h : wF c tm pm tn G) {x : Nat} (hx : x ≤ 16) : wF (upd c 4 (nI x)) tm pm tn G := by
  refine wF_up h ⟨upd_n (by omega), upd_n (by omega), upd_n (by omega)⟩ (fun s hs => upd_n (by omega)) (fun s hs => Or.inl (upd_n (by omega))) (fun q hq => Or.inl (upd_n (by omega))) (Or.inl (upd_n (by omega))) (Or.inr ⟨x, hx, upd_s⟩) (fun s hs => upd_n (by omega)) (fun s hs => Or.inl (upd_n (by omega))) (fun s hs => Or.inl (upd_n (by omega))) (Nat.le_refl _) (fun p hp => Or.inl (upd_n (by omega)))
theorem wF_true (h : wF c tm pm tn G) {p : Nat} {x : Int32} (hp : p < pm) : wF (upd c (12 + p) x) tm pm tn G := by
  have l1 := h.l1
  exact wF_up h ⟨upd_n (by omega), upd_n (by omega), upd_n (by omega)⟩ (fun s hs => upd_n (by omega)) (fun s hs => Or.inl (upd_n (by omega))) (fun q hq => Or.inl (upd_n (by omega))) (Or.inl (upd_n (by omega))) (Or.inl (upd_n (by omega))) (fun s hs => upd_n (by omega)) (fun s hs => Or.inl (upd_n (by omega))) (fun s hs => Or.inl (upd_n (by omega))) (Nat.le_refl _) (fun p hp => Or.inl (upd_n (by omega)))
theorem wF_found (h : wF c tm pm tn G) {t : Nat} (ht : t < tn) (hl : c (51 + t) = nI 1) : wF (fiC c t) tm pm tn G := by
  have l3 := h.l3
  refine wF_on ?_ ht (Or.inl rfl)
  refine wF_up h ⟨upd_n (by omega), upd_n (by omega), upd_n (by omega)⟩ (fun s hs => upd_n (by omega)) (fun s hs => Or.inl (upd_n (by omega))) (fun q hq => Or.inl (upd_n (by omega))) (Or.inl (upd_n (by omega))) (Or.inl (upd_n (by omega))) (fun s hs => upd_n (by omega)) (fun s hs => ?_) (fun s hs => Or.inl (upd_n (by omega))) (Nat.le_refl _) (fun p hp => Or.inl (upd_n (by have := h.l1; omega)))
  by_cases e : s = t
  · subst e
    rw [upd_s]
    exact Or.inr ⟨rfl, hl⟩
  · exact Or.inl (upd_n (by omega))
end KW2
section KW3
variable {c : Nat → Int32} {tm pm tn G : Nat}
theorem or_N {a b n : Nat} (ha : a < 2 ^ n) (hb : b < 2 ^ n) (hn : n ≤ 31) : ∃ x, a ≤ x ∧ x < 2 ^ n ∧ nI a ||| nI b = nI x := by
  refine ⟨a ||| b, Nat.left_le_or, Nat.or_lt_two_pow ha hb, ?_⟩
  apply Int32.toBitVec_inj.mp
  rw [Int32.toBitVec_or]
  show BitVec.ofNat 32 a ||| BitVec.ofNat 32 b = BitVec.ofNat 32 (a ||| b)
  exact (BitVec.ofNat_or ..).symm
theorem bi_N : ∀ q, q < 9 → bi q = nI (2 ^ q) := by decide +kernel
theorem wF_held (h : wF c tm pm tn G) {t q : Nat} (ht : t < tn) (hq : q < pm) : wF (upd c (69 + t) (c (69 + t) ||| bi q)) tm pm tn G := by
  have l3 := h.l3
  have l1 := h.l1
  refine wF_up h ⟨upd_n (by omega), upd_n (by omega), upd_n (by omega)⟩ (fun s hs => upd_n (by omega)) (fun s hs => Or.inl (upd_n (by omega))) (fun k hk => Or.inl (upd_n (by omega))) (Or.inl (upd_n (by omega))) (Or.inl (upd_n (by omega))) (fun s hs => upd_n (by omega)) (fun s hs => Or.inl (upd_n (by omega))) (fun s hs => ?_) (Nat.le_refl _) (fun p hp => Or.inl (upd_n (by omega)))
  by_cases e : s = t
  · subst e
    obtain ⟨x, h0, hx, ex⟩ := h.he ht
    obtain ⟨y, h1, h2, ey⟩ := or_N hx (Nat.pow_lt_pow_right (by decide) hq : 2 ^ q < 2 ^ pm) (by omega)
    rw [upd_s, ex, bi_N q (by omega), ey]
    exact Or.inr ⟨y, by omega, h2, rfl⟩
  · exact Or.inl (upd_n (by omega))
theorem wF_recite (h : wF c tm pm tn G) {t p : Nat} (ht : t < tn) (hp : p < pm) : wF (reC c t p) tm pm tn G := by
  have h1 := wF_on h ht (x := nI p) (Or.inr ⟨p, hp, rfl⟩)
  have h2 := wF_held h1 ht hp
  rw [upd_n (show 69 + t ≠ 42 + t by omega)] at h2
  exact h2
end KW3
section KW4
variable {c : Nat → Int32} {tm pm tn G : Nat}
theorem wF_got (h : wF c tm pm tn G) {p t : Nat} (hp : p < pm) (ht : t < tn) : wF (upd c (26 + p) (c (26 + p) + wOf c t)) tm pm tn (G + 99) := by
  have l1 := h.l1
  refine wF_up h ⟨upd_n (by omega), upd_n (by omega), upd_n (by omega)⟩ (fun s hs => upd_n (by omega)) (fun s hs => Or.inl (upd_n (by omega))) (fun k hk => Or.inl (upd_n (by omega))) (Or.inl (upd_n (by omega))) (Or.inl (upd_n (by omega))) (fun s hs => upd_n (by omega)) (fun s hs => Or.inl (upd_n (by omega))) (fun s hs => Or.inl (upd_n (by omega))) (by omega) (fun q hq => ?_)
  by_cases e : q = p
  · subst e
    obtain ⟨g, hg, eg⟩ := h.go hp
    obtain ⟨x, hx, ex⟩ := wOf_N h ht
    rw [upd_s, eg, ex, nI_add]
    exact Or.inr ⟨g + x, by omega, rfl⟩
  · exact Or.inl (upd_n (by omega))
theorem wF_free (h : wF c tm pm tn G) {k : Nat} {x : Int32} (hk : k = 5 ∨ 78 ≤ k ∨ (19 ≤ k ∧ k < 26)) : wF (upd c k x) tm pm tn G := by
  have l1 := h.l1
  have l3 := h.l3
  exact wF_up h ⟨upd_n (by omega), upd_n (by omega), upd_n (by omega)⟩ (fun s hs => upd_n (by omega)) (fun s hs => Or.inl (upd_n (by omega))) (fun q hq => Or.inl (upd_n (by omega))) (Or.inl (upd_n (by omega))) (Or.inl (upd_n (by omega))) (fun s hs => upd_n (by omega)) (fun s hs => Or.inl (upd_n (by omega))) (fun s hs => Or.inl (upd_n (by omega))) (Nat.le_refl _) (fun p hp => Or.inl (upd_n (by omega)))
theorem wF_pass (h : wF c tm pm tn G) {t q : Nat} (ht : t < tn) (hq : q < pm) (hg : goB c t = false) : wF (pasC c t q) tm pm tn (G + 99) := by
  have l1 := h.l1
  have l3 := h.l3
  rcases h.on ht with e | ⟨p, hp, e⟩
  · rw [goB_1 e] at hg; cases hg
  · unfold pasC
    rw [e, cl_nI (by omega)]
    refine wF_free (wF_free ?_ (by omega)) (by omega)
    have h1 := wF_on (wF_got h hp ht) ht (x := nI q) (Or.inr ⟨q, hq, rfl⟩)
    have h2 := wF_held h1 ht hq
    rw [upd_n (show 69 + t ≠ 42 + t by omega), upd_n (show 69 + t ≠ 26 + p by omega)] at h2
    exact h2
end KW4
section KW5
variable {c : Nat → Int32} {tm pm tn G : Nat}
theorem wF_lane (h : wF c tm pm tn G) {p q : Nat} (hp : p < pm) (hq : q < pm) (h12 : ¬ c 2 = nI 12) : wF (meC c 0 p q) tm pm tn G := by
  have l1 := h.l1
  obtain ⟨x, hx, ex⟩ := h.la
  have hx2 : x ≠ 12 := fun e => h12 (by rw [ex, e])
  have h1 := wF_free (wF_free h (k := 0 + 19 + p) (x := c (0 + 19 + p) ||| bi q) (by omega)) (k := 0 + 19 + q) (x := upd c (0 + 19 + p) (c (0 + 19 + p) ||| bi q) (0 + 19 + q) ||| bi p) (by omega)
  unfold meC
  refine wF_up h1 ⟨upd_n (by omega), upd_n (by omega), upd_n (by omega)⟩ (fun s hs => upd_n (by omega)) (fun s hs => Or.inl (upd_n (by omega))) (fun k hk => Or.inl (upd_n (by omega))) (Or.inr ⟨x + 1, by omega, ?_⟩) (Or.inl (upd_n (by omega))) (fun s hs => upd_n (by omega)) (fun s hs => Or.inl (upd_n (by omega))) (fun s hs => Or.inl (upd_n (by omega))) (Nat.le_refl _) (fun s hs => Or.inl (upd_n (by omega)))
  show upd _ (0 + 2) (c (0 + 2) + nI 1) (0 + 2) = _
  rw [upd_s, show c (0 + 2) = nI x from ex, nI_add]
end KW5
