/-! ===== the longest round ===== -/
set_option maxRecDepth 100000
theorem szF_full {x : Int32} : ∀ {m : Nat}, szF x m = m → ∀ q, q < m → hs x (nI q) = true
  | 0, _, q, hq => absurd hq (Nat.not_lt_zero _)
  | m + 1, h, q, hq => by
    have h1 := szF_le x m
    have h2 : szF x m + (if hs x (nI m) then 1 else 0) = m + 1 := h
    by_cases hm : hs x (nI m) = true
    · rw [if_pos hm] at h2
      by_cases e : q = m
      · rw [e]; exact hm
      · exact szF_full (m := m) (by omega) q (by omega)
    · rw [if_neg hm] at h2
      omega
theorem szF_add {x : Int32} {q : Nat} (hq : hs x (nI q) = false) (hq2 : q < 32) : ∀ m, m ≤ 32 → szF (x ||| bi q) m = szF x m + (if q < m then 1 else 0)
  | 0, _ => rfl
  | m + 1, hm => by
    show szF (x ||| bi q) m + (if hs (x ||| bi q) (nI m) then 1 else 0) = szF x m + (if hs x (nI m) then 1 else 0) + _
    rw [szF_add hq hq2 m (by omega), hs_or (by omega), hs_bi hq2 (by omega)]
    by_cases e : m = q
    · subst e
      rw [hq, if_neg (Nat.lt_irrefl m), if_pos (Nat.lt_succ_self m)]
      simp
    · rw [decide_eq_false e, Bool.or_false]
      by_cases h2 : q < m
      · rw [if_pos h2, if_pos (show q < m + 1 by omega)]
        omega
      · rw [if_neg h2, if_neg (show ¬ q < m + 1 by omega)]
        omega
abbrev gst : Type := Nat × (Nat → Int32) × (Nat → Int32)
def goU (n : Nat) (s : gst) : gst := if s.1 < n then (n, lay s.2.1 0 n s.2.2, s.2.2) else s
def goR (c : Nat → Int32) (pm t : Nat) : Nat → Nat → Int32 → gst → gst
  | 0, n, _, s => goU n s
  | f + 1, n, se, s => itN (fun q (X : gst) => if hs (nxS c pm t (cl (s.2.2 (n - 1))) &&& (se ^^^ (-1))) (nI q) = true then goR c pm t f (n + 1) (se ||| bi q) (X.1, X.2.1, upd X.2.2 n (nI q)) else X) 7 (goU n s)
theorem goU_bl {n : Nat} {s : gst} (h : s.1 ≤ 7) (hn : n ≤ 7) : (goU n s).1 ≤ 7 := by
  unfold goU
  split
  · exact hn
  · exact h
theorem goR_bl {c : Nat → Int32} {pm t : Nat} : ∀ {f n : Nat} {se : Int32} {s : gst}, n + f = 7 → s.1 ≤ 7 → (goR c pm t f n se s).1 ≤ 7
  | 0, n, se, s, hn, h => goU_bl h (by omega)
  | f + 1, n, se, s, hn, h => by
    rw [goR]
    refine itN_inv (fun _ (X : gst) => X.1 ≤ 7) (goU_bl h (by omega)) 7 (fun q X hq hX => ?_)
    split
    · exact goR_bl (by omega) hX
    · exact hX
def grM (M : mS) (s : gst) : mS := mSA (mSA (mI M 29 (nI s.1)) 10 s.2.1) 9 s.2.2
theorem grM_9 {M : mS} {s : gst} {n : Nat} {v : Int32} : mA (grM M s) 9 n v = grM M (s.1, s.2.1, upd s.2.2 n v) := by
  unfold grM
  rw [mA_SA]
theorem upA_c {α : Type} {f : Nat → α} {r q : Nat} {x y : α} (h : r ≠ q) : upA (upA f r x) q y = upA (upA f q y) r x := by
  funext j
  unfold upA
  by_cases h1 : j = q
  · rw [if_pos h1, if_neg (by omega), if_pos h1]
  · rw [if_neg h1]
    by_cases h2 : j = r
    · rw [if_pos h2, if_pos h2]
    · rw [if_neg h2, if_neg h2, if_neg h1]
theorem grM_10 {M : mS} {s : gst} {n : Nat} {v : Int32} : mA (grM M s) 10 n v = grM M (s.1, upd s.2.1 n v, s.2.2) := by
  unfold grM
  dsimp only [mA, mSA]
  rw [upA_n (f := upA M.2.2.1 10 s.2.1) (show 10 ≠ 9 by decide), upA_s, upA_c (show 9 ≠ 10 by decide), upA_upA]
theorem grM_29 {M : mS} {s : gst} {n : Nat} : mI (grM M s) 29 (nI n) = grM M (n, s.2.1, s.2.2) := by
  unfold grM
  dsimp only [mI, mSA]
  rw [upd_upd]
theorem grM_5 {M : mS} {s : gst} : (grM M s).2.2.1 5 = M.2.2.1 5 := rfl
