/-! ===== the longest round, whatever stood in the arrays ===== -/
set_option maxRecDepth 100000
def gEq (n : Nat) (s s' : gst) : Prop := s.1 = s'.1 ∧ (∀ k, k < n → s.2.2 k = s'.2.2 k) ∧ ∀ k, k < s.1 → s.2.1 k = s'.2.1 k
theorem gEq_le {n m : Nat} {s s' : gst} (h : gEq n s s') (hm : m ≤ n) : gEq m s s' := ⟨h.1, fun k hk => h.2.1 k (by omega), h.2.2⟩
theorem gEq_U {n : Nat} {s s' : gst} (h : gEq n s s') : gEq n (goU n s) (goU n s') := by
  unfold goU
  rw [← h.1]
  by_cases h1 : s.1 < n
  · rw [if_pos h1, if_pos h1]
    refine ⟨rfl, h.2.1, fun k (hk : k < n) => ?_⟩
    show lay s.2.1 0 n s.2.2 k = lay s'.2.1 0 n s'.2.2 k
    unfold lay
    rw [if_pos (by omega), if_pos (by omega)]
    exact h.2.1 _ (by omega)
  · rw [if_neg h1, if_neg h1]
    exact h
theorem itN_inv2 {α : Type} {f g : Nat → α → α} {a b : α} (P : α → α → Prop) (h0 : P a b) : ∀ n, (∀ i x y, i < n → P x y → P (f i x) (g i y)) → P (itN f n a) (itN g n b)
  | 0, _ => h0
  | n + 1, h => h n _ _ (by omega) (itN_inv2 P h0 n (fun i x y hi => h i x y (by omega)))
theorem gEq_R {c : Nat → Int32} {pm t : Nat} : ∀ {f n : Nat} {se : Int32} {s s' : gst}, 1 ≤ n → gEq n s s' → gEq n (goR c pm t f n se s) (goR c pm t f n se s')
  | 0, n, se, s, s', _, h => gEq_U h
  | f + 1, n, se, s, s', hn, h => by
    rw [goR, goR, h.2.1 (n - 1) (by omega)]
    refine itN_inv2 (gEq n) (gEq_U h) 7 (fun q X Y hq hX => ?_)
    split
    · refine gEq_le (gEq_R (n := n + 1) (by omega) ⟨hX.1, fun k hk => ?_, hX.2.2⟩) (by omega)
      show upd X.2.2 n (nI q) k = upd Y.2.2 n (nI q) k
      unfold upd
      split
      · rfl
      · exact hX.2.1 k (by omega)
    · exact hX
def rnd (c : Nat → Int32) (pm t : Nat) : gst := goR c pm t 6 1 (bi (cl (c (42 + t)))) (0, fun _ => nI 0, upd (fun _ => nI 0) 0 (nI (cl (c (42 + t)))))
theorem rnd_bl {c : Nat → Int32} {pm t : Nat} : (rnd c pm t).1 ≤ 7 := goR_bl (by decide) (Nat.zero_le _)
theorem rnd_eq {c : Nat → Int32} {pm t p : Nat} (e : c (42 + t) = nI p) (hp : p < 7) (b r : Nat → Int32) : gEq 1 (goR c pm t 6 1 (bi p) (0, b, upd r 0 (nI p))) (rnd c pm t) := by
  unfold rnd
  rw [e, cl_nI (by omega)]
  refine gEq_R (Nat.le_refl _) ⟨rfl, fun k hk => ?_, fun k hk => absurd hk (Nat.not_lt_zero _)⟩
  show upd r 0 (nI p) k = upd (fun _ => nI 0) 0 (nI p) k
  rw [show k = 0 by omega, upd_s, upd_s]
def spRound (c : Nat → Int32) (pm tn : Nat) (t : Int32) : Int32 × Nat := match ix t tn with
  | none => (-1, 2)
  | some t => if goB c t then (-1, 9) else (nI (rnd c pm t).1, 0)
def spRoundAt (c : Nat → Int32) (pm tn : Nat) (t k : Int32) : Int32 × Nat := match ix t tn with
  | none => (-1, 2)
  | some t => if goB c t then (-1, 9) else match ix k (rnd c pm t).1 with
    | none => (-1, 8)
    | some k => ((rnd c pm t).2.1 k, 0)
theorem grM_0 {M : mS} : mI M 29 (nI 0) = grM M (0, M.2.2.1 10, M.2.2.1 9) := by
  unfold grM
  dsimp only [mSA, mI]
  rw [upA_id, upA_id]
theorem mQ_G {M M' : mS} {s : gst} (h : mQ M M') : mQ (grM M s) M' := mQ_SA (mQ_SA (mQ_I h rfl) rfl (by decide)) rfl (by decide)
theorem mQ_GR {X : mS} {s : gst} {a y : Int32} : mQ (mI (grM (mI X 0 a) s) 0 y) (mI X 0 y) := by
  have h : mQ (mI (grM (mI X 0 a) s) 0 y) (mI (mI X 0 a) 0 y) := mQ_II (mQ_G (mQ_r _))
  rw [mI_mI] at h
  exact h
theorem szF_bi : ∀ p, p < 7 → szF (bi p) 7 = 1 := by decide +kernel
