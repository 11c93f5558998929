/-! ===== the model: what there is ===== -/
set_option maxRecDepth 100000
set_option maxHeartbeats 4000000 in
theorem m_isTraitAt {w : xW} {M : mS} {R : xH} {tm pm tn G : Nat} (hF : wF (M.2.2.1 5) tm pm tn G) (k : Int32) : CT w yX8_isTraitAt cX8_isTraitAt 2 (some (.boolean)) [] false (1) 0 0 [.ref 32, .int k] (hM M R) (xret (some (.int (xb (ix k tm).isSome))) (hM M R)) := by
  refine CT.of (ini := false) (by decide +kernel) q1933 q164 (Nat.le_of_ble_eq_true rfl) (by decide) ?_
  intro Γ hw ho hL hr hh hini hal hd hmc hms hQ
  subst hw
  show AW Γ cX8_isTraitAt 0 0 0 [some (.ref 32), some (.int k)] [] (hM M R)
  have h0 := hF.c0
  have h1 := hF.c1
  have h3 := hF.c3
  have l0 := hF.l0
  have l1 := hF.l1
  have l3 := hF.l3
  refine x_iload_n dX8_isTraitAt_0 rfl ?_
  refine x_i2l dX8_isTraitAt_1 ?_
  refine x_lconst (v := lN 0) rfl dX8_isTraitAt_2 ?_
  refine x_aload_n dX8_isTraitAt_3 rfl ?_
  refine x_getf gf_X8_35 ho dX8_isTraitAt_4 rfl rfl ?_
  refine x_iconst (v := nI 0) rfl dX8_isTraitAt_7 ?_
  refine x_iald dX8_isTraitAt_8 rfl (by first | rfl | exact nI_add _ _ | (simp only [nI_add, pk_mul]; rfl)) (by omega) (by decide) ?_
  refine x_iconst (v := nI 1) rfl dX8_isTraitAt_9 ?_
  refine x_isub dX8_isTraitAt_10 ?_
  refine x_i2l dX8_isTraitAt_11 ?_
  refine x_callS3 lk_X8_105 (m_isIn _ _ _) ho dX8_isTraitAt_12 (Nat.le_of_ble_eq_true rfl) (by omega) (by decide) (by omega) (by omega) ?_
  refine x_iret hr (xb_n _) dX8_isTraitAt_15 (by omega) (by omega) (hQ _ _ ?_)
  exact ⟨by rw [h0, inI_ix (by omega)], rfl⟩
set_option maxHeartbeats 4000000 in
theorem m_isPersonAt {w : xW} {M : mS} {R : xH} {tm pm tn G : Nat} (hF : wF (M.2.2.1 5) tm pm tn G) (p : Int64) : CT w yX8_isPersonAt cX8_isPersonAt 3 (some (.boolean)) [] false (1) 0 0 [.ref 32, .long p] (hM M R) (xret (some (.int (xb (ixL p pm).isSome))) (hM M R)) := by
  refine CT.of (ini := false) (by decide +kernel) q1941 q164 (Nat.le_of_ble_eq_true rfl) (by decide) ?_
  intro Γ hw ho hL hr hh hini hal hd hmc hms hQ
  subst hw
  show AW Γ cX8_isPersonAt 0 0 0 [some (.ref 32), some (.long p), none] [] (hM M R)
  have h0 := hF.c0
  have h1 := hF.c1
  have h3 := hF.c3
  have l0 := hF.l0
  have l1 := hF.l1
  have l3 := hF.l3
  refine x_lload_n dX8_isPersonAt_0 rfl ?_
  refine x_lconst (v := lN 0) rfl dX8_isPersonAt_1 ?_
  refine x_aload_n dX8_isPersonAt_2 rfl ?_
  refine x_getf gf_X8_35 ho dX8_isPersonAt_3 rfl rfl ?_
  refine x_iconst (v := nI 1) rfl dX8_isPersonAt_6 ?_
  refine x_iald dX8_isPersonAt_7 rfl (by first | rfl | exact nI_add _ _ | (simp only [nI_add, pk_mul]; rfl)) (by omega) (by decide) ?_
  refine x_iconst (v := nI 1) rfl dX8_isPersonAt_8 ?_
  refine x_isub dX8_isPersonAt_9 ?_
  refine x_i2l dX8_isPersonAt_10 ?_
  refine x_callS3 lk_X8_105 (m_isIn _ _ _) ho dX8_isPersonAt_11 (Nat.le_of_ble_eq_true rfl) (by omega) (by decide) (by omega) (by omega) ?_
  refine x_iret hr (xb_n _) dX8_isPersonAt_14 (by omega) (by omega) (hQ _ _ ?_)
  exact ⟨by rw [h1, inL_ix (by omega)], rfl⟩
set_option maxHeartbeats 4000000 in
theorem m_isTinAt {w : xW} {M : mS} {R : xH} {tm pm tn G : Nat} (hF : wF (M.2.2.1 5) tm pm tn G) (t : Int32) : CT w yX8_isTinAt cX8_isTinAt 2 (some (.boolean)) [] false (1) 0 0 [.ref 32, .int t] (hM M R) (xret (some (.int (xb (ix t tn).isSome))) (hM M R)) := by
  refine CT.of (ini := false) (by decide +kernel) q1954 q164 (Nat.le_of_ble_eq_true rfl) (by decide) ?_
  intro Γ hw ho hL hr hh hini hal hd hmc hms hQ
  subst hw
  show AW Γ cX8_isTinAt 0 0 0 [some (.ref 32), some (.int t)] [] (hM M R)
  have h0 := hF.c0
  have h1 := hF.c1
  have h3 := hF.c3
  have l0 := hF.l0
  have l1 := hF.l1
  have l3 := hF.l3
  refine x_iload_n dX8_isTinAt_0 rfl ?_
  refine x_i2l dX8_isTinAt_1 ?_
  refine x_lconst (v := lN 0) rfl dX8_isTinAt_2 ?_
  refine x_aload_n dX8_isTinAt_3 rfl ?_
  refine x_getf gf_X8_35 ho dX8_isTinAt_4 rfl rfl ?_
  refine x_iconst (v := nI 3) rfl dX8_isTinAt_7 ?_
  refine x_iald dX8_isTinAt_8 rfl (by first | rfl | exact nI_add _ _ | (simp only [nI_add, pk_mul]; rfl)) (by omega) (by decide) ?_
  refine x_iconst (v := nI 1) rfl dX8_isTinAt_9 ?_
  refine x_isub dX8_isTinAt_10 ?_
  refine x_i2l dX8_isTinAt_11 ?_
  refine x_callS3 lk_X8_105 (m_isIn _ _ _) ho dX8_isTinAt_12 (Nat.le_of_ble_eq_true rfl) (by omega) (by decide) (by omega) (by omega) ?_
  refine x_iret hr (xb_n _) dX8_isTinAt_15 (by omega) (by omega) (hQ _ _ ?_)
  exact ⟨by rw [h3, inI_ix (by omega)], rfl⟩
set_option maxHeartbeats 4000000 in
theorem m_isGone {w : xW} {M : mS} {R : xH} {tm pm tn G : Nat} (hF : wF (M.2.2.1 5) tm pm tn G) (t : Nat) (ht : t < tn) : CT w yX8_isGone cX8_isGone 2 (some (.boolean)) [] false (0) 0 0 [.ref 32, .int (nI t)] (hM M R) (xret (some (.int (xb (goB (M.2.2.1 5) t)))) (hM M R)) := by
  rcases hF.on ht with e | ⟨p, hp, e⟩
  · skip
    refine CT.of (ini := false) (by decide +kernel) q1909 q164 (Nat.le_of_ble_eq_true rfl) (by decide) ?_
    intro Γ hw ho hL hr hh hini hal hd hmc hms hQ
    subst hw
    show AW Γ cX8_isGone 0 0 0 [some (.ref 32), some (.int (nI t))] [] (hM M R)
    have h0 := hF.c0
    have h1 := hF.c1
    have h3 := hF.c3
    have l0 := hF.l0
    have l1 := hF.l1
    have l3 := hF.l3
    refine x_aload_n dX8_isGone_0 rfl ?_
    refine x_getf gf_X8_35 ho dX8_isGone_1 rfl rfl ?_
    refine x_bipush (v := nI 42) rfl dX8_isGone_4 ?_
    refine x_iload_n dX8_isGone_6 rfl ?_
    refine x_iaddN dX8_isGone_7 ?_
    refine x_iald dX8_isGone_8 rfl (by first | rfl | exact nI_add _ _ | (simp only [nI_add, pk_mul]; rfl)) (by omega) (by decide) ?_
    refine x_if_ge (tgt := 16) dX8_isGone_9 (by decide) (fun c9 => ?_) (fun c9 => ?_)
    · try (exfalso; first | (simp (disch := omega) only [e, Int32.le_iff_toInt_le, Int32.lt_iff_toInt_lt, ← Int32.toInt_inj, nI_toInt, Int32.toInt_zero, m1_toInt, Int64.le_iff_toInt_le, Int64.lt_iff_toInt_lt, ← Int64.toInt_inj, pk_lT, i64_toInt, Int64.toInt_zero, eq_self, not_true_eq_false, not_false_eq_true] at c9 <;> omega) | omega)
      all_goals
        skip
        refine x_iconst (v := nI 0) rfl dX8_isGone_16 ?_
        refine x_iret hr rfl dX8_isGone_17 (by omega) (by omega) (hQ _ _ ?_)
        exact ⟨by simp [goB, e]; rfl, rfl⟩
    · try (exfalso; first | (simp (disch := omega) only [e, Int32.le_iff_toInt_le, Int32.lt_iff_toInt_lt, ← Int32.toInt_inj, nI_toInt, Int32.toInt_zero, m1_toInt, Int64.le_iff_toInt_le, Int64.lt_iff_toInt_lt, ← Int64.toInt_inj, pk_lT, i64_toInt, Int64.toInt_zero, eq_self, not_true_eq_false, not_false_eq_true] at c9 <;> omega) | omega)
      all_goals
        skip
        refine x_iconst (v := nI 1) rfl dX8_isGone_12 ?_
        refine x_goto (tgt := 17) dX8_isGone_13 (by decide) ?_
        refine x_iret hr rfl dX8_isGone_17 (by omega) (by omega) (hQ _ _ ?_)
        exact ⟨by simp [goB, e]; rfl, rfl⟩
  · skip
    refine CT.of (ini := false) (by decide +kernel) q1909 q164 (Nat.le_of_ble_eq_true rfl) (by decide) ?_
    intro Γ hw ho hL hr hh hini hal hd hmc hms hQ
    subst hw
    show AW Γ cX8_isGone 0 0 0 [some (.ref 32), some (.int (nI t))] [] (hM M R)
    have h0 := hF.c0
    have h1 := hF.c1
    have h3 := hF.c3
    have l0 := hF.l0
    have l1 := hF.l1
    have l3 := hF.l3
    refine x_aload_n dX8_isGone_0 rfl ?_
    refine x_getf gf_X8_35 ho dX8_isGone_1 rfl rfl ?_
    refine x_bipush (v := nI 42) rfl dX8_isGone_4 ?_
    refine x_iload_n dX8_isGone_6 rfl ?_
    refine x_iaddN dX8_isGone_7 ?_
    refine x_iald dX8_isGone_8 rfl (by first | rfl | exact nI_add _ _ | (simp only [nI_add, pk_mul]; rfl)) (by omega) (by decide) ?_
    refine x_if_ge (tgt := 16) dX8_isGone_9 (by decide) (fun c9 => ?_) (fun c9 => ?_)
    · try (exfalso; first | (simp (disch := omega) only [e, Int32.le_iff_toInt_le, Int32.lt_iff_toInt_lt, ← Int32.toInt_inj, nI_toInt, Int32.toInt_zero, m1_toInt, Int64.le_iff_toInt_le, Int64.lt_iff_toInt_lt, ← Int64.toInt_inj, pk_lT, i64_toInt, Int64.toInt_zero, eq_self, not_true_eq_false, not_false_eq_true] at c9 <;> omega) | omega)
      all_goals
        skip
        refine x_iconst (v := nI 0) rfl dX8_isGone_16 ?_
        refine x_iret hr rfl dX8_isGone_17 (by omega) (by omega) (hQ _ _ ?_)
        exact ⟨by rw [show goB (M.2.2.1 5) t = false from decide_eq_false (by rw [e]; exact fun q => (nI_m1 (by omega)).mp q)]; rfl, rfl⟩
    · try (exfalso; first | (simp (disch := omega) only [e, Int32.le_iff_toInt_le, Int32.lt_iff_toInt_lt, ← Int32.toInt_inj, nI_toInt, Int32.toInt_zero, m1_toInt, Int64.le_iff_toInt_le, Int64.lt_iff_toInt_lt, ← Int64.toInt_inj, pk_lT, i64_toInt, Int64.toInt_zero, eq_self, not_true_eq_false, not_false_eq_true] at c9 <;> omega) | omega)
      all_goals
        skip
        refine x_iconst (v := nI 1) rfl dX8_isGone_12 ?_
        refine x_goto (tgt := 17) dX8_isGone_13 (by decide) ?_
        refine x_iret hr rfl dX8_isGone_17 (by omega) (by omega) (hQ _ _ ?_)
        exact ⟨by rw [show goB (M.2.2.1 5) t = false from decide_eq_false (by rw [e]; exact fun q => (nI_m1 (by omega)).mp q)]; rfl, rfl⟩
set_option maxHeartbeats 4000000 in
theorem m_worthOf {w : xW} {M : mS} {R : xH} {tm pm tn G : Nat} (hF : wF (M.2.2.1 5) tm pm tn G) (t : Nat) (ht : t < tn) : CT w yX8_worthOf cX8_worthOf 2 (some (.int)) [] false (0) 0 0 [.ref 32, .int (nI t)] (hM M R) (xret (some (.int (wOf (M.2.2.1 5) t))) (hM M R)) := by
  obtain ⟨k, hk, e⟩ := hF.of ht
  refine CT.of (ini := false) (by decide +kernel) q1925 q164 (Nat.le_of_ble_eq_true rfl) (by decide) ?_
  intro Γ hw ho hL hr hh hini hal hd hmc hms hQ
  subst hw
  show AW Γ cX8_worthOf 0 0 0 [some (.ref 32), some (.int (nI t))] [] (hM M R)
  have h0 := hF.c0
  have h1 := hF.c1
  have h3 := hF.c3
  have l0 := hF.l0
  have l1 := hF.l1
  have l3 := hF.l3
  refine x_aload_n dX8_worthOf_0 rfl ?_
  refine x_getf gf_X8_35 ho dX8_worthOf_1 rfl rfl ?_
  refine x_bipush (v := nI 6) rfl dX8_worthOf_4 ?_
  refine x_aload_n dX8_worthOf_6 rfl ?_
  refine x_getf gf_X8_35 ho dX8_worthOf_7 rfl rfl ?_
  refine x_bipush (v := nI 33) rfl dX8_worthOf_10 ?_
  refine x_iload_n dX8_worthOf_12 rfl ?_
  refine x_iaddN dX8_worthOf_13 ?_
  refine x_iald dX8_worthOf_14 rfl (by first | rfl | exact nI_add _ _ | (simp only [nI_add, pk_mul]; rfl)) (by omega) (by decide) ?_
  refine x_ival e ?_
  refine x_iaddN dX8_worthOf_15 ?_
  refine x_iald dX8_worthOf_16 rfl (by first | rfl | exact nI_add _ _ | (simp only [nI_add, pk_mul]; rfl)) (by omega) (by decide) ?_
  refine x_iret hr rfl dX8_worthOf_17 (by omega) (by omega) (hQ _ _ ?_)
  exact ⟨by rw [wOf, e, cl_nI (by omega)], rfl⟩
set_option maxHeartbeats 4000000 in
theorem m_isTrue {w : xW} {M : mS} {R : xH} {tm pm tn G : Nat} (hF : wF (M.2.2.1 5) tm pm tn G) (t p : Nat) (ht : t < 9) (hp : p < 7) : CT w yX8_isTrue cX8_isTrue 3 (some (.boolean)) [] false (1) 0 0 [.ref 32, .int (nI t), .int (nI p)] (hM M R) (xret (some (.int (xb (trB (M.2.2.1 5) t p)))) (hM M R)) := by
  refine CT.of (ini := false) (by decide +kernel) q1980 q164 (Nat.le_of_ble_eq_true rfl) (by decide) ?_
  intro Γ hw ho hL hr hh hini hal hd hmc hms hQ
  subst hw
  show AW Γ cX8_isTrue 0 0 0 [some (.ref 32), some (.int (nI t)), some (.int (nI p))] [] (hM M R)
  have h0 := hF.c0
  have h1 := hF.c1
  have h3 := hF.c3
  have l0 := hF.l0
  have l1 := hF.l1
  have l3 := hF.l3
  refine x_aload_n dX8_isTrue_0 rfl ?_
  refine x_getf gf_X8_35 ho dX8_isTrue_1 rfl rfl ?_
  refine x_bipush (v := nI 12) rfl dX8_isTrue_4 ?_
  refine x_iload_n dX8_isTrue_6 rfl ?_
  refine x_iaddN dX8_isTrue_7 ?_
  refine x_iald dX8_isTrue_8 rfl (by first | rfl | exact nI_add _ _ | (simp only [nI_add, pk_mul]; rfl)) (by omega) (by decide) ?_
  refine x_aload_n dX8_isTrue_9 rfl ?_
  refine x_getf gf_X8_35 ho dX8_isTrue_10 rfl rfl ?_
  refine x_bipush (v := nI 33) rfl dX8_isTrue_13 ?_
  refine x_iload_n dX8_isTrue_15 rfl ?_
  refine x_iaddN dX8_isTrue_16 ?_
  refine x_iald dX8_isTrue_17 rfl (by first | rfl | exact nI_add _ _ | (simp only [nI_add, pk_mul]; rfl)) (by omega) (by decide) ?_
  refine x_callS2 lk_X8_109 (m_has _ _) ho dX8_isTrue_18 (Nat.le_of_ble_eq_true rfl) (by omega) (by decide) (by omega) (by omega) ?_
  refine x_iret hr (xb_n _) dX8_isTrue_21 (by omega) (by omega) (hQ _ _ ?_)
  exact ⟨by first | rfl | (simp []; done), rfl⟩
set_option maxHeartbeats 4000000 in
theorem m_tinsThat0 {w : xW} {M : mS} {R : xH} {tm pm tn G : Nat} (hF : wF (M.2.2.1 5) tm pm tn G)  : CT w yX8_tinsThat cX8_tinsThat 4 (some (.int)) [] false (2) 0 0 [.ref 32, .int (nI 0)] (hM M R) (xret (some (.int (orF (goB (M.2.2.1 5)) tn))) (hM M R)) := by
  refine CT.of (ini := false) (by decide +kernel) q1905 q164 (Nat.le_of_ble_eq_true rfl) (by decide) ?_
  intro Γ hw ho hL hr hh hini hal hd hmc hms hQ
  subst hw
  show AW Γ cX8_tinsThat 0 0 0 [some (.ref 32), some (.int (nI 0)), none, none] [] (hM M R)
  have h0 := hF.c0
  have h1 := hF.c1
  have h3 := hF.c3
  have l0 := hF.l0
  have l1 := hF.l1
  have l3 := hF.l3
  refine x_iconst (v := nI 0) rfl dX8_tinsThat_0 ?_
  refine x_ist2 hL (by decide) rfl dX8_tinsThat_1 ?_
  refine x_iconst (v := nI 0) rfl dX8_tinsThat_2 ?_
  refine x_ist3 hL (by decide) rfl dX8_tinsThat_3 ?_
  refine x_for (n := tn) (fun i => [some (.ref 32), some (.int (nI 0)), some (.int (orF (goB (M.2.2.1 5)) i)), some (.int (nI i))]) (fun i => []) (fun i => hM M R) ?_ (fun i hi ihi => ?_)
  · skip
    refine x_iload_n dX8_tinsThat_4 rfl ?_
    refine x_aload_n dX8_tinsThat_5 rfl ?_
    refine x_getf gf_X8_35 ho dX8_tinsThat_6 rfl rfl ?_
    refine x_iconst (v := nI 3) rfl dX8_tinsThat_9 ?_
    refine x_iald dX8_tinsThat_10 rfl (by first | rfl | exact nI_add _ _ | (simp only [nI_add, pk_mul]; rfl)) (by omega) (by decide) ?_
    refine x_icmp_ge (tgt := 68) dX8_tinsThat_11 (by decide) (fun c11 => ?_) (fun c11 => ?_)
    · skip
      refine x_iload_n dX8_tinsThat_68 rfl ?_
      refine x_iret hr rfl dX8_tinsThat_69 (by omega) (by omega) (hQ _ _ ?_)
      exact ⟨by first | rfl | (simp [c11]; done), rfl⟩
    · exfalso; first | (simp (disch := omega) only [h0, h1, h3, Int32.le_iff_toInt_le, Int32.lt_iff_toInt_lt, ← Int32.toInt_inj, nI_toInt, Int32.toInt_zero, m1_toInt, Int64.le_iff_toInt_le, Int64.lt_iff_toInt_lt, ← Int64.toInt_inj, pk_lT, i64_toInt, Int64.toInt_zero, eq_self, not_true_eq_false, not_false_eq_true] at c11 <;> omega) | omega
  · skip
    refine x_iload_n dX8_tinsThat_4 rfl ?_
    refine x_aload_n dX8_tinsThat_5 rfl ?_
    refine x_getf gf_X8_35 ho dX8_tinsThat_6 rfl rfl ?_
    refine x_iconst (v := nI 3) rfl dX8_tinsThat_9 ?_
    refine x_iald dX8_tinsThat_10 rfl (by first | rfl | exact nI_add _ _ | (simp only [nI_add, pk_mul]; rfl)) (by omega) (by decide) ?_
    refine x_icmp_ge (tgt := 68) dX8_tinsThat_11 (by decide) (fun c11 => ?_) (fun c11 => ?_)
    · exfalso; first | (simp (disch := omega) only [h0, h1, h3, Int32.le_iff_toInt_le, Int32.lt_iff_toInt_lt, ← Int32.toInt_inj, nI_toInt, Int32.toInt_zero, m1_toInt, Int64.le_iff_toInt_le, Int64.lt_iff_toInt_lt, ← Int64.toInt_inj, pk_lT, i64_toInt, Int64.toInt_zero, eq_self, not_true_eq_false, not_false_eq_true] at c11 <;> omega) | omega
    · skip
      refine x_iload_n dX8_tinsThat_14 rfl ?_
      refine x_iload_n dX8_tinsThat_15 rfl ?_
      refine x_if_ne (tgt := 30) dX8_tinsThat_16 (by decide) (fun c16 => ?_) (fun c16 => ?_)
      · try (exfalso; first | (simp (disch := omega) only [h0, h1, h3, Int32.le_iff_toInt_le, Int32.lt_iff_toInt_lt, ← Int32.toInt_inj, nI_toInt, Int32.toInt_zero, m1_toInt, Int64.le_iff_toInt_le, Int64.lt_iff_toInt_lt, ← Int64.toInt_inj, pk_lT, i64_toInt, Int64.toInt_zero, eq_self, not_true_eq_false, not_false_eq_true] at c11 c16 <;> omega) | omega)
        all_goals
          skip
          refine x_aload_n dX8_tinsThat_30 rfl ?_
          refine x_getf gf_X8_35 ho dX8_tinsThat_31 rfl rfl ?_
          refine x_iload_n dX8_tinsThat_34 rfl ?_
          refine x_iconst (v := nI 1) rfl dX8_tinsThat_35 ?_
          refine x_icmp_ne (tgt := 44) dX8_tinsThat_36 (by decide) (fun c36 => ?_) (fun c36 => ?_)
          · try (exfalso; first | (simp (disch := omega) only [h0, h1, h3, Int32.le_iff_toInt_le, Int32.lt_iff_toInt_lt, ← Int32.toInt_inj, nI_toInt, Int32.toInt_zero, m1_toInt, Int64.le_iff_toInt_le, Int64.lt_iff_toInt_lt, ← Int64.toInt_inj, pk_lT, i64_toInt, Int64.toInt_zero, eq_self, not_true_eq_false, not_false_eq_true] at c11 c16 c36 <;> omega) | omega)
            all_goals
              skip
              refine x_bipush (v := nI 51) rfl dX8_tinsThat_44 ?_
              refine x_iload_n dX8_tinsThat_46 rfl ?_
              refine x_iaddN dX8_tinsThat_47 ?_
              refine x_iald dX8_tinsThat_48 rfl (by first | rfl | exact nI_add _ _ | (simp only [nI_add, pk_mul]; rfl)) (by omega) (by decide) ?_
              refine x_iconst (v := nI 1) rfl dX8_tinsThat_49 ?_
              refine x_icmp_ne (tgt := 59) dX8_tinsThat_50 (by decide) (fun c50 => ?_) (fun c50 => ?_)
              · try (exfalso; first | (simp (disch := omega) only [h0, h1, h3, Int32.le_iff_toInt_le, Int32.lt_iff_toInt_lt, ← Int32.toInt_inj, nI_toInt, Int32.toInt_zero, m1_toInt, Int64.le_iff_toInt_le, Int64.lt_iff_toInt_lt, ← Int64.toInt_inj, pk_lT, i64_toInt, Int64.toInt_zero, eq_self, not_true_eq_false, not_false_eq_true] at c11 c16 c36 c50 <;> omega) | omega)
                all_goals
                  skip
                  refine x_iconst (v := nI 0) rfl dX8_tinsThat_59 ?_
                  refine x_ior dX8_tinsThat_60 ?_
                  refine x_ist2 hL (by decide) rfl dX8_tinsThat_61 ?_
                  refine x_inc3 hL (by decide) rfl dX8_tinsThat_62 (nI_1 _) ?_
                  refine x_goto (tgt := 4) dX8_tinsThat_65 (by decide) ?_
                  refine x_eq ?_ ?_ ?_ (ihi)
                  · simp [orF, c11, c16, c36, c50]; try rfl
                  · rfl
                  · rfl
              · try (exfalso; first | (simp (disch := omega) only [h0, h1, h3, Int32.le_iff_toInt_le, Int32.lt_iff_toInt_lt, ← Int32.toInt_inj, nI_toInt, Int32.toInt_zero, m1_toInt, Int64.le_iff_toInt_le, Int64.lt_iff_toInt_lt, ← Int64.toInt_inj, pk_lT, i64_toInt, Int64.toInt_zero, eq_self, not_true_eq_false, not_false_eq_true] at c11 c16 c36 c50 <;> omega) | omega)
                all_goals
                  skip
                  refine x_iconst (v := nI 1) rfl dX8_tinsThat_53 ?_
                  refine x_iload_n dX8_tinsThat_54 rfl ?_
                  refine x_ishl dX8_tinsThat_55 ?_
                  refine x_goto (tgt := 60) dX8_tinsThat_56 (by decide) ?_
                  refine x_ior dX8_tinsThat_60 ?_
                  refine x_ist2 hL (by decide) rfl dX8_tinsThat_61 ?_
                  refine x_inc3 hL (by decide) rfl dX8_tinsThat_62 (nI_1 _) ?_
                  refine x_goto (tgt := 4) dX8_tinsThat_65 (by decide) ?_
                  refine x_eq ?_ ?_ ?_ (ihi)
                  · simp [orF, c11, c16, c36, c50]; try rfl
                  · rfl
                  · rfl
          · try (exfalso; first | (simp (disch := omega) only [h0, h1, h3, Int32.le_iff_toInt_le, Int32.lt_iff_toInt_lt, ← Int32.toInt_inj, nI_toInt, Int32.toInt_zero, m1_toInt, Int64.le_iff_toInt_le, Int64.lt_iff_toInt_lt, ← Int64.toInt_inj, pk_lT, i64_toInt, Int64.toInt_zero, eq_self, not_true_eq_false, not_false_eq_true] at c11 c16 c36 <;> omega) | omega)
            all_goals
              skip
              refine x_bipush (v := nI 60) rfl dX8_tinsThat_39 ?_
              refine x_goto (tgt := 46) dX8_tinsThat_41 (by decide) ?_
              refine x_iload_n dX8_tinsThat_46 rfl ?_
              refine x_iaddN dX8_tinsThat_47 ?_
              refine x_iald dX8_tinsThat_48 rfl (by first | rfl | exact nI_add _ _ | (simp only [nI_add, pk_mul]; rfl)) (by omega) (by decide) ?_
              refine x_iconst (v := nI 1) rfl dX8_tinsThat_49 ?_
              refine x_icmp_ne (tgt := 59) dX8_tinsThat_50 (by decide) (fun c50 => ?_) (fun c50 => ?_)
              · try (exfalso; first | (simp (disch := omega) only [h0, h1, h3, Int32.le_iff_toInt_le, Int32.lt_iff_toInt_lt, ← Int32.toInt_inj, nI_toInt, Int32.toInt_zero, m1_toInt, Int64.le_iff_toInt_le, Int64.lt_iff_toInt_lt, ← Int64.toInt_inj, pk_lT, i64_toInt, Int64.toInt_zero, eq_self, not_true_eq_false, not_false_eq_true] at c11 c16 c36 c50 <;> omega) | omega)
                all_goals
                  skip
                  refine x_iconst (v := nI 0) rfl dX8_tinsThat_59 ?_
                  refine x_ior dX8_tinsThat_60 ?_
                  refine x_ist2 hL (by decide) rfl dX8_tinsThat_61 ?_
                  refine x_inc3 hL (by decide) rfl dX8_tinsThat_62 (nI_1 _) ?_
                  refine x_goto (tgt := 4) dX8_tinsThat_65 (by decide) ?_
                  refine x_eq ?_ ?_ ?_ (ihi)
                  · simp [orF, c11, c16, c36, c50]; try rfl
                  · rfl
                  · rfl
              · try (exfalso; first | (simp (disch := omega) only [h0, h1, h3, Int32.le_iff_toInt_le, Int32.lt_iff_toInt_lt, ← Int32.toInt_inj, nI_toInt, Int32.toInt_zero, m1_toInt, Int64.le_iff_toInt_le, Int64.lt_iff_toInt_lt, ← Int64.toInt_inj, pk_lT, i64_toInt, Int64.toInt_zero, eq_self, not_true_eq_false, not_false_eq_true] at c11 c16 c36 c50 <;> omega) | omega)
                all_goals
                  skip
                  refine x_iconst (v := nI 1) rfl dX8_tinsThat_53 ?_
                  refine x_iload_n dX8_tinsThat_54 rfl ?_
                  refine x_ishl dX8_tinsThat_55 ?_
                  refine x_goto (tgt := 60) dX8_tinsThat_56 (by decide) ?_
                  refine x_ior dX8_tinsThat_60 ?_
                  refine x_ist2 hL (by decide) rfl dX8_tinsThat_61 ?_
                  refine x_inc3 hL (by decide) rfl dX8_tinsThat_62 (nI_1 _) ?_
                  refine x_goto (tgt := 4) dX8_tinsThat_65 (by decide) ?_
                  refine x_eq ?_ ?_ ?_ (ihi)
                  · simp [orF, c11, c16, c36, c50]; try rfl
                  · rfl
                  · rfl
      · try (exfalso; first | (simp (disch := omega) only [h0, h1, h3, Int32.le_iff_toInt_le, Int32.lt_iff_toInt_lt, ← Int32.toInt_inj, nI_toInt, Int32.toInt_zero, m1_toInt, Int64.le_iff_toInt_le, Int64.lt_iff_toInt_lt, ← Int64.toInt_inj, pk_lT, i64_toInt, Int64.toInt_zero, eq_self, not_true_eq_false, not_false_eq_true] at c11 c16 <;> omega) | omega)
        all_goals
          skip
          refine x_aload_n dX8_tinsThat_19 rfl ?_
          refine x_iload_n dX8_tinsThat_20 rfl ?_
          refine x_callV1 lk_X8_310 (m_isGone hF _ (by omega)) ho dX8_tinsThat_21 rfl (Nat.le_of_ble_eq_true rfl) (by omega) (by decide) (by omega) (by omega) ?_
          refine x_ifb_eq (tgt := 59) dX8_tinsThat_24 (by decide) (fun c24 => ?_) (fun c24 => ?_)
          · try (exfalso; first | (simp (disch := omega) only [h0, h1, h3, Int32.le_iff_toInt_le, Int32.lt_iff_toInt_lt, ← Int32.toInt_inj, nI_toInt, Int32.toInt_zero, m1_toInt, Int64.le_iff_toInt_le, Int64.lt_iff_toInt_lt, ← Int64.toInt_inj, pk_lT, i64_toInt, Int64.toInt_zero, eq_self, not_true_eq_false, not_false_eq_true] at c11 c16 c24 <;> omega) | omega)
            all_goals
              skip
              refine x_iconst (v := nI 0) rfl dX8_tinsThat_59 ?_
              refine x_ior dX8_tinsThat_60 ?_
              refine x_ist2 hL (by decide) rfl dX8_tinsThat_61 ?_
              refine x_inc3 hL (by decide) rfl dX8_tinsThat_62 (nI_1 _) ?_
              refine x_goto (tgt := 4) dX8_tinsThat_65 (by decide) ?_
              refine x_eq ?_ ?_ ?_ (ihi)
              · simp [orF, c11, c16, c24]; try rfl
              · rfl
              · rfl
          · try (exfalso; first | (simp (disch := omega) only [h0, h1, h3, Int32.le_iff_toInt_le, Int32.lt_iff_toInt_lt, ← Int32.toInt_inj, nI_toInt, Int32.toInt_zero, m1_toInt, Int64.le_iff_toInt_le, Int64.lt_iff_toInt_lt, ← Int64.toInt_inj, pk_lT, i64_toInt, Int64.toInt_zero, eq_self, not_true_eq_false, not_false_eq_true] at c11 c16 c24 <;> omega) | omega)
            all_goals
              skip
              refine x_goto (tgt := 53) dX8_tinsThat_27 (by decide) ?_
              refine x_iconst (v := nI 1) rfl dX8_tinsThat_53 ?_
              refine x_iload_n dX8_tinsThat_54 rfl ?_
              refine x_ishl dX8_tinsThat_55 ?_
              refine x_goto (tgt := 60) dX8_tinsThat_56 (by decide) ?_
              refine x_ior dX8_tinsThat_60 ?_
              refine x_ist2 hL (by decide) rfl dX8_tinsThat_61 ?_
              refine x_inc3 hL (by decide) rfl dX8_tinsThat_62 (nI_1 _) ?_
              refine x_goto (tgt := 4) dX8_tinsThat_65 (by decide) ?_
              refine x_eq ?_ ?_ ?_ (ihi)
              · simp [orF, c11, c16, c24]; try rfl
              · rfl
              · rfl
set_option maxHeartbeats 4000000 in
theorem m_tinsThat1 {w : xW} {M : mS} {R : xH} {tm pm tn G : Nat} (hF : wF (M.2.2.1 5) tm pm tn G)  : CT w yX8_tinsThat cX8_tinsThat 4 (some (.int)) [] false (2) 0 0 [.ref 32, .int (nI 1)] (hM M R) (xret (some (.int (orF (fun t => decide ((M.2.2.1 5) (60 + t) = nI 1)) tn))) (hM M R)) := by
  refine CT.of (ini := false) (by decide +kernel) q1905 q164 (Nat.le_of_ble_eq_true rfl) (by decide) ?_
  intro Γ hw ho hL hr hh hini hal hd hmc hms hQ
  subst hw
  show AW Γ cX8_tinsThat 0 0 0 [some (.ref 32), some (.int (nI 1)), none, none] [] (hM M R)
  have h0 := hF.c0
  have h1 := hF.c1
  have h3 := hF.c3
  have l0 := hF.l0
  have l1 := hF.l1
  have l3 := hF.l3
  refine x_iconst (v := nI 0) rfl dX8_tinsThat_0 ?_
  refine x_ist2 hL (by decide) rfl dX8_tinsThat_1 ?_
  refine x_iconst (v := nI 0) rfl dX8_tinsThat_2 ?_
  refine x_ist3 hL (by decide) rfl dX8_tinsThat_3 ?_
  refine x_for (n := tn) (fun i => [some (.ref 32), some (.int (nI 1)), some (.int (orF (fun t => decide ((M.2.2.1 5) (60 + t) = nI 1)) i)), some (.int (nI i))]) (fun i => []) (fun i => hM M R) ?_ (fun i hi ihi => ?_)
  · skip
    refine x_iload_n dX8_tinsThat_4 rfl ?_
    refine x_aload_n dX8_tinsThat_5 rfl ?_
    refine x_getf gf_X8_35 ho dX8_tinsThat_6 rfl rfl ?_
    refine x_iconst (v := nI 3) rfl dX8_tinsThat_9 ?_
    refine x_iald dX8_tinsThat_10 rfl (by first | rfl | exact nI_add _ _ | (simp only [nI_add, pk_mul]; rfl)) (by omega) (by decide) ?_
    refine x_icmp_ge (tgt := 68) dX8_tinsThat_11 (by decide) (fun c11 => ?_) (fun c11 => ?_)
    · skip
      refine x_iload_n dX8_tinsThat_68 rfl ?_
      refine x_iret hr rfl dX8_tinsThat_69 (by omega) (by omega) (hQ _ _ ?_)
      exact ⟨by first | rfl | (simp [c11]; done), rfl⟩
    · exfalso; first | (simp (disch := omega) only [h0, h1, h3, Int32.le_iff_toInt_le, Int32.lt_iff_toInt_lt, ← Int32.toInt_inj, nI_toInt, Int32.toInt_zero, m1_toInt, Int64.le_iff_toInt_le, Int64.lt_iff_toInt_lt, ← Int64.toInt_inj, pk_lT, i64_toInt, Int64.toInt_zero, eq_self, not_true_eq_false, not_false_eq_true] at c11 <;> omega) | omega
  · skip
    refine x_iload_n dX8_tinsThat_4 rfl ?_
    refine x_aload_n dX8_tinsThat_5 rfl ?_
    refine x_getf gf_X8_35 ho dX8_tinsThat_6 rfl rfl ?_
    refine x_iconst (v := nI 3) rfl dX8_tinsThat_9 ?_
    refine x_iald dX8_tinsThat_10 rfl (by first | rfl | exact nI_add _ _ | (simp only [nI_add, pk_mul]; rfl)) (by omega) (by decide) ?_
    refine x_icmp_ge (tgt := 68) dX8_tinsThat_11 (by decide) (fun c11 => ?_) (fun c11 => ?_)
    · exfalso; first | (simp (disch := omega) only [h0, h1, h3, Int32.le_iff_toInt_le, Int32.lt_iff_toInt_lt, ← Int32.toInt_inj, nI_toInt, Int32.toInt_zero, m1_toInt, Int64.le_iff_toInt_le, Int64.lt_iff_toInt_lt, ← Int64.toInt_inj, pk_lT, i64_toInt, Int64.toInt_zero, eq_self, not_true_eq_false, not_false_eq_true] at c11 <;> omega) | omega
    · skip
      refine x_iload_n dX8_tinsThat_14 rfl ?_
      refine x_iload_n dX8_tinsThat_15 rfl ?_
      refine x_if_ne (tgt := 30) dX8_tinsThat_16 (by decide) (fun c16 => ?_) (fun c16 => ?_)
      · try (exfalso; first | (simp (disch := omega) only [h0, h1, h3, Int32.le_iff_toInt_le, Int32.lt_iff_toInt_lt, ← Int32.toInt_inj, nI_toInt, Int32.toInt_zero, m1_toInt, Int64.le_iff_toInt_le, Int64.lt_iff_toInt_lt, ← Int64.toInt_inj, pk_lT, i64_toInt, Int64.toInt_zero, eq_self, not_true_eq_false, not_false_eq_true] at c11 c16 <;> omega) | omega)
        all_goals
          skip
          refine x_aload_n dX8_tinsThat_30 rfl ?_
          refine x_getf gf_X8_35 ho dX8_tinsThat_31 rfl rfl ?_
          refine x_iload_n dX8_tinsThat_34 rfl ?_
          refine x_iconst (v := nI 1) rfl dX8_tinsThat_35 ?_
          refine x_icmp_ne (tgt := 44) dX8_tinsThat_36 (by decide) (fun c36 => ?_) (fun c36 => ?_)
          · try (exfalso; first | (simp (disch := omega) only [h0, h1, h3, Int32.le_iff_toInt_le, Int32.lt_iff_toInt_lt, ← Int32.toInt_inj, nI_toInt, Int32.toInt_zero, m1_toInt, Int64.le_iff_toInt_le, Int64.lt_iff_toInt_lt, ← Int64.toInt_inj, pk_lT, i64_toInt, Int64.toInt_zero, eq_self, not_true_eq_false, not_false_eq_true] at c11 c16 c36 <;> omega) | omega)
            all_goals
              skip
              refine x_bipush (v := nI 51) rfl dX8_tinsThat_44 ?_
              refine x_iload_n dX8_tinsThat_46 rfl ?_
              refine x_iaddN dX8_tinsThat_47 ?_
              refine x_iald dX8_tinsThat_48 rfl (by first | rfl | exact nI_add _ _ | (simp only [nI_add, pk_mul]; rfl)) (by omega) (by decide) ?_
              refine x_iconst (v := nI 1) rfl dX8_tinsThat_49 ?_
              refine x_icmp_ne (tgt := 59) dX8_tinsThat_50 (by decide) (fun c50 => ?_) (fun c50 => ?_)
              · try (exfalso; first | (simp (disch := omega) only [h0, h1, h3, Int32.le_iff_toInt_le, Int32.lt_iff_toInt_lt, ← Int32.toInt_inj, nI_toInt, Int32.toInt_zero, m1_toInt, Int64.le_iff_toInt_le, Int64.lt_iff_toInt_lt, ← Int64.toInt_inj, pk_lT, i64_toInt, Int64.toInt_zero, eq_self, not_true_eq_false, not_false_eq_true] at c11 c16 c36 c50 <;> omega) | omega)
                all_goals
                  skip
                  refine x_iconst (v := nI 0) rfl dX8_tinsThat_59 ?_
                  refine x_ior dX8_tinsThat_60 ?_
                  refine x_ist2 hL (by decide) rfl dX8_tinsThat_61 ?_
                  refine x_inc3 hL (by decide) rfl dX8_tinsThat_62 (nI_1 _) ?_
                  refine x_goto (tgt := 4) dX8_tinsThat_65 (by decide) ?_
                  refine x_eq ?_ ?_ ?_ (ihi)
                  · simp [orF, c11, c16, c36, c50]; try rfl
                  · rfl
                  · rfl
              · try (exfalso; first | (simp (disch := omega) only [h0, h1, h3, Int32.le_iff_toInt_le, Int32.lt_iff_toInt_lt, ← Int32.toInt_inj, nI_toInt, Int32.toInt_zero, m1_toInt, Int64.le_iff_toInt_le, Int64.lt_iff_toInt_lt, ← Int64.toInt_inj, pk_lT, i64_toInt, Int64.toInt_zero, eq_self, not_true_eq_false, not_false_eq_true] at c11 c16 c36 c50 <;> omega) | omega)
                all_goals
                  skip
                  refine x_iconst (v := nI 1) rfl dX8_tinsThat_53 ?_
                  refine x_iload_n dX8_tinsThat_54 rfl ?_
                  refine x_ishl dX8_tinsThat_55 ?_
                  refine x_goto (tgt := 60) dX8_tinsThat_56 (by decide) ?_
                  refine x_ior dX8_tinsThat_60 ?_
                  refine x_ist2 hL (by decide) rfl dX8_tinsThat_61 ?_
                  refine x_inc3 hL (by decide) rfl dX8_tinsThat_62 (nI_1 _) ?_
                  refine x_goto (tgt := 4) dX8_tinsThat_65 (by decide) ?_
                  refine x_eq ?_ ?_ ?_ (ihi)
                  · simp [orF, c11, c16, c36, c50]; try rfl
                  · rfl
                  · rfl
          · try (exfalso; first | (simp (disch := omega) only [h0, h1, h3, Int32.le_iff_toInt_le, Int32.lt_iff_toInt_lt, ← Int32.toInt_inj, nI_toInt, Int32.toInt_zero, m1_toInt, Int64.le_iff_toInt_le, Int64.lt_iff_toInt_lt, ← Int64.toInt_inj, pk_lT, i64_toInt, Int64.toInt_zero, eq_self, not_true_eq_false, not_false_eq_true] at c11 c16 c36 <;> omega) | omega)
            all_goals
              skip
              refine x_bipush (v := nI 60) rfl dX8_tinsThat_39 ?_
              refine x_goto (tgt := 46) dX8_tinsThat_41 (by decide) ?_
              refine x_iload_n dX8_tinsThat_46 rfl ?_
              refine x_iaddN dX8_tinsThat_47 ?_
              refine x_iald dX8_tinsThat_48 rfl (by first | rfl | exact nI_add _ _ | (simp only [nI_add, pk_mul]; rfl)) (by omega) (by decide) ?_
              refine x_iconst (v := nI 1) rfl dX8_tinsThat_49 ?_
              refine x_icmp_ne (tgt := 59) dX8_tinsThat_50 (by decide) (fun c50 => ?_) (fun c50 => ?_)
              · try (exfalso; first | (simp (disch := omega) only [h0, h1, h3, Int32.le_iff_toInt_le, Int32.lt_iff_toInt_lt, ← Int32.toInt_inj, nI_toInt, Int32.toInt_zero, m1_toInt, Int64.le_iff_toInt_le, Int64.lt_iff_toInt_lt, ← Int64.toInt_inj, pk_lT, i64_toInt, Int64.toInt_zero, eq_self, not_true_eq_false, not_false_eq_true] at c11 c16 c36 c50 <;> omega) | omega)
                all_goals
                  skip
                  refine x_iconst (v := nI 0) rfl dX8_tinsThat_59 ?_
                  refine x_ior dX8_tinsThat_60 ?_
                  refine x_ist2 hL (by decide) rfl dX8_tinsThat_61 ?_
                  refine x_inc3 hL (by decide) rfl dX8_tinsThat_62 (nI_1 _) ?_
                  refine x_goto (tgt := 4) dX8_tinsThat_65 (by decide) ?_
                  refine x_eq ?_ ?_ ?_ (ihi)
                  · simp [orF, c11, c16, c36, c50]; try rfl
                  · rfl
                  · rfl
              · try (exfalso; first | (simp (disch := omega) only [h0, h1, h3, Int32.le_iff_toInt_le, Int32.lt_iff_toInt_lt, ← Int32.toInt_inj, nI_toInt, Int32.toInt_zero, m1_toInt, Int64.le_iff_toInt_le, Int64.lt_iff_toInt_lt, ← Int64.toInt_inj, pk_lT, i64_toInt, Int64.toInt_zero, eq_self, not_true_eq_false, not_false_eq_true] at c11 c16 c36 c50 <;> omega) | omega)
                all_goals
                  skip
                  refine x_iconst (v := nI 1) rfl dX8_tinsThat_53 ?_
                  refine x_iload_n dX8_tinsThat_54 rfl ?_
                  refine x_ishl dX8_tinsThat_55 ?_
                  refine x_goto (tgt := 60) dX8_tinsThat_56 (by decide) ?_
                  refine x_ior dX8_tinsThat_60 ?_
                  refine x_ist2 hL (by decide) rfl dX8_tinsThat_61 ?_
                  refine x_inc3 hL (by decide) rfl dX8_tinsThat_62 (nI_1 _) ?_
                  refine x_goto (tgt := 4) dX8_tinsThat_65 (by decide) ?_
                  refine x_eq ?_ ?_ ?_ (ihi)
                  · simp [orF, c11, c16, c36, c50]; try rfl
                  · rfl
                  · rfl
      · try (exfalso; first | (simp (disch := omega) only [h0, h1, h3, Int32.le_iff_toInt_le, Int32.lt_iff_toInt_lt, ← Int32.toInt_inj, nI_toInt, Int32.toInt_zero, m1_toInt, Int64.le_iff_toInt_le, Int64.lt_iff_toInt_lt, ← Int64.toInt_inj, pk_lT, i64_toInt, Int64.toInt_zero, eq_self, not_true_eq_false, not_false_eq_true] at c11 c16 <;> omega) | omega)
        all_goals
          skip
          refine x_aload_n dX8_tinsThat_19 rfl ?_
          refine x_iload_n dX8_tinsThat_20 rfl ?_
          refine x_callV1 lk_X8_310 (m_isGone hF _ (by omega)) ho dX8_tinsThat_21 rfl (Nat.le_of_ble_eq_true rfl) (by omega) (by decide) (by omega) (by omega) ?_
          refine x_ifb_eq (tgt := 59) dX8_tinsThat_24 (by decide) (fun c24 => ?_) (fun c24 => ?_)
          · try (exfalso; first | (simp (disch := omega) only [h0, h1, h3, Int32.le_iff_toInt_le, Int32.lt_iff_toInt_lt, ← Int32.toInt_inj, nI_toInt, Int32.toInt_zero, m1_toInt, Int64.le_iff_toInt_le, Int64.lt_iff_toInt_lt, ← Int64.toInt_inj, pk_lT, i64_toInt, Int64.toInt_zero, eq_self, not_true_eq_false, not_false_eq_true] at c11 c16 c24 <;> omega) | omega)
            all_goals
              skip
              refine x_iconst (v := nI 0) rfl dX8_tinsThat_59 ?_
              refine x_ior dX8_tinsThat_60 ?_
              refine x_ist2 hL (by decide) rfl dX8_tinsThat_61 ?_
              refine x_inc3 hL (by decide) rfl dX8_tinsThat_62 (nI_1 _) ?_
              refine x_goto (tgt := 4) dX8_tinsThat_65 (by decide) ?_
              refine x_eq ?_ ?_ ?_ (ihi)
              · simp [orF, c11, c16, c24]; try rfl
              · rfl
              · rfl
          · try (exfalso; first | (simp (disch := omega) only [h0, h1, h3, Int32.le_iff_toInt_le, Int32.lt_iff_toInt_lt, ← Int32.toInt_inj, nI_toInt, Int32.toInt_zero, m1_toInt, Int64.le_iff_toInt_le, Int64.lt_iff_toInt_lt, ← Int64.toInt_inj, pk_lT, i64_toInt, Int64.toInt_zero, eq_self, not_true_eq_false, not_false_eq_true] at c11 c16 c24 <;> omega) | omega)
            all_goals
              skip
              refine x_goto (tgt := 53) dX8_tinsThat_27 (by decide) ?_
              refine x_iconst (v := nI 1) rfl dX8_tinsThat_53 ?_
              refine x_iload_n dX8_tinsThat_54 rfl ?_
              refine x_ishl dX8_tinsThat_55 ?_
              refine x_goto (tgt := 60) dX8_tinsThat_56 (by decide) ?_
              refine x_ior dX8_tinsThat_60 ?_
              refine x_ist2 hL (by decide) rfl dX8_tinsThat_61 ?_
              refine x_inc3 hL (by decide) rfl dX8_tinsThat_62 (nI_1 _) ?_
              refine x_goto (tgt := 4) dX8_tinsThat_65 (by decide) ?_
              refine x_eq ?_ ?_ ?_ (ihi)
              · simp [orF, c11, c16, c24]; try rfl
              · rfl
              · rfl
set_option maxHeartbeats 4000000 in
theorem m_tinsThat2 {w : xW} {M : mS} {R : xH} {tm pm tn G : Nat} (hF : wF (M.2.2.1 5) tm pm tn G)  : CT w yX8_tinsThat cX8_tinsThat 4 (some (.int)) [] false (2) 0 0 [.ref 32, .int (nI 2)] (hM M R) (xret (some (.int (orF (fun t => decide ((M.2.2.1 5) (51 + t) = nI 1)) tn))) (hM M R)) := by
  refine CT.of (ini := false) (by decide +kernel) q1905 q164 (Nat.le_of_ble_eq_true rfl) (by decide) ?_
  intro Γ hw ho hL hr hh hini hal hd hmc hms hQ
  subst hw
  show AW Γ cX8_tinsThat 0 0 0 [some (.ref 32), some (.int (nI 2)), none, none] [] (hM M R)
  have h0 := hF.c0
  have h1 := hF.c1
  have h3 := hF.c3
  have l0 := hF.l0
  have l1 := hF.l1
  have l3 := hF.l3
  refine x_iconst (v := nI 0) rfl dX8_tinsThat_0 ?_
  refine x_ist2 hL (by decide) rfl dX8_tinsThat_1 ?_
  refine x_iconst (v := nI 0) rfl dX8_tinsThat_2 ?_
  refine x_ist3 hL (by decide) rfl dX8_tinsThat_3 ?_
  refine x_for (n := tn) (fun i => [some (.ref 32), some (.int (nI 2)), some (.int (orF (fun t => decide ((M.2.2.1 5) (51 + t) = nI 1)) i)), some (.int (nI i))]) (fun i => []) (fun i => hM M R) ?_ (fun i hi ihi => ?_)
  · skip
    refine x_iload_n dX8_tinsThat_4 rfl ?_
    refine x_aload_n dX8_tinsThat_5 rfl ?_
    refine x_getf gf_X8_35 ho dX8_tinsThat_6 rfl rfl ?_
    refine x_iconst (v := nI 3) rfl dX8_tinsThat_9 ?_
    refine x_iald dX8_tinsThat_10 rfl (by first | rfl | exact nI_add _ _ | (simp only [nI_add, pk_mul]; rfl)) (by omega) (by decide) ?_
    refine x_icmp_ge (tgt := 68) dX8_tinsThat_11 (by decide) (fun c11 => ?_) (fun c11 => ?_)
    · skip
      refine x_iload_n dX8_tinsThat_68 rfl ?_
      refine x_iret hr rfl dX8_tinsThat_69 (by omega) (by omega) (hQ _ _ ?_)
      exact ⟨by first | rfl | (simp [c11]; done), rfl⟩
    · exfalso; first | (simp (disch := omega) only [h0, h1, h3, Int32.le_iff_toInt_le, Int32.lt_iff_toInt_lt, ← Int32.toInt_inj, nI_toInt, Int32.toInt_zero, m1_toInt, Int64.le_iff_toInt_le, Int64.lt_iff_toInt_lt, ← Int64.toInt_inj, pk_lT, i64_toInt, Int64.toInt_zero, eq_self, not_true_eq_false, not_false_eq_true] at c11 <;> omega) | omega
  · skip
    refine x_iload_n dX8_tinsThat_4 rfl ?_
    refine x_aload_n dX8_tinsThat_5 rfl ?_
    refine x_getf gf_X8_35 ho dX8_tinsThat_6 rfl rfl ?_
    refine x_iconst (v := nI 3) rfl dX8_tinsThat_9 ?_
    refine x_iald dX8_tinsThat_10 rfl (by first | rfl | exact nI_add _ _ | (simp only [nI_add, pk_mul]; rfl)) (by omega) (by decide) ?_
    refine x_icmp_ge (tgt := 68) dX8_tinsThat_11 (by decide) (fun c11 => ?_) (fun c11 => ?_)
    · exfalso; first | (simp (disch := omega) only [h0, h1, h3, Int32.le_iff_toInt_le, Int32.lt_iff_toInt_lt, ← Int32.toInt_inj, nI_toInt, Int32.toInt_zero, m1_toInt, Int64.le_iff_toInt_le, Int64.lt_iff_toInt_lt, ← Int64.toInt_inj, pk_lT, i64_toInt, Int64.toInt_zero, eq_self, not_true_eq_false, not_false_eq_true] at c11 <;> omega) | omega
    · skip
      refine x_iload_n dX8_tinsThat_14 rfl ?_
      refine x_iload_n dX8_tinsThat_15 rfl ?_
      refine x_if_ne (tgt := 30) dX8_tinsThat_16 (by decide) (fun c16 => ?_) (fun c16 => ?_)
      · try (exfalso; first | (simp (disch := omega) only [h0, h1, h3, Int32.le_iff_toInt_le, Int32.lt_iff_toInt_lt, ← Int32.toInt_inj, nI_toInt, Int32.toInt_zero, m1_toInt, Int64.le_iff_toInt_le, Int64.lt_iff_toInt_lt, ← Int64.toInt_inj, pk_lT, i64_toInt, Int64.toInt_zero, eq_self, not_true_eq_false, not_false_eq_true] at c11 c16 <;> omega) | omega)
        all_goals
          skip
          refine x_aload_n dX8_tinsThat_30 rfl ?_
          refine x_getf gf_X8_35 ho dX8_tinsThat_31 rfl rfl ?_
          refine x_iload_n dX8_tinsThat_34 rfl ?_
          refine x_iconst (v := nI 1) rfl dX8_tinsThat_35 ?_
          refine x_icmp_ne (tgt := 44) dX8_tinsThat_36 (by decide) (fun c36 => ?_) (fun c36 => ?_)
          · try (exfalso; first | (simp (disch := omega) only [h0, h1, h3, Int32.le_iff_toInt_le, Int32.lt_iff_toInt_lt, ← Int32.toInt_inj, nI_toInt, Int32.toInt_zero, m1_toInt, Int64.le_iff_toInt_le, Int64.lt_iff_toInt_lt, ← Int64.toInt_inj, pk_lT, i64_toInt, Int64.toInt_zero, eq_self, not_true_eq_false, not_false_eq_true] at c11 c16 c36 <;> omega) | omega)
            all_goals
              skip
              refine x_bipush (v := nI 51) rfl dX8_tinsThat_44 ?_
              refine x_iload_n dX8_tinsThat_46 rfl ?_
              refine x_iaddN dX8_tinsThat_47 ?_
              refine x_iald dX8_tinsThat_48 rfl (by first | rfl | exact nI_add _ _ | (simp only [nI_add, pk_mul]; rfl)) (by omega) (by decide) ?_
              refine x_iconst (v := nI 1) rfl dX8_tinsThat_49 ?_
              refine x_icmp_ne (tgt := 59) dX8_tinsThat_50 (by decide) (fun c50 => ?_) (fun c50 => ?_)
              · try (exfalso; first | (simp (disch := omega) only [h0, h1, h3, Int32.le_iff_toInt_le, Int32.lt_iff_toInt_lt, ← Int32.toInt_inj, nI_toInt, Int32.toInt_zero, m1_toInt, Int64.le_iff_toInt_le, Int64.lt_iff_toInt_lt, ← Int64.toInt_inj, pk_lT, i64_toInt, Int64.toInt_zero, eq_self, not_true_eq_false, not_false_eq_true] at c11 c16 c36 c50 <;> omega) | omega)
                all_goals
                  skip
                  refine x_iconst (v := nI 0) rfl dX8_tinsThat_59 ?_
                  refine x_ior dX8_tinsThat_60 ?_
                  refine x_ist2 hL (by decide) rfl dX8_tinsThat_61 ?_
                  refine x_inc3 hL (by decide) rfl dX8_tinsThat_62 (nI_1 _) ?_
                  refine x_goto (tgt := 4) dX8_tinsThat_65 (by decide) ?_
                  refine x_eq ?_ ?_ ?_ (ihi)
                  · simp [orF, c11, c16, c36, c50]; try rfl
                  · rfl
                  · rfl
              · try (exfalso; first | (simp (disch := omega) only [h0, h1, h3, Int32.le_iff_toInt_le, Int32.lt_iff_toInt_lt, ← Int32.toInt_inj, nI_toInt, Int32.toInt_zero, m1_toInt, Int64.le_iff_toInt_le, Int64.lt_iff_toInt_lt, ← Int64.toInt_inj, pk_lT, i64_toInt, Int64.toInt_zero, eq_self, not_true_eq_false, not_false_eq_true] at c11 c16 c36 c50 <;> omega) | omega)
                all_goals
                  skip
                  refine x_iconst (v := nI 1) rfl dX8_tinsThat_53 ?_
                  refine x_iload_n dX8_tinsThat_54 rfl ?_
                  refine x_ishl dX8_tinsThat_55 ?_
                  refine x_goto (tgt := 60) dX8_tinsThat_56 (by decide) ?_
                  refine x_ior dX8_tinsThat_60 ?_
                  refine x_ist2 hL (by decide) rfl dX8_tinsThat_61 ?_
                  refine x_inc3 hL (by decide) rfl dX8_tinsThat_62 (nI_1 _) ?_
                  refine x_goto (tgt := 4) dX8_tinsThat_65 (by decide) ?_
                  refine x_eq ?_ ?_ ?_ (ihi)
                  · simp [orF, c11, c16, c36, c50]; try rfl
                  · rfl
                  · rfl
          · try (exfalso; first | (simp (disch := omega) only [h0, h1, h3, Int32.le_iff_toInt_le, Int32.lt_iff_toInt_lt, ← Int32.toInt_inj, nI_toInt, Int32.toInt_zero, m1_toInt, Int64.le_iff_toInt_le, Int64.lt_iff_toInt_lt, ← Int64.toInt_inj, pk_lT, i64_toInt, Int64.toInt_zero, eq_self, not_true_eq_false, not_false_eq_true] at c11 c16 c36 <;> omega) | omega)
            all_goals
              skip
              refine x_bipush (v := nI 60) rfl dX8_tinsThat_39 ?_
              refine x_goto (tgt := 46) dX8_tinsThat_41 (by decide) ?_
              refine x_iload_n dX8_tinsThat_46 rfl ?_
              refine x_iaddN dX8_tinsThat_47 ?_
              refine x_iald dX8_tinsThat_48 rfl (by first | rfl | exact nI_add _ _ | (simp only [nI_add, pk_mul]; rfl)) (by omega) (by decide) ?_
              refine x_iconst (v := nI 1) rfl dX8_tinsThat_49 ?_
              refine x_icmp_ne (tgt := 59) dX8_tinsThat_50 (by decide) (fun c50 => ?_) (fun c50 => ?_)
              · try (exfalso; first | (simp (disch := omega) only [h0, h1, h3, Int32.le_iff_toInt_le, Int32.lt_iff_toInt_lt, ← Int32.toInt_inj, nI_toInt, Int32.toInt_zero, m1_toInt, Int64.le_iff_toInt_le, Int64.lt_iff_toInt_lt, ← Int64.toInt_inj, pk_lT, i64_toInt, Int64.toInt_zero, eq_self, not_true_eq_false, not_false_eq_true] at c11 c16 c36 c50 <;> omega) | omega)
                all_goals
                  skip
                  refine x_iconst (v := nI 0) rfl dX8_tinsThat_59 ?_
                  refine x_ior dX8_tinsThat_60 ?_
                  refine x_ist2 hL (by decide) rfl dX8_tinsThat_61 ?_
                  refine x_inc3 hL (by decide) rfl dX8_tinsThat_62 (nI_1 _) ?_
                  refine x_goto (tgt := 4) dX8_tinsThat_65 (by decide) ?_
                  refine x_eq ?_ ?_ ?_ (ihi)
                  · simp [orF, c11, c16, c36, c50]; try rfl
                  · rfl
                  · rfl
              · try (exfalso; first | (simp (disch := omega) only [h0, h1, h3, Int32.le_iff_toInt_le, Int32.lt_iff_toInt_lt, ← Int32.toInt_inj, nI_toInt, Int32.toInt_zero, m1_toInt, Int64.le_iff_toInt_le, Int64.lt_iff_toInt_lt, ← Int64.toInt_inj, pk_lT, i64_toInt, Int64.toInt_zero, eq_self, not_true_eq_false, not_false_eq_true] at c11 c16 c36 c50 <;> omega) | omega)
                all_goals
                  skip
                  refine x_iconst (v := nI 1) rfl dX8_tinsThat_53 ?_
                  refine x_iload_n dX8_tinsThat_54 rfl ?_
                  refine x_ishl dX8_tinsThat_55 ?_
                  refine x_goto (tgt := 60) dX8_tinsThat_56 (by decide) ?_
                  refine x_ior dX8_tinsThat_60 ?_
                  refine x_ist2 hL (by decide) rfl dX8_tinsThat_61 ?_
                  refine x_inc3 hL (by decide) rfl dX8_tinsThat_62 (nI_1 _) ?_
                  refine x_goto (tgt := 4) dX8_tinsThat_65 (by decide) ?_
                  refine x_eq ?_ ?_ ?_ (ihi)
                  · simp [orF, c11, c16, c36, c50]; try rfl
                  · rfl
                  · rfl
      · try (exfalso; first | (simp (disch := omega) only [h0, h1, h3, Int32.le_iff_toInt_le, Int32.lt_iff_toInt_lt, ← Int32.toInt_inj, nI_toInt, Int32.toInt_zero, m1_toInt, Int64.le_iff_toInt_le, Int64.lt_iff_toInt_lt, ← Int64.toInt_inj, pk_lT, i64_toInt, Int64.toInt_zero, eq_self, not_true_eq_false, not_false_eq_true] at c11 c16 <;> omega) | omega)
        all_goals
          skip
          refine x_aload_n dX8_tinsThat_19 rfl ?_
          refine x_iload_n dX8_tinsThat_20 rfl ?_
          refine x_callV1 lk_X8_310 (m_isGone hF _ (by omega)) ho dX8_tinsThat_21 rfl (Nat.le_of_ble_eq_true rfl) (by omega) (by decide) (by omega) (by omega) ?_
          refine x_ifb_eq (tgt := 59) dX8_tinsThat_24 (by decide) (fun c24 => ?_) (fun c24 => ?_)
          · try (exfalso; first | (simp (disch := omega) only [h0, h1, h3, Int32.le_iff_toInt_le, Int32.lt_iff_toInt_lt, ← Int32.toInt_inj, nI_toInt, Int32.toInt_zero, m1_toInt, Int64.le_iff_toInt_le, Int64.lt_iff_toInt_lt, ← Int64.toInt_inj, pk_lT, i64_toInt, Int64.toInt_zero, eq_self, not_true_eq_false, not_false_eq_true] at c11 c16 c24 <;> omega) | omega)
            all_goals
              skip
              refine x_iconst (v := nI 0) rfl dX8_tinsThat_59 ?_
              refine x_ior dX8_tinsThat_60 ?_
              refine x_ist2 hL (by decide) rfl dX8_tinsThat_61 ?_
              refine x_inc3 hL (by decide) rfl dX8_tinsThat_62 (nI_1 _) ?_
              refine x_goto (tgt := 4) dX8_tinsThat_65 (by decide) ?_
              refine x_eq ?_ ?_ ?_ (ihi)
              · simp [orF, c11, c16, c24]; try rfl
              · rfl
              · rfl
          · try (exfalso; first | (simp (disch := omega) only [h0, h1, h3, Int32.le_iff_toInt_le, Int32.lt_iff_toInt_lt, ← Int32.toInt_inj, nI_toInt, Int32.toInt_zero, m1_toInt, Int64.le_iff_toInt_le, Int64.lt_iff_toInt_lt, ← Int64.toInt_inj, pk_lT, i64_toInt, Int64.toInt_zero, eq_self, not_true_eq_false, not_false_eq_true] at c11 c16 c24 <;> omega) | omega)
            all_goals
              skip
              refine x_goto (tgt := 53) dX8_tinsThat_27 (by decide) ?_
              refine x_iconst (v := nI 1) rfl dX8_tinsThat_53 ?_
              refine x_iload_n dX8_tinsThat_54 rfl ?_
              refine x_ishl dX8_tinsThat_55 ?_
              refine x_goto (tgt := 60) dX8_tinsThat_56 (by decide) ?_
              refine x_ior dX8_tinsThat_60 ?_
              refine x_ist2 hL (by decide) rfl dX8_tinsThat_61 ?_
              refine x_inc3 hL (by decide) rfl dX8_tinsThat_62 (nI_1 _) ?_
              refine x_goto (tgt := 4) dX8_tinsThat_65 (by decide) ?_
              refine x_eq ?_ ?_ ?_ (ihi)
              · simp [orF, c11, c16, c24]; try rfl
              · rfl
              · rfl
set_option maxHeartbeats 4000000 in
theorem m_tinsOn {w : xW} {M : mS} {R : xH} {tm pm tn G : Nat} (hF : wF (M.2.2.1 5) tm pm tn G) (p : Int32) : CT w yX8_tinsOn cX8_tinsOn 4 (some (.int)) [] false (1) 0 0 [.ref 32, .int p] (hM M R) (xret (some (.int (onS (M.2.2.1 5) tn p))) (hM M R)) := by
  refine CT.of (ini := false) (by decide +kernel) q1946 q164 (Nat.le_of_ble_eq_true rfl) (by decide) ?_
  intro Γ hw ho hL hr hh hini hal hd hmc hms hQ
  subst hw
  show AW Γ cX8_tinsOn 0 0 0 [some (.ref 32), some (.int p), none, none] [] (hM M R)
  have h0 := hF.c0
  have h1 := hF.c1
  have h3 := hF.c3
  have l0 := hF.l0
  have l1 := hF.l1
  have l3 := hF.l3
  refine x_iconst (v := nI 0) rfl dX8_tinsOn_0 ?_
  refine x_ist2 hL (by decide) rfl dX8_tinsOn_1 ?_
  refine x_iconst (v := nI 0) rfl dX8_tinsOn_2 ?_
  refine x_ist3 hL (by decide) rfl dX8_tinsOn_3 ?_
  refine x_for (n := tn) (fun i => [some (.ref 32), some (.int p), some (.int (onS (M.2.2.1 5) i p)), some (.int (nI i))]) (fun i => []) (fun i => hM M R) ?_ (fun i hi ihi => ?_)
  · skip
    refine x_iload_n dX8_tinsOn_4 rfl ?_
    refine x_aload_n dX8_tinsOn_5 rfl ?_
    refine x_getf gf_X8_35 ho dX8_tinsOn_6 rfl rfl ?_
    refine x_iconst (v := nI 3) rfl dX8_tinsOn_9 ?_
    refine x_iald dX8_tinsOn_10 rfl (by first | rfl | exact nI_add _ _ | (simp only [nI_add, pk_mul]; rfl)) (by omega) (by decide) ?_
    refine x_icmp_ge (tgt := 43) dX8_tinsOn_11 (by decide) (fun c11 => ?_) (fun c11 => ?_)
    · skip
      refine x_iload_n dX8_tinsOn_43 rfl ?_
      refine x_iret hr rfl dX8_tinsOn_44 (by omega) (by omega) (hQ _ _ ?_)
      exact ⟨by first | rfl | (simp [c11]; done), rfl⟩
    · exfalso; first | (simp (disch := omega) only [h0, h1, h3, Int32.le_iff_toInt_le, Int32.lt_iff_toInt_lt, ← Int32.toInt_inj, nI_toInt, Int32.toInt_zero, m1_toInt, Int64.le_iff_toInt_le, Int64.lt_iff_toInt_lt, ← Int64.toInt_inj, pk_lT, i64_toInt, Int64.toInt_zero, eq_self, not_true_eq_false, not_false_eq_true] at c11 <;> omega) | omega
  · skip
    refine x_iload_n dX8_tinsOn_4 rfl ?_
    refine x_aload_n dX8_tinsOn_5 rfl ?_
    refine x_getf gf_X8_35 ho dX8_tinsOn_6 rfl rfl ?_
    refine x_iconst (v := nI 3) rfl dX8_tinsOn_9 ?_
    refine x_iald dX8_tinsOn_10 rfl (by first | rfl | exact nI_add _ _ | (simp only [nI_add, pk_mul]; rfl)) (by omega) (by decide) ?_
    refine x_icmp_ge (tgt := 43) dX8_tinsOn_11 (by decide) (fun c11 => ?_) (fun c11 => ?_)
    · exfalso; first | (simp (disch := omega) only [h0, h1, h3, Int32.le_iff_toInt_le, Int32.lt_iff_toInt_lt, ← Int32.toInt_inj, nI_toInt, Int32.toInt_zero, m1_toInt, Int64.le_iff_toInt_le, Int64.lt_iff_toInt_lt, ← Int64.toInt_inj, pk_lT, i64_toInt, Int64.toInt_zero, eq_self, not_true_eq_false, not_false_eq_true] at c11 <;> omega) | omega
    · skip
      refine x_iload_n dX8_tinsOn_14 rfl ?_
      refine x_aload_n dX8_tinsOn_15 rfl ?_
      refine x_getf gf_X8_35 ho dX8_tinsOn_16 rfl rfl ?_
      refine x_bipush (v := nI 42) rfl dX8_tinsOn_19 ?_
      refine x_iload_n dX8_tinsOn_21 rfl ?_
      refine x_iaddN dX8_tinsOn_22 ?_
      refine x_iald dX8_tinsOn_23 rfl (by first | rfl | exact nI_add _ _ | (simp only [nI_add, pk_mul]; rfl)) (by omega) (by decide) ?_
      refine x_iload_n dX8_tinsOn_24 rfl ?_
      refine x_icmp_ne (tgt := 34) dX8_tinsOn_25 (by decide) (fun c25 => ?_) (fun c25 => ?_)
      · try (exfalso; first | (simp (disch := omega) only [h0, h1, h3, Int32.le_iff_toInt_le, Int32.lt_iff_toInt_lt, ← Int32.toInt_inj, nI_toInt, Int32.toInt_zero, m1_toInt, Int64.le_iff_toInt_le, Int64.lt_iff_toInt_lt, ← Int64.toInt_inj, pk_lT, i64_toInt, Int64.toInt_zero, eq_self, not_true_eq_false, not_false_eq_true] at c11 c25 <;> omega) | omega)
        all_goals
          skip
          refine x_iconst (v := nI 0) rfl dX8_tinsOn_34 ?_
          refine x_ior dX8_tinsOn_35 ?_
          refine x_ist2 hL (by decide) rfl dX8_tinsOn_36 ?_
          refine x_inc3 hL (by decide) rfl dX8_tinsOn_37 (nI_1 _) ?_
          refine x_goto (tgt := 4) dX8_tinsOn_40 (by decide) ?_
          refine x_eq ?_ ?_ ?_ (ihi)
          · simp [orF, c11, c25]; try rfl
          · rfl
          · rfl
      · try (exfalso; first | (simp (disch := omega) only [h0, h1, h3, Int32.le_iff_toInt_le, Int32.lt_iff_toInt_lt, ← Int32.toInt_inj, nI_toInt, Int32.toInt_zero, m1_toInt, Int64.le_iff_toInt_le, Int64.lt_iff_toInt_lt, ← Int64.toInt_inj, pk_lT, i64_toInt, Int64.toInt_zero, eq_self, not_true_eq_false, not_false_eq_true] at c11 c25 <;> omega) | omega)
        all_goals
          skip
          refine x_iconst (v := nI 1) rfl dX8_tinsOn_28 ?_
          refine x_iload_n dX8_tinsOn_29 rfl ?_
          refine x_ishl dX8_tinsOn_30 ?_
          refine x_goto (tgt := 35) dX8_tinsOn_31 (by decide) ?_
          refine x_ior dX8_tinsOn_35 ?_
          refine x_ist2 hL (by decide) rfl dX8_tinsOn_36 ?_
          refine x_inc3 hL (by decide) rfl dX8_tinsOn_37 (nI_1 _) ?_
          refine x_goto (tgt := 4) dX8_tinsOn_40 (by decide) ?_
          refine x_eq ?_ ?_ ?_ (ihi)
          · simp [orF, c11, c25]; try rfl
          · rfl
          · rfl
set_option maxHeartbeats 4000000 in
theorem m_worthAll {w : xW} {M : mS} {R : xH} {tm pm tn G : Nat} (hF : wF (M.2.2.1 5) tm pm tn G) (s : Int32) : CT w yX8_worthAll cX8_worthAll 4 (some (.int)) [] false (2) 0 0 [.ref 32, .int s] (hM M R) (xret (some (.int (waS (M.2.2.1 5) tn s))) (hM M R)) := by
  refine CT.of (ini := false) (by decide +kernel) q1921 q164 (Nat.le_of_ble_eq_true rfl) (by decide) ?_
  intro Γ hw ho hL hr hh hini hal hd hmc hms hQ
  subst hw
  show AW Γ cX8_worthAll 0 0 0 [some (.ref 32), some (.int s), none, none] [] (hM M R)
  have h0 := hF.c0
  have h1 := hF.c1
  have h3 := hF.c3
  have l0 := hF.l0
  have l1 := hF.l1
  have l3 := hF.l3
  refine x_iconst (v := nI 0) rfl dX8_worthAll_0 ?_
  refine x_ist2 hL (by decide) rfl dX8_worthAll_1 ?_
  refine x_iconst (v := nI 0) rfl dX8_worthAll_2 ?_
  refine x_ist3 hL (by decide) rfl dX8_worthAll_3 ?_
  refine x_for (n := tn) (fun i => [some (.ref 32), some (.int s), some (.int (waS (M.2.2.1 5) i s)), some (.int (nI i))]) (fun i => []) (fun i => hM M R) ?_ (fun i hi ihi => ?_)
  · skip
    refine x_iload_n dX8_worthAll_4 rfl ?_
    refine x_aload_n dX8_worthAll_5 rfl ?_
    refine x_getf gf_X8_35 ho dX8_worthAll_6 rfl rfl ?_
    refine x_iconst (v := nI 3) rfl dX8_worthAll_9 ?_
    refine x_iald dX8_worthAll_10 rfl (by first | rfl | exact nI_add _ _ | (simp only [nI_add, pk_mul]; rfl)) (by omega) (by decide) ?_
    refine x_icmp_ge (tgt := 40) dX8_worthAll_11 (by decide) (fun c11 => ?_) (fun c11 => ?_)
    · skip
      refine x_iload_n dX8_worthAll_40 rfl ?_
      refine x_iret hr rfl dX8_worthAll_41 (by omega) (by omega) (hQ _ _ ?_)
      exact ⟨by first | rfl | (simp [c11]; done), rfl⟩
    · exfalso; first | (simp (disch := omega) only [h0, h1, h3, Int32.le_iff_toInt_le, Int32.lt_iff_toInt_lt, ← Int32.toInt_inj, nI_toInt, Int32.toInt_zero, m1_toInt, Int64.le_iff_toInt_le, Int64.lt_iff_toInt_lt, ← Int64.toInt_inj, pk_lT, i64_toInt, Int64.toInt_zero, eq_self, not_true_eq_false, not_false_eq_true] at c11 <;> omega) | omega
  · skip
    refine x_iload_n dX8_worthAll_4 rfl ?_
    refine x_aload_n dX8_worthAll_5 rfl ?_
    refine x_getf gf_X8_35 ho dX8_worthAll_6 rfl rfl ?_
    refine x_iconst (v := nI 3) rfl dX8_worthAll_9 ?_
    refine x_iald dX8_worthAll_10 rfl (by first | rfl | exact nI_add _ _ | (simp only [nI_add, pk_mul]; rfl)) (by omega) (by decide) ?_
    refine x_icmp_ge (tgt := 40) dX8_worthAll_11 (by decide) (fun c11 => ?_) (fun c11 => ?_)
    · exfalso; first | (simp (disch := omega) only [h0, h1, h3, Int32.le_iff_toInt_le, Int32.lt_iff_toInt_lt, ← Int32.toInt_inj, nI_toInt, Int32.toInt_zero, m1_toInt, Int64.le_iff_toInt_le, Int64.lt_iff_toInt_lt, ← Int64.toInt_inj, pk_lT, i64_toInt, Int64.toInt_zero, eq_self, not_true_eq_false, not_false_eq_true] at c11 <;> omega) | omega
    · skip
      refine x_iload_n dX8_worthAll_14 rfl ?_
      refine x_iload_n dX8_worthAll_15 rfl ?_
      refine x_iload_n dX8_worthAll_16 rfl ?_
      refine x_callS2 lk_X8_109 (m_has _ _) ho dX8_worthAll_17 (Nat.le_of_ble_eq_true rfl) (by omega) (by decide) (by omega) (by omega) ?_
      refine x_ifb_eq (tgt := 31) dX8_worthAll_20 (by decide) (fun c20 => ?_) (fun c20 => ?_)
      · try (exfalso; first | (simp (disch := omega) only [h0, h1, h3, Int32.le_iff_toInt_le, Int32.lt_iff_toInt_lt, ← Int32.toInt_inj, nI_toInt, Int32.toInt_zero, m1_toInt, Int64.le_iff_toInt_le, Int64.lt_iff_toInt_lt, ← Int64.toInt_inj, pk_lT, i64_toInt, Int64.toInt_zero, eq_self, not_true_eq_false, not_false_eq_true] at c11 c20 <;> omega) | omega)
        all_goals
          skip
          refine x_iconst (v := nI 0) rfl dX8_worthAll_31 ?_
          refine x_iadd dX8_worthAll_32 ?_
          refine x_ist2 hL (by decide) rfl dX8_worthAll_33 ?_
          refine x_inc3 hL (by decide) rfl dX8_worthAll_34 (nI_1 _) ?_
          refine x_goto (tgt := 4) dX8_worthAll_37 (by decide) ?_
          refine x_eq ?_ ?_ ?_ (ihi)
          · simp [suF, c11, c20]
          · rfl
          · rfl
      · try (exfalso; first | (simp (disch := omega) only [h0, h1, h3, Int32.le_iff_toInt_le, Int32.lt_iff_toInt_lt, ← Int32.toInt_inj, nI_toInt, Int32.toInt_zero, m1_toInt, Int64.le_iff_toInt_le, Int64.lt_iff_toInt_lt, ← Int64.toInt_inj, pk_lT, i64_toInt, Int64.toInt_zero, eq_self, not_true_eq_false, not_false_eq_true] at c11 c20 <;> omega) | omega)
        all_goals
          skip
          refine x_aload_n dX8_worthAll_23 rfl ?_
          refine x_iload_n dX8_worthAll_24 rfl ?_
          refine x_callV1 lk_X8_313 (m_worthOf hF _ (by omega)) ho dX8_worthAll_25 rfl (Nat.le_of_ble_eq_true rfl) (by omega) (by decide) (by omega) (by omega) ?_
          refine x_goto (tgt := 32) dX8_worthAll_28 (by decide) ?_
          refine x_iadd dX8_worthAll_32 ?_
          refine x_ist2 hL (by decide) rfl dX8_worthAll_33 ?_
          refine x_inc3 hL (by decide) rfl dX8_worthAll_34 (nI_1 _) ?_
          refine x_goto (tgt := 4) dX8_worthAll_37 (by decide) ?_
          refine x_eq ?_ ?_ ?_ (ihi)
          · simp [suF, c11, c20]
          · rfl
          · rfl
set_option maxHeartbeats 4000000 in
theorem m_allTins {w : xW} {M : mS} {R : xH} {tm pm tn G : Nat} (hF : wF (M.2.2.1 5) tm pm tn G)  : CT w yX8_allTins cX8_allTins 1 (some (.int)) [] false (0) 0 0 [.ref 32] (hM M R) (xret (some (.int (alS tn))) (hM M R)) := by
  refine CT.of (ini := false) (by decide +kernel) q1917 q164 (Nat.le_of_ble_eq_true rfl) (by decide) ?_
  intro Γ hw ho hL hr hh hini hal hd hmc hms hQ
  subst hw
  show AW Γ cX8_allTins 0 0 0 [some (.ref 32)] [] (hM M R)
  have h0 := hF.c0
  have h1 := hF.c1
  have h3 := hF.c3
  have l0 := hF.l0
  have l1 := hF.l1
  have l3 := hF.l3
  refine x_iconst (v := nI 1) rfl dX8_allTins_0 ?_
  refine x_aload_n dX8_allTins_1 rfl ?_
  refine x_getf gf_X8_35 ho dX8_allTins_2 rfl rfl ?_
  refine x_iconst (v := nI 3) rfl dX8_allTins_5 ?_
  refine x_iald dX8_allTins_6 rfl (by first | rfl | exact nI_add _ _ | (simp only [nI_add, pk_mul]; rfl)) (by omega) (by decide) ?_
  refine x_ishl dX8_allTins_7 ?_
  refine x_iconst (v := nI 1) rfl dX8_allTins_8 ?_
  refine x_isub dX8_allTins_9 ?_
  refine x_iret hr rfl dX8_allTins_10 (by omega) (by omega) (hQ _ _ ?_)
  exact ⟨by rw [h3, sh_pow1 _ l3], rfl⟩
set_option maxHeartbeats 4000000 in
theorem m_allThere {w : xW} {M : mS} {R : xH} {tm pm tn G : Nat} (hF : wF (M.2.2.1 5) tm pm tn G)  : CT w yX8_allThere cX8_allThere 1 (some (.int)) [] false (3) 0 0 [.ref 32] (hM M R) (xret (some (.int (thS (M.2.2.1 5) tn))) (hM M R)) := by
  refine CT.of (ini := false) (by decide +kernel) q1913 q164 (Nat.le_of_ble_eq_true rfl) (by decide) ?_
  intro Γ hw ho hL hr hh hini hal hd hmc hms hQ
  subst hw
  show AW Γ cX8_allThere 0 0 0 [some (.ref 32)] [] (hM M R)
  have h0 := hF.c0
  have h1 := hF.c1
  have h3 := hF.c3
  have l0 := hF.l0
  have l1 := hF.l1
  have l3 := hF.l3
  refine x_aload_n dX8_allThere_0 rfl ?_
  refine x_aload_n dX8_allThere_1 rfl ?_
  refine x_callV0 lk_X8_316 (m_allTins hF) ho dX8_allThere_2 rfl (Nat.le_of_ble_eq_true rfl) (by omega) (by decide) (by omega) (by omega) ?_
  refine x_aload_n dX8_allThere_5 rfl ?_
  refine x_iconst (v := nI 0) rfl dX8_allThere_6 ?_
  refine x_callV1 lk_X8_319 (m_tinsThat0 hF) ho dX8_allThere_7 rfl (Nat.le_of_ble_eq_true rfl) (by omega) (by decide) (by omega) (by omega) ?_
  refine x_iconst (v := (-1)) rfl dX8_allThere_10 ?_
  refine x_ixor dX8_allThere_11 ?_
  refine x_iand dX8_allThere_12 ?_
  refine x_callV1 lk_X8_322 (m_worthAll hF _) ho dX8_allThere_13 rfl (Nat.le_of_ble_eq_true rfl) (by omega) (by decide) (by omega) (by omega) ?_
  refine x_iret hr rfl dX8_allThere_16 (by omega) (by omega) (hQ _ _ ?_)
  exact ⟨by first | rfl | (simp []; done), rfl⟩
set_option maxHeartbeats 4000000 in
theorem m_nextOf {w : xW} {M : mS} {R : xH} {tm pm tn G : Nat} (hF : wF (M.2.2.1 5) tm pm tn G) (t p : Nat) (ht : t < 9) (hp : p < 7) : CT w yX8_nextOf cX8_nextOf 5 (some (.int)) [] false (2) 0 0 [.ref 32, .int (nI t), .int (nI p)] (hM M R) (xret (some (.int (nxS (M.2.2.1 5) pm t p))) (hM M R)) := by
  refine CT.of (ini := false) (by decide +kernel) q1976 q164 (Nat.le_of_ble_eq_true rfl) (by decide) ?_
  intro Γ hw ho hL hr hh hini hal hd hmc hms hQ
  subst hw
  show AW Γ cX8_nextOf 0 0 0 [some (.ref 32), some (.int (nI t)), some (.int (nI p)), none, none] [] (hM M R)
  have h0 := hF.c0
  have h1 := hF.c1
  have h3 := hF.c3
  have l0 := hF.l0
  have l1 := hF.l1
  have l3 := hF.l3
  refine x_iconst (v := nI 0) rfl dX8_nextOf_0 ?_
  refine x_ist3 hL (by decide) rfl dX8_nextOf_1 ?_
  refine x_iconst (v := nI 0) rfl dX8_nextOf_2 ?_
  refine x_ist4 hL (by decide) rfl dX8_nextOf_3 ?_
  refine x_for (n := pm) (fun i => [some (.ref 32), some (.int (nI t)), some (.int (nI p)), some (.int (nxS (M.2.2.1 5) i t p)), some (.int (nI i))]) (fun i => []) (fun i => hM M R) ?_ (fun i hi ihi => ?_)
  · skip
    refine x_iload dX8_nextOf_5 rfl ?_
    refine x_aload_n dX8_nextOf_7 rfl ?_
    refine x_getf gf_X8_35 ho dX8_nextOf_8 rfl rfl ?_
    refine x_iconst (v := nI 1) rfl dX8_nextOf_11 ?_
    refine x_iald dX8_nextOf_12 rfl (by first | rfl | exact nI_add _ _ | (simp only [nI_add, pk_mul]; rfl)) (by omega) (by decide) ?_
    refine x_icmp_ge (tgt := 60) dX8_nextOf_13 (by decide) (fun c13 => ?_) (fun c13 => ?_)
    · skip
      refine x_iload_n dX8_nextOf_60 rfl ?_
      refine x_iret hr rfl dX8_nextOf_61 (by omega) (by omega) (hQ _ _ ?_)
      exact ⟨by first | rfl | (simp [c13]; done), rfl⟩
    · exfalso; first | (simp (disch := omega) only [h0, h1, h3, Int32.le_iff_toInt_le, Int32.lt_iff_toInt_lt, ← Int32.toInt_inj, nI_toInt, Int32.toInt_zero, m1_toInt, Int64.le_iff_toInt_le, Int64.lt_iff_toInt_lt, ← Int64.toInt_inj, pk_lT, i64_toInt, Int64.toInt_zero, eq_self, not_true_eq_false, not_false_eq_true] at c13 <;> omega) | omega
  · skip
    refine x_iload dX8_nextOf_5 rfl ?_
    refine x_aload_n dX8_nextOf_7 rfl ?_
    refine x_getf gf_X8_35 ho dX8_nextOf_8 rfl rfl ?_
    refine x_iconst (v := nI 1) rfl dX8_nextOf_11 ?_
    refine x_iald dX8_nextOf_12 rfl (by first | rfl | exact nI_add _ _ | (simp only [nI_add, pk_mul]; rfl)) (by omega) (by decide) ?_
    refine x_icmp_ge (tgt := 60) dX8_nextOf_13 (by decide) (fun c13 => ?_) (fun c13 => ?_)
    · exfalso; first | (simp (disch := omega) only [h0, h1, h3, Int32.le_iff_toInt_le, Int32.lt_iff_toInt_lt, ← Int32.toInt_inj, nI_toInt, Int32.toInt_zero, m1_toInt, Int64.le_iff_toInt_le, Int64.lt_iff_toInt_lt, ← Int64.toInt_inj, pk_lT, i64_toInt, Int64.toInt_zero, eq_self, not_true_eq_false, not_false_eq_true] at c13 <;> omega) | omega
    · skip
      refine x_iload_n dX8_nextOf_16 rfl ?_
      refine x_aload_n dX8_nextOf_17 rfl ?_
      refine x_getf gf_X8_35 ho dX8_nextOf_18 rfl rfl ?_
      refine x_bipush (v := nI 19) rfl dX8_nextOf_21 ?_
      refine x_iload_n dX8_nextOf_23 rfl ?_
      refine x_iaddN dX8_nextOf_24 ?_
      refine x_iald dX8_nextOf_25 rfl (by first | rfl | exact nI_add _ _ | (simp only [nI_add, pk_mul]; rfl)) (by omega) (by decide) ?_
      refine x_iload dX8_nextOf_26 rfl ?_
      refine x_callS2 lk_X8_109 (m_has _ _) ho dX8_nextOf_28 (Nat.le_of_ble_eq_true rfl) (by omega) (by decide) (by omega) (by omega) ?_
      refine x_ifb_eq (tgt := 51) dX8_nextOf_31 (by decide) (fun c31 => ?_) (fun c31 => ?_)
      · try (exfalso; first | (simp (disch := omega) only [h0, h1, h3, Int32.le_iff_toInt_le, Int32.lt_iff_toInt_lt, ← Int32.toInt_inj, nI_toInt, Int32.toInt_zero, m1_toInt, Int64.le_iff_toInt_le, Int64.lt_iff_toInt_lt, ← Int64.toInt_inj, pk_lT, i64_toInt, Int64.toInt_zero, eq_self, not_true_eq_false, not_false_eq_true] at c13 c31 <;> omega) | omega)
        all_goals
          skip
          refine x_iconst (v := nI 0) rfl dX8_nextOf_51 ?_
          refine x_ior dX8_nextOf_52 ?_
          refine x_ist3 hL (by decide) rfl dX8_nextOf_53 ?_
          refine x_inc4 hL (by decide) rfl dX8_nextOf_54 (nI_1 _) ?_
          refine x_goto (tgt := 5) dX8_nextOf_57 (by decide) ?_
          refine x_eq ?_ ?_ ?_ (ihi)
          · simp [orF, c13, c31]; try rfl
          · rfl
          · rfl
      · try (exfalso; first | (simp (disch := omega) only [h0, h1, h3, Int32.le_iff_toInt_le, Int32.lt_iff_toInt_lt, ← Int32.toInt_inj, nI_toInt, Int32.toInt_zero, m1_toInt, Int64.le_iff_toInt_le, Int64.lt_iff_toInt_lt, ← Int64.toInt_inj, pk_lT, i64_toInt, Int64.toInt_zero, eq_self, not_true_eq_false, not_false_eq_true] at c13 c31 <;> omega) | omega)
        all_goals
          skip
          refine x_aload_n dX8_nextOf_34 rfl ?_
          refine x_iload_n dX8_nextOf_35 rfl ?_
          refine x_iload dX8_nextOf_36 rfl ?_
          refine x_callV2 lk_X8_354 (m_isTrue hF _ _ (by omega) (by omega)) ho dX8_nextOf_38 rfl (Nat.le_of_ble_eq_true rfl) (by omega) (by decide) (by omega) (by omega) ?_
          refine x_ifb_eq (tgt := 51) dX8_nextOf_41 (by decide) (fun c41 => ?_) (fun c41 => ?_)
          · try (exfalso; first | (simp (disch := omega) only [h0, h1, h3, Int32.le_iff_toInt_le, Int32.lt_iff_toInt_lt, ← Int32.toInt_inj, nI_toInt, Int32.toInt_zero, m1_toInt, Int64.le_iff_toInt_le, Int64.lt_iff_toInt_lt, ← Int64.toInt_inj, pk_lT, i64_toInt, Int64.toInt_zero, eq_self, not_true_eq_false, not_false_eq_true] at c13 c31 c41 <;> omega) | omega)
            all_goals
              skip
              refine x_iconst (v := nI 0) rfl dX8_nextOf_51 ?_
              refine x_ior dX8_nextOf_52 ?_
              refine x_ist3 hL (by decide) rfl dX8_nextOf_53 ?_
              refine x_inc4 hL (by decide) rfl dX8_nextOf_54 (nI_1 _) ?_
              refine x_goto (tgt := 5) dX8_nextOf_57 (by decide) ?_
              refine x_eq ?_ ?_ ?_ (ihi)
              · simp [orF, c13, c31, c41]; try rfl
              · rfl
              · rfl
          · try (exfalso; first | (simp (disch := omega) only [h0, h1, h3, Int32.le_iff_toInt_le, Int32.lt_iff_toInt_lt, ← Int32.toInt_inj, nI_toInt, Int32.toInt_zero, m1_toInt, Int64.le_iff_toInt_le, Int64.lt_iff_toInt_lt, ← Int64.toInt_inj, pk_lT, i64_toInt, Int64.toInt_zero, eq_self, not_true_eq_false, not_false_eq_true] at c13 c31 c41 <;> omega) | omega)
            all_goals
              skip
              refine x_iconst (v := nI 1) rfl dX8_nextOf_44 ?_
              refine x_iload dX8_nextOf_45 rfl ?_
              refine x_ishl dX8_nextOf_47 ?_
              refine x_goto (tgt := 52) dX8_nextOf_48 (by decide) ?_
              refine x_ior dX8_nextOf_52 ?_
              refine x_ist3 hL (by decide) rfl dX8_nextOf_53 ?_
              refine x_inc4 hL (by decide) rfl dX8_nextOf_54 (nI_1 _) ?_
              refine x_goto (tgt := 5) dX8_nextOf_57 (by decide) ?_
              refine x_eq ?_ ?_ ?_ (ihi)
              · simp [orF, c13, c31, c41]; try rfl
              · rfl
              · rfl
theorem m_tinsThat {w : xW} {M : mS} {R : xH} {tm pm tn G : Nat} (hF : wF (M.2.2.1 5) tm pm tn G) (k : Nat) (hk : k ≤ 2) : CT w yX8_tinsThat cX8_tinsThat 4 (some .int) [] false 2 0 0 [.ref 32, .int (nI k)] (hM M R) (xret (some (.int (thatS (M.2.2.1 5) tn k))) (hM M R)) := by
  rcases (show k = 0 ∨ k = 1 ∨ k = 2 by omega) with rfl | rfl | rfl
  · exact m_tinsThat0 hF
  · exact m_tinsThat1 hF
  · exact m_tinsThat2 hF
set_option maxHeartbeats 4000000 in
theorem m_many {w : xW} {M : mS} {R : xH} {tm pm tn G : Nat} (hF : wF (M.2.2.1 5) tm pm tn G) (w9 : Int32) : CT w yX8_many cX8_many 2 (some (.int)) [] false (4) 0 0 [.ref 32, .int w9] (hM M R) (xret (some (.int ((spMany (M.2.2.1 5) tn w9).getD (-1)))) (hM (mI (mI M 1 (nI 0)) 0 (if (spMany (M.2.2.1 5) tn w9).isSome then nI 0 else nI 5)) R)) := by
  rcases ix_or w9 (n := 10) (by decide) with ⟨hx, hx2⟩ | ⟨j, hj, rfl, hx⟩
  · skip
    refine CT.of (ini := false) (by decide +kernel) q1896 q164 (Nat.le_of_ble_eq_true rfl) (by decide) ?_
    intro Γ hw ho hL hr hh hini hal hd hmc hms hQ
    subst hw
    show AW Γ cX8_many 0 0 0 [some (.ref 32), some (.int w9)] [] (hM M R)
    have h0 := hF.c0
    have h1 := hF.c1
    have h3 := hF.c3
    have l0 := hF.l0
    have l1 := hF.l1
    have l3 := hF.l3
    refine x_aload_n dX8_many_0 rfl ?_
    refine x_iconst (v := nI 0) rfl dX8_many_1 ?_
    refine m_puti (k := 1) (pf_X8_70 (ini := false)) ho hini dX8_many_2 rfl rfl (by decide) (ms_1 _ _) ?_
    refine x_aload_n dX8_many_5 rfl ?_
    refine x_iconst (v := nI 0) rfl dX8_many_6 ?_
    refine m_puti (k := 0) (pf_X8_73 (ini := false)) ho hini dX8_many_7 rfl rfl (by decide) (ms_0 _ _) ?_
    refine x_iload_n dX8_many_10 rfl ?_
    refine x_i2l dX8_many_11 ?_
    refine x_lconst (v := lN 0) rfl dX8_many_12 ?_
    refine x_ldc2 (v := lN 9) ho q1897 dX8_many_13 ?_
    refine x_callS3 lk_X8_105 (m_isIn _ _ _) ho dX8_many_16 (Nat.le_of_ble_eq_true rfl) (by omega) (by decide) (by omega) (by omega) ?_
    refine x_ifb_ne (tgt := 28) dX8_many_19 (by decide) (fun c19 => ?_) (fun c19 => ?_)
    · rw [inS_ix (by decide), hx] at c19; cases c19
    · try (exfalso; first | (simp (disch := omega) only [h0, h1, h3, Int32.le_iff_toInt_le, Int32.lt_iff_toInt_lt, ← Int32.toInt_inj, nI_toInt, Int32.toInt_zero, m1_toInt, Int64.le_iff_toInt_le, Int64.lt_iff_toInt_lt, ← Int64.toInt_inj, pk_lT, i64_toInt, Int64.toInt_zero, eq_self, not_true_eq_false, not_false_eq_true] at c19 <;> omega) | omega)
      all_goals
        skip
        refine x_aload_n dX8_many_22 rfl ?_
        refine x_iconst (v := nI 5) rfl dX8_many_23 ?_
        refine x_callV1 lk_X8_327 (m_refuse _) ho dX8_many_24 rfl (Nat.le_of_ble_eq_true rfl) (by omega) (by decide) (by omega) (by omega) ?_
        refine x_iret hr rfl dX8_many_27 (by omega) (by omega) (hQ _ _ ?_)
        exact ⟨by simp [spMany, hx], by simp [spMany, hx, mI_mI]⟩
  · skip
    refine CT.of (ini := false) (by decide +kernel) q1896 q164 (Nat.le_of_ble_eq_true rfl) (by decide) ?_
    intro Γ hw ho hL hr hh hini hal hd hmc hms hQ
    subst hw
    show AW Γ cX8_many 0 0 0 [some (.ref 32), some (.int (nI j))] [] (hM M R)
    have h0 := hF.c0
    have h1 := hF.c1
    have h3 := hF.c3
    have l0 := hF.l0
    have l1 := hF.l1
    have l3 := hF.l3
    refine x_aload_n dX8_many_0 rfl ?_
    refine x_iconst (v := nI 0) rfl dX8_many_1 ?_
    refine m_puti (k := 1) (pf_X8_70 (ini := false)) ho hini dX8_many_2 rfl rfl (by decide) (ms_1 _ _) ?_
    refine x_aload_n dX8_many_5 rfl ?_
    refine x_iconst (v := nI 0) rfl dX8_many_6 ?_
    refine m_puti (k := 0) (pf_X8_73 (ini := false)) ho hini dX8_many_7 rfl rfl (by decide) (ms_0 _ _) ?_
    refine x_iload_n dX8_many_10 rfl ?_
    refine x_i2lN (by omega) dX8_many_11 ?_
    refine x_lconst (v := lN 0) rfl dX8_many_12 ?_
    refine x_ldc2 (v := lN 9) ho q1897 dX8_many_13 ?_
    refine x_callS3 lk_X8_105 (m_isIn _ _ _) ho dX8_many_16 (Nat.le_of_ble_eq_true rfl) (by omega) (by decide) (by omega) (by omega) ?_
    refine x_ifb_ne (tgt := 28) dX8_many_19 (by decide) (fun c19 => ?_) (fun c19 => ?_)
    · try (exfalso; first | (simp (disch := omega) only [h0, h1, h3, Int32.le_iff_toInt_le, Int32.lt_iff_toInt_lt, ← Int32.toInt_inj, nI_toInt, Int32.toInt_zero, m1_toInt, Int64.le_iff_toInt_le, Int64.lt_iff_toInt_lt, ← Int64.toInt_inj, pk_lT, i64_toInt, Int64.toInt_zero, eq_self, not_true_eq_false, not_false_eq_true] at c19 <;> omega) | omega)
      all_goals
        skip
        refine x_iload_n dX8_many_28 rfl ?_
        refine x_bipush (v := nI 6) rfl dX8_many_29 ?_
        refine x_icmp_ge (tgt := 43) dX8_many_31 (by decide) (fun c31 => ?_) (fun c31 => ?_)
        · try (exfalso; first | (simp (disch := omega) only [h0, h1, h3, Int32.le_iff_toInt_le, Int32.lt_iff_toInt_lt, ← Int32.toInt_inj, nI_toInt, Int32.toInt_zero, m1_toInt, Int64.le_iff_toInt_le, Int64.lt_iff_toInt_lt, ← Int64.toInt_inj, pk_lT, i64_toInt, Int64.toInt_zero, eq_self, not_true_eq_false, not_false_eq_true] at c19 c31 <;> omega) | omega)
          all_goals
            skip
            have c31 : 6 ≤ j := (nI_leI (by omega) (by omega)).mp c31
            refine x_iload_n dX8_many_43 rfl ?_
            refine x_bipush (v := nI 9) rfl dX8_many_44 ?_
            refine x_icmp_ge (tgt := 60) dX8_many_46 (by decide) (fun c46 => ?_) (fun c46 => ?_)
            · try (exfalso; first | (simp (disch := omega) only [h0, h1, h3, Int32.le_iff_toInt_le, Int32.lt_iff_toInt_lt, ← Int32.toInt_inj, nI_toInt, Int32.toInt_zero, m1_toInt, Int64.le_iff_toInt_le, Int64.lt_iff_toInt_lt, ← Int64.toInt_inj, pk_lT, i64_toInt, Int64.toInt_zero, eq_self, not_true_eq_false, not_false_eq_true] at c19 c31 c46 <;> omega) | omega)
              all_goals
                skip
                have c46 : 9 ≤ j := (nI_leI (by omega) (by omega)).mp c46
                refine x_aload_n dX8_many_60 rfl ?_
                refine x_callV0 lk_X8_330 (m_allThere (M := (mI (mI M 1 (nI 0)) 0 (nI 0))) hF) ho dX8_many_61 rfl (Nat.le_of_ble_eq_true rfl) (by omega) (by decide) (by omega) (by omega) ?_
                refine x_iret hr rfl dX8_many_64 (by omega) (by omega) (hQ _ _ ?_)
                exact ⟨by simp only [spMany, hx]; first | (rw [if_pos (by omega)]; rfl) | (rw [if_neg (by omega), if_pos (by omega)]; rfl) | (rw [if_neg (by omega), if_neg (by omega)]; rfl), by simp only [spMany, hx]; rfl⟩
            · try (exfalso; first | (simp (disch := omega) only [h0, h1, h3, Int32.le_iff_toInt_le, Int32.lt_iff_toInt_lt, ← Int32.toInt_inj, nI_toInt, Int32.toInt_zero, m1_toInt, Int64.le_iff_toInt_le, Int64.lt_iff_toInt_lt, ← Int64.toInt_inj, pk_lT, i64_toInt, Int64.toInt_zero, eq_self, not_true_eq_false, not_false_eq_true] at c19 c31 c46 <;> omega) | omega)
              all_goals
                skip
                have c46 : ¬ 9 ≤ j := fun q => c46 (nI_le q (by omega))
                refine x_aload_n dX8_many_49 rfl ?_
                refine x_iload_n dX8_many_50 rfl ?_
                refine x_bipush (v := nI 6) rfl dX8_many_51 ?_
                refine x_isubN (by omega) dX8_many_53 ?_
                refine x_callV1 lk_X8_319 (m_tinsThat (M := (mI (mI M 1 (nI 0)) 0 (nI 0))) hF _ (by omega)) ho dX8_many_54 rfl (Nat.le_of_ble_eq_true rfl) (by omega) (by decide) (by omega) (by omega) ?_
                refine x_goto (tgt := 64) dX8_many_57 (by decide) ?_
                refine x_iret hr rfl dX8_many_64 (by omega) (by omega) (hQ _ _ ?_)
                exact ⟨by simp only [spMany, hx]; first | (rw [if_pos (by omega)]; rfl) | (rw [if_neg (by omega), if_pos (by omega)]; rfl) | (rw [if_neg (by omega), if_neg (by omega)]; rfl), by simp only [spMany, hx]; rfl⟩
        · try (exfalso; first | (simp (disch := omega) only [h0, h1, h3, Int32.le_iff_toInt_le, Int32.lt_iff_toInt_lt, ← Int32.toInt_inj, nI_toInt, Int32.toInt_zero, m1_toInt, Int64.le_iff_toInt_le, Int64.lt_iff_toInt_lt, ← Int64.toInt_inj, pk_lT, i64_toInt, Int64.toInt_zero, eq_self, not_true_eq_false, not_false_eq_true] at c19 c31 <;> omega) | omega)
          all_goals
            skip
            have c31 : ¬ 6 ≤ j := fun q => c31 (nI_le q (by omega))
            refine x_aload_n dX8_many_34 rfl ?_
            refine x_getf gf_X8_35 ho dX8_many_35 rfl rfl ?_
            refine x_iload_n dX8_many_38 rfl ?_
            refine x_iald dX8_many_39 rfl (by first | rfl | exact nI_add _ _ | (simp only [nI_add, pk_mul]; rfl)) (by omega) (by decide) ?_
            refine x_goto (tgt := 64) dX8_many_40 (by decide) ?_
            refine x_iret hr rfl dX8_many_64 (by omega) (by omega) (hQ _ _ ?_)
            exact ⟨by simp only [spMany, hx]; first | (rw [if_pos (by omega)]; rfl) | (rw [if_neg (by omega), if_pos (by omega)]; rfl) | (rw [if_neg (by omega), if_neg (by omega)]; rfl), by simp only [spMany, hx]; rfl⟩
    · rw [← nI_l (by omega), inS_ix (by decide), hx] at c19; cases c19
