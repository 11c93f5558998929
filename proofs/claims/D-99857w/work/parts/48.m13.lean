/-! ===== the model: givings, asked ===== -/
set_option maxRecDepth 100000
set_option maxHeartbeats 800000 in
theorem m_whyNoTins {w : xW} {M : mS} {R : xH} {tm pm tn G : Nat} (hF : wF (M.2.2.1 5) tm pm tn G) (s9 : Int32) : CT w yX8_whyNoTins cX8_whyNoTins 2 (some (.int)) [] false (3) 0 0 [.ref 32, .int s9] (hM M R) (xret (some (.int (nI (whyG (M.2.2.1 5) tn s9)))) (hM M R)) := by
  have l3 := hF.l3
  rcases ix_or s9 (n := 2 ^ tn - 1 + 1) (by have : 2 ^ tn ≤ 512 := Nat.le_trans (Nat.pow_le_pow_right (by decide) (show tn ≤ 9 by omega)) (by decide); omega) with ⟨hx, hx2⟩ | ⟨k, hk, rfl, hx⟩
  · have hb : 2 ^ tn ≤ 512 := Nat.le_trans (Nat.pow_le_pow_right (by decide) (show tn ≤ 9 by omega)) (by decide)
    have his : inS s9.toInt64 (lN 0) (lN (2 ^ tn - 1)) = false := by rw [inS_ix (by omega), hx]; rfl
    refine CT.of (ini := false) (by decide +kernel) q2074 q164 (Nat.le_of_ble_eq_true rfl) (by decide) ?_
    intro Γ hw ho hL hr hh hini hal hd hmc hms hQ
    subst hw
    show AW Γ cX8_whyNoTins 0 0 0 [some (.ref 32), some (.int s9)] [] (hM M R)
    have h0 := hF.c0
    have h1 := hF.c1
    have h3 := hF.c3
    have l0 := hF.l0
    have l1 := hF.l1
    have l3 := hF.l3
    refine x_iload_n dX8_whyNoTins_0 rfl ?_
    refine x_i2l dX8_whyNoTins_1 ?_
    refine x_lconst (v := lN 0) rfl dX8_whyNoTins_2 ?_
    refine x_aload_n dX8_whyNoTins_3 rfl ?_
    refine x_callV0 lk_X8_316 (m_allTins hF) ho dX8_whyNoTins_4 rfl (Nat.le_of_ble_eq_true rfl) (by omega) (by decide) (by omega) (by omega) ?_
    refine x_i2lN (by omega) dX8_whyNoTins_7 ?_
    refine x_callS3 lk_X8_105 (m_isIn _ _ _) ho dX8_whyNoTins_8 (Nat.le_of_ble_eq_true rfl) (by omega) (by decide) (by omega) (by omega) ?_
    refine x_ifb_ne (tgt := 18) dX8_whyNoTins_11 (by decide) (fun c11 => ?_) (fun c11 => ?_)
    · exact absurd (c11.symm.trans his) (by decide)
    · try (exfalso; first | (simp (disch := omega) [inS_ix, inS_N, ixL_N, ix_nI, hx] at c11 <;> omega) | (simp (disch := omega) only [h0, h1, h3, Int32.le_iff_toInt_le, Int32.lt_iff_toInt_lt, ← Int32.toInt_inj, nI_toInt, Int32.toInt_zero, m1_toInt, Int64.le_iff_toInt_le, Int64.lt_iff_toInt_lt, ← Int64.toInt_inj, pk_lT, i64_toInt, Int64.toInt_zero, eq_self, not_true_eq_false, not_false_eq_true] at c11 <;> omega) | omega)
      all_goals
        skip
        refine x_iconst (v := nI 5) rfl dX8_whyNoTins_14 ?_
        refine x_goto (tgt := 34) dX8_whyNoTins_15 (by decide) ?_
        refine x_iret hr rfl dX8_whyNoTins_34 (by omega) (by omega) (hQ _ _ ?_)
        try dsimp only [mI, mSA] at c11
        exact ⟨by rw [whyG]; simp only [hx], rfl⟩
  · have hb : 2 ^ tn ≤ 512 := Nat.le_trans (Nat.pow_le_pow_right (by decide) (show tn ≤ 9 by omega)) (by decide)
    have his : inS (lN k) (lN 0) (lN (2 ^ tn - 1)) = true := by rw [← nI_l (by omega), inS_ix (by omega), hx]; rfl
    refine CT.of (ini := false) (by decide +kernel) q2074 q164 (Nat.le_of_ble_eq_true rfl) (by decide) ?_
    intro Γ hw ho hL hr hh hini hal hd hmc hms hQ
    subst hw
    show AW Γ cX8_whyNoTins 0 0 0 [some (.ref 32), some (.int (nI k))] [] (hM M R)
    have h0 := hF.c0
    have h1 := hF.c1
    have h3 := hF.c3
    have l0 := hF.l0
    have l1 := hF.l1
    have l3 := hF.l3
    refine x_iload_n dX8_whyNoTins_0 rfl ?_
    refine x_i2lN (by omega) dX8_whyNoTins_1 ?_
    refine x_lconst (v := lN 0) rfl dX8_whyNoTins_2 ?_
    refine x_aload_n dX8_whyNoTins_3 rfl ?_
    refine x_callV0 lk_X8_316 (m_allTins hF) ho dX8_whyNoTins_4 rfl (Nat.le_of_ble_eq_true rfl) (by omega) (by decide) (by omega) (by omega) ?_
    refine x_i2lN (by omega) dX8_whyNoTins_7 ?_
    refine x_callS3 lk_X8_105 (m_isIn _ _ _) ho dX8_whyNoTins_8 (Nat.le_of_ble_eq_true rfl) (by omega) (by decide) (by omega) (by omega) ?_
    refine x_ifb_ne (tgt := 18) dX8_whyNoTins_11 (by decide) (fun c11 => ?_) (fun c11 => ?_)
    · try (exfalso; first | (simp (disch := omega) [inS_ix, inS_N, ixL_N, ix_nI, hx] at c11 <;> omega) | (simp (disch := omega) only [h0, h1, h3, Int32.le_iff_toInt_le, Int32.lt_iff_toInt_lt, ← Int32.toInt_inj, nI_toInt, Int32.toInt_zero, m1_toInt, Int64.le_iff_toInt_le, Int64.lt_iff_toInt_lt, ← Int64.toInt_inj, pk_lT, i64_toInt, Int64.toInt_zero, eq_self, not_true_eq_false, not_false_eq_true] at c11 <;> omega) | omega)
      all_goals
        skip
        refine x_iload_n dX8_whyNoTins_18 rfl ?_
        refine x_aload_n dX8_whyNoTins_19 rfl ?_
        refine x_iconst (v := nI 0) rfl dX8_whyNoTins_20 ?_
        refine x_callV1 lk_X8_319 (m_tinsThat0 hF) ho dX8_whyNoTins_21 rfl (Nat.le_of_ble_eq_true rfl) (by omega) (by decide) (by omega) (by omega) ?_
        refine x_iand dX8_whyNoTins_24 ?_
        refine x_if_eq (tgt := 33) dX8_whyNoTins_25 (by decide) (fun c25 => ?_) (fun c25 => ?_)
        · skip
          skip
          refine x_iconst (v := nI 0) rfl dX8_whyNoTins_33 ?_
          refine x_iret hr rfl dX8_whyNoTins_34 (by omega) (by omega) (hQ _ _ ?_)
          try dsimp only [mI, mSA] at c11 c25
          exact ⟨by rw [whyG]; simp only [hx]; rw [if_pos c25], rfl⟩
        · skip
          skip
          refine x_bipush (v := nI 9) rfl dX8_whyNoTins_28 ?_
          refine x_goto (tgt := 34) dX8_whyNoTins_30 (by decide) ?_
          refine x_iret hr rfl dX8_whyNoTins_34 (by omega) (by omega) (hQ _ _ ?_)
          try dsimp only [mI, mSA] at c11 c25
          exact ⟨by rw [whyG]; simp only [hx]; rw [if_neg c25], rfl⟩
    · exact absurd (c11.symm.trans his) (by decide)
set_option maxHeartbeats 800000 in
theorem m_most {w : xW} {M : mS} {R : xH} {tm pm tn G : Nat} (hF : wF (M.2.2.1 5) tm pm tn G) (s9 : Int32) : CT w yX8_most cX8_most 2 (some (.int)) [] false (4) 0 0 [.ref 32, .int s9] (hM M R) (xrt (some (.int (spGiv (M.2.2.1 5) pm tn false s9).1)) (fun M' => mQ M' (mI (mI M 1 (nI 0)) 0 (nI (spGiv (M.2.2.1 5) pm tn false s9).2))) R) := by
  by_cases hw : whyG (M.2.2.1 5) tn s9 = 0
  · skip
    refine CT.of (ini := false) (by decide +kernel) q2070 q164 (Nat.le_of_ble_eq_true rfl) (by decide) ?_
    intro Γ hw ho hL hr hh hini hal hd hmc hms hQ
    subst hw
    show AW Γ cX8_most 0 0 0 [some (.ref 32), some (.int s9)] [] (hM M R)
    have h0 := hF.c0
    have h1 := hF.c1
    have h3 := hF.c3
    have l0 := hF.l0
    have l1 := hF.l1
    have l3 := hF.l3
    refine x_aload_n dX8_most_0 rfl ?_
    refine x_iconst (v := nI 0) rfl dX8_most_1 ?_
    refine m_puti (k := 1) (pf_X8_70 (ini := false)) ho hini dX8_most_2 rfl rfl (by decide) (ms_1 _ _) ?_
    refine x_aload_n dX8_most_5 rfl ?_
    refine x_aload_n dX8_most_6 rfl ?_
    refine x_iload_n dX8_most_7 rfl ?_
    refine x_callV1 lk_X8_399 (m_whyNoTins (M := (mI M 1 (nI 0))) hF _) ho dX8_most_8 rfl (Nat.le_of_ble_eq_true rfl) (by omega) (by decide) (by omega) (by omega) ?_
    refine x_ival (y := nI 0) (by rw [show whyG ((mI M 1 (nI 0)).2.2.1 5) tn s9 = 0 from hw]) ?_
    refine m_puti (k := 0) (pf_X8_73 (ini := false)) ho hini dX8_most_11 rfl rfl (by decide) (ms_0 _ _) ?_
    refine x_aload_n dX8_most_14 rfl ?_
    refine x_getf gf_X8_73 ho dX8_most_15 rfl rfl ?_
    refine x_ival (y := nI 0) rfl ?_
    refine x_if_le (tgt := 25) dX8_most_18 (by decide) (fun c18 => ?_) (fun c18 => ?_)
    · try (exfalso; first | (simp (disch := omega) [inS_ix, inS_N, ixL_N, ix_nI, hw] at c18 <;> omega) | (simp (disch := omega) only [h0, h1, h3, Int32.le_iff_toInt_le, Int32.lt_iff_toInt_lt, ← Int32.toInt_inj, nI_toInt, Int32.toInt_zero, m1_toInt, Int64.le_iff_toInt_le, Int64.lt_iff_toInt_lt, ← Int64.toInt_inj, pk_lT, i64_toInt, Int64.toInt_zero, eq_self, not_true_eq_false, not_false_eq_true] at c18 <;> omega) | omega)
      all_goals
        skip
        refine x_aload_n dX8_most_25 rfl ?_
        refine x_iload_n dX8_most_26 rfl ?_
        refine x_iconst (v := nI 0) rfl dX8_most_27 ?_
        refine x_iconst (v := nI 0) rfl dX8_most_28 ?_
        refine x_iconst (v := nI 0) rfl dX8_most_29 ?_
        refine x_ival (y := xb false) rfl ?_
        refine x_callV4 lk_X8_402 (m_laysGivings (M := (mI (mI M 1 (nI 0)) 0 (nI 0))) hF _ 0 0 false (by omega) (by omega)) ho dX8_most_30 rfl (Nat.le_of_ble_eq_true rfl) (by omega) (by decide) (by omega) (by omega) ?_
        refine x_iret hr rfl dX8_most_33 (by omega) (by omega) (hQ _ _ ?_)
        try dsimp only [mI, mSA] at c18
        exact ⟨by rw [spGiv, if_pos hw]; exact congrArg (fun x => Sum.inl (some (Value.int x))) gvZ_e, _, rfl, by rw [spGiv, hw]; exact mQ_SA (mQ_r _) rfl (by decide)⟩
    · exact absurd (by decide +kernel) c18
  · have hl : whyG (M.2.2.1 5) tn s9 ≤ 9 := by unfold whyG; split; (· decide); (· split <;> decide)
    refine CT.of (ini := false) (by decide +kernel) q2070 q164 (Nat.le_of_ble_eq_true rfl) (by decide) ?_
    intro Γ hw ho hL hr hh hini hal hd hmc hms hQ
    subst hw
    show AW Γ cX8_most 0 0 0 [some (.ref 32), some (.int s9)] [] (hM M R)
    have h0 := hF.c0
    have h1 := hF.c1
    have h3 := hF.c3
    have l0 := hF.l0
    have l1 := hF.l1
    have l3 := hF.l3
    refine x_aload_n dX8_most_0 rfl ?_
    refine x_iconst (v := nI 0) rfl dX8_most_1 ?_
    refine m_puti (k := 1) (pf_X8_70 (ini := false)) ho hini dX8_most_2 rfl rfl (by decide) (ms_1 _ _) ?_
    refine x_aload_n dX8_most_5 rfl ?_
    refine x_aload_n dX8_most_6 rfl ?_
    refine x_iload_n dX8_most_7 rfl ?_
    refine x_callV1 lk_X8_399 (m_whyNoTins (M := (mI M 1 (nI 0))) hF _) ho dX8_most_8 rfl (Nat.le_of_ble_eq_true rfl) (by omega) (by decide) (by omega) (by omega) ?_
    refine m_puti (k := 0) (pf_X8_73 (ini := false)) ho hini dX8_most_11 rfl rfl (by decide) (ms_0 _ _) ?_
    refine x_aload_n dX8_most_14 rfl ?_
    refine x_getf gf_X8_73 ho dX8_most_15 rfl rfl ?_
    refine x_ival (y := nI (whyG (M.2.2.1 5) tn s9)) rfl ?_
    refine x_if_le (tgt := 25) dX8_most_18 (by decide) (fun c18 => ?_) (fun c18 => ?_)
    · try (exfalso; first | (simp (disch := omega) [inS_ix, inS_N, ixL_N, ix_nI, hw] at c18 <;> omega) | (simp (disch := omega) only [h0, h1, h3, Int32.le_iff_toInt_le, Int32.lt_iff_toInt_lt, ← Int32.toInt_inj, nI_toInt, Int32.toInt_zero, m1_toInt, Int64.le_iff_toInt_le, Int64.lt_iff_toInt_lt, ← Int64.toInt_inj, pk_lT, i64_toInt, Int64.toInt_zero, eq_self, not_true_eq_false, not_false_eq_true] at c18 <;> omega) | omega)
      all_goals
        skip
        exact absurd ((nI_le0 (by omega)).mp c18) hw
    · try (exfalso; first | (simp (disch := omega) [inS_ix, inS_N, ixL_N, ix_nI, hw] at c18 <;> omega) | (simp (disch := omega) only [h0, h1, h3, Int32.le_iff_toInt_le, Int32.lt_iff_toInt_lt, ← Int32.toInt_inj, nI_toInt, Int32.toInt_zero, m1_toInt, Int64.le_iff_toInt_le, Int64.lt_iff_toInt_lt, ← Int64.toInt_inj, pk_lT, i64_toInt, Int64.toInt_zero, eq_self, not_true_eq_false, not_false_eq_true] at c18 <;> omega) | omega)
      all_goals
        skip
        refine x_iconst (v := (-1)) rfl dX8_most_21 ?_
        refine x_goto (tgt := 33) dX8_most_22 (by decide) ?_
        refine x_iret hr rfl dX8_most_33 (by omega) (by omega) (hQ _ _ ?_)
        try dsimp only [mI, mSA] at c18
        exact ⟨by rw [spGiv, if_neg hw], _, rfl, by rw [spGiv]; exact mQ_r _⟩
set_option maxHeartbeats 800000 in
theorem m_givings {w : xW} {M : mS} {R : xH} {tm pm tn G : Nat} (hF : wF (M.2.2.1 5) tm pm tn G) (s9 : Int32) : CT w yX8_givings cX8_givings 2 (some (.int)) [] false (4) 0 0 [.ref 32, .int s9] (hM M R) (xrt (some (.int (spGiv (M.2.2.1 5) pm tn true s9).1)) (fun M' => mQ M' (mI (mI M 1 (nI 0)) 0 (nI (spGiv (M.2.2.1 5) pm tn true s9).2))) R) := by
  by_cases hw : whyG (M.2.2.1 5) tn s9 = 0
  · skip
    refine CT.of (ini := false) (by decide +kernel) q2089 q164 (Nat.le_of_ble_eq_true rfl) (by decide) ?_
    intro Γ hw ho hL hr hh hini hal hd hmc hms hQ
    subst hw
    show AW Γ cX8_givings 0 0 0 [some (.ref 32), some (.int s9)] [] (hM M R)
    have h0 := hF.c0
    have h1 := hF.c1
    have h3 := hF.c3
    have l0 := hF.l0
    have l1 := hF.l1
    have l3 := hF.l3
    refine x_aload_n dX8_givings_0 rfl ?_
    refine x_iconst (v := nI 0) rfl dX8_givings_1 ?_
    refine m_puti (k := 1) (pf_X8_70 (ini := false)) ho hini dX8_givings_2 rfl rfl (by decide) (ms_1 _ _) ?_
    refine x_aload_n dX8_givings_5 rfl ?_
    refine x_aload_n dX8_givings_6 rfl ?_
    refine x_iload_n dX8_givings_7 rfl ?_
    refine x_callV1 lk_X8_399 (m_whyNoTins (M := (mI M 1 (nI 0))) hF _) ho dX8_givings_8 rfl (Nat.le_of_ble_eq_true rfl) (by omega) (by decide) (by omega) (by omega) ?_
    refine x_ival (y := nI 0) (by rw [show whyG ((mI M 1 (nI 0)).2.2.1 5) tn s9 = 0 from hw]) ?_
    refine m_puti (k := 0) (pf_X8_73 (ini := false)) ho hini dX8_givings_11 rfl rfl (by decide) (ms_0 _ _) ?_
    refine x_aload_n dX8_givings_14 rfl ?_
    refine x_getf gf_X8_73 ho dX8_givings_15 rfl rfl ?_
    refine x_ival (y := nI 0) rfl ?_
    refine x_if_le (tgt := 25) dX8_givings_18 (by decide) (fun c18 => ?_) (fun c18 => ?_)
    · try (exfalso; first | (simp (disch := omega) [inS_ix, inS_N, ixL_N, ix_nI, hw] at c18 <;> omega) | (simp (disch := omega) only [h0, h1, h3, Int32.le_iff_toInt_le, Int32.lt_iff_toInt_lt, ← Int32.toInt_inj, nI_toInt, Int32.toInt_zero, m1_toInt, Int64.le_iff_toInt_le, Int64.lt_iff_toInt_lt, ← Int64.toInt_inj, pk_lT, i64_toInt, Int64.toInt_zero, eq_self, not_true_eq_false, not_false_eq_true] at c18 <;> omega) | omega)
      all_goals
        skip
        refine x_aload_n dX8_givings_25 rfl ?_
        refine x_iload_n dX8_givings_26 rfl ?_
        refine x_iconst (v := nI 0) rfl dX8_givings_27 ?_
        refine x_iconst (v := nI 0) rfl dX8_givings_28 ?_
        refine x_iconst (v := nI 1) rfl dX8_givings_29 ?_
        refine x_ival (y := xb true) rfl ?_
        refine x_callV4 lk_X8_402 (m_laysGivings (M := (mI (mI M 1 (nI 0)) 0 (nI 0))) hF _ 0 0 true (by omega) (by omega)) ho dX8_givings_30 rfl (Nat.le_of_ble_eq_true rfl) (by omega) (by decide) (by omega) (by omega) ?_
        refine x_iret hr rfl dX8_givings_33 (by omega) (by omega) (hQ _ _ ?_)
        try dsimp only [mI, mSA] at c18
        exact ⟨by rw [spGiv, if_pos hw]; exact congrArg (fun x => Sum.inl (some (Value.int x))) gvZ_e, _, rfl, by rw [spGiv, hw]; exact mQ_SA (mQ_r _) rfl (by decide)⟩
    · exact absurd (by decide +kernel) c18
  · have hl : whyG (M.2.2.1 5) tn s9 ≤ 9 := by unfold whyG; split; (· decide); (· split <;> decide)
    refine CT.of (ini := false) (by decide +kernel) q2089 q164 (Nat.le_of_ble_eq_true rfl) (by decide) ?_
    intro Γ hw ho hL hr hh hini hal hd hmc hms hQ
    subst hw
    show AW Γ cX8_givings 0 0 0 [some (.ref 32), some (.int s9)] [] (hM M R)
    have h0 := hF.c0
    have h1 := hF.c1
    have h3 := hF.c3
    have l0 := hF.l0
    have l1 := hF.l1
    have l3 := hF.l3
    refine x_aload_n dX8_givings_0 rfl ?_
    refine x_iconst (v := nI 0) rfl dX8_givings_1 ?_
    refine m_puti (k := 1) (pf_X8_70 (ini := false)) ho hini dX8_givings_2 rfl rfl (by decide) (ms_1 _ _) ?_
    refine x_aload_n dX8_givings_5 rfl ?_
    refine x_aload_n dX8_givings_6 rfl ?_
    refine x_iload_n dX8_givings_7 rfl ?_
    refine x_callV1 lk_X8_399 (m_whyNoTins (M := (mI M 1 (nI 0))) hF _) ho dX8_givings_8 rfl (Nat.le_of_ble_eq_true rfl) (by omega) (by decide) (by omega) (by omega) ?_
    refine m_puti (k := 0) (pf_X8_73 (ini := false)) ho hini dX8_givings_11 rfl rfl (by decide) (ms_0 _ _) ?_
    refine x_aload_n dX8_givings_14 rfl ?_
    refine x_getf gf_X8_73 ho dX8_givings_15 rfl rfl ?_
    refine x_ival (y := nI (whyG (M.2.2.1 5) tn s9)) rfl ?_
    refine x_if_le (tgt := 25) dX8_givings_18 (by decide) (fun c18 => ?_) (fun c18 => ?_)
    · try (exfalso; first | (simp (disch := omega) [inS_ix, inS_N, ixL_N, ix_nI, hw] at c18 <;> omega) | (simp (disch := omega) only [h0, h1, h3, Int32.le_iff_toInt_le, Int32.lt_iff_toInt_lt, ← Int32.toInt_inj, nI_toInt, Int32.toInt_zero, m1_toInt, Int64.le_iff_toInt_le, Int64.lt_iff_toInt_lt, ← Int64.toInt_inj, pk_lT, i64_toInt, Int64.toInt_zero, eq_self, not_true_eq_false, not_false_eq_true] at c18 <;> omega) | omega)
      all_goals
        skip
        exact absurd ((nI_le0 (by omega)).mp c18) hw
    · try (exfalso; first | (simp (disch := omega) [inS_ix, inS_N, ixL_N, ix_nI, hw] at c18 <;> omega) | (simp (disch := omega) only [h0, h1, h3, Int32.le_iff_toInt_le, Int32.lt_iff_toInt_lt, ← Int32.toInt_inj, nI_toInt, Int32.toInt_zero, m1_toInt, Int64.le_iff_toInt_le, Int64.lt_iff_toInt_lt, ← Int64.toInt_inj, pk_lT, i64_toInt, Int64.toInt_zero, eq_self, not_true_eq_false, not_false_eq_true] at c18 <;> omega) | omega)
      all_goals
        skip
        refine x_iconst (v := (-1)) rfl dX8_givings_21 ?_
        refine x_goto (tgt := 33) dX8_givings_22 (by decide) ?_
        refine x_iret hr rfl dX8_givings_33 (by omega) (by omega) (hQ _ _ ?_)
        try dsimp only [mI, mSA] at c18
        exact ⟨by rw [spGiv, if_neg hw], _, rfl, by rw [spGiv]; exact mQ_r _⟩
