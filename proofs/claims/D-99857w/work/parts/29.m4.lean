/-! ===== the model: where a tin can come, givings, fewest ===== -/
set_option maxRecDepth 100000
set_option maxHeartbeats 800000 in
theorem m_whyNoTin {w : xW} {M : mS} {R : xH} {tm pm tn G : Nat} (hF : wF (M.2.2.1 5) tm pm tn G) (t9 : Int32) : CT w yX8_whyNoTin cX8_whyNoTin 2 (some (.int)) [] false (2) 0 0 [.ref 32, .int t9] (hM M R) (xret (some (.int (nI (whyT (M.2.2.1 5) tn t9)))) (hM M R)) := by
  have l0 := hF.l0
  have l1 := hF.l1
  have l3 := hF.l3
  rcases ix_or t9 (n := tn) (by omega) with ⟨hx, hx2⟩ | ⟨t, ht, rfl, hx⟩
  rotate_left 1
  rcases hF.on ht with e | ⟨p, hp, e⟩
  · have hg := goB_1 e
    refine CT.of (ini := false) (by decide +kernel) q2046 q164 (Nat.le_of_ble_eq_true rfl) (by decide) ?_
    intro Γ hw ho hL hr hh hini hal hd hmc hms hQ
    subst hw
    show AW Γ cX8_whyNoTin 0 0 0 [some (.ref 32), some (.int (nI t))] [] (hM M R)
    have h0 := hF.c0
    have h1 := hF.c1
    have h3 := hF.c3
    have l0 := hF.l0
    have l1 := hF.l1
    have l3 := hF.l3
    refine x_aload_n dX8_whyNoTin_0 rfl ?_
    refine x_iload_n dX8_whyNoTin_1 rfl ?_
    refine x_callV1 lk_X8_344 (m_isTinAt hF _) ho dX8_whyNoTin_2 rfl (Nat.le_of_ble_eq_true rfl) (by omega) (by decide) (by omega) (by omega) ?_
    refine x_ifb_ne (tgt := 12) dX8_whyNoTin_5 (by decide) (fun c5 => ?_) (fun c5 => ?_)
    · try (exfalso; first | (simp (disch := omega) [inS_ix, inS_N, ixL_N, ix_nI, hx, hg] at c5 <;> omega) | (simp (disch := omega) only [h0, h1, h3, Int32.le_iff_toInt_le, Int32.lt_iff_toInt_lt, ← Int32.toInt_inj, nI_toInt, Int32.toInt_zero, m1_toInt, Int64.le_iff_toInt_le, Int64.lt_iff_toInt_lt, ← Int64.toInt_inj, pk_lT, i64_toInt, Int64.toInt_zero, eq_self, not_true_eq_false, not_false_eq_true] at c5 <;> omega) | omega)
      all_goals
        skip
        refine x_aload_n dX8_whyNoTin_12 rfl ?_
        refine x_iload_n dX8_whyNoTin_13 rfl ?_
        refine x_callV1 lk_X8_310 (m_isGone hF _ (by omega)) ho dX8_whyNoTin_14 rfl (Nat.le_of_ble_eq_true rfl) (by omega) (by decide) (by omega) (by omega) ?_
        refine x_ifb_eq (tgt := 25) dX8_whyNoTin_17 (by decide) (fun c17 => ?_) (fun c17 => ?_)
        · try (exfalso; first | (simp (disch := omega) [inS_ix, inS_N, ixL_N, ix_nI, hx, hg] at c17 <;> omega) | (simp (disch := omega) only [h0, h1, h3, Int32.le_iff_toInt_le, Int32.lt_iff_toInt_lt, ← Int32.toInt_inj, nI_toInt, Int32.toInt_zero, m1_toInt, Int64.le_iff_toInt_le, Int64.lt_iff_toInt_lt, ← Int64.toInt_inj, pk_lT, i64_toInt, Int64.toInt_zero, eq_self, not_true_eq_false, not_false_eq_true] at c5 c17 <;> omega) | omega)
          all_goals
            skip
            refine x_iconst (v := nI 0) rfl dX8_whyNoTin_25 ?_
            refine x_iret hr rfl dX8_whyNoTin_26 (by omega) (by omega) (hQ _ _ ?_)
            try dsimp only [mI, mSA] at c5 c17
            exact ⟨by simp [whyT, hx, hg], rfl⟩
        · try (exfalso; first | (simp (disch := omega) [inS_ix, inS_N, ixL_N, ix_nI, hx, hg] at c17 <;> omega) | (simp (disch := omega) only [h0, h1, h3, Int32.le_iff_toInt_le, Int32.lt_iff_toInt_lt, ← Int32.toInt_inj, nI_toInt, Int32.toInt_zero, m1_toInt, Int64.le_iff_toInt_le, Int64.lt_iff_toInt_lt, ← Int64.toInt_inj, pk_lT, i64_toInt, Int64.toInt_zero, eq_self, not_true_eq_false, not_false_eq_true] at c5 c17 <;> omega) | omega)
          all_goals
            skip
            refine x_bipush (v := nI 9) rfl dX8_whyNoTin_20 ?_
            refine x_goto (tgt := 26) dX8_whyNoTin_22 (by decide) ?_
            refine x_iret hr rfl dX8_whyNoTin_26 (by omega) (by omega) (hQ _ _ ?_)
            try dsimp only [mI, mSA] at c5 c17
            exact ⟨by simp [whyT, hx, hg], rfl⟩
    · try (exfalso; first | (simp (disch := omega) [inS_ix, inS_N, ixL_N, ix_nI, hx, hg] at c5 <;> omega) | (simp (disch := omega) only [h0, h1, h3, Int32.le_iff_toInt_le, Int32.lt_iff_toInt_lt, ← Int32.toInt_inj, nI_toInt, Int32.toInt_zero, m1_toInt, Int64.le_iff_toInt_le, Int64.lt_iff_toInt_lt, ← Int64.toInt_inj, pk_lT, i64_toInt, Int64.toInt_zero, eq_self, not_true_eq_false, not_false_eq_true] at c5 <;> omega) | omega)
      all_goals
        skip
        refine x_iconst (v := nI 2) rfl dX8_whyNoTin_8 ?_
        refine x_goto (tgt := 26) dX8_whyNoTin_9 (by decide) ?_
        refine x_iret hr rfl dX8_whyNoTin_26 (by omega) (by omega) (hQ _ _ ?_)
        try dsimp only [mI, mSA] at c5
        exact ⟨by simp [whyT, hx, hg], rfl⟩
  · have hg := goB_0 e (show p < 2 ^ 31 by omega)
    refine CT.of (ini := false) (by decide +kernel) q2046 q164 (Nat.le_of_ble_eq_true rfl) (by decide) ?_
    intro Γ hw ho hL hr hh hini hal hd hmc hms hQ
    subst hw
    show AW Γ cX8_whyNoTin 0 0 0 [some (.ref 32), some (.int (nI t))] [] (hM M R)
    have h0 := hF.c0
    have h1 := hF.c1
    have h3 := hF.c3
    have l0 := hF.l0
    have l1 := hF.l1
    have l3 := hF.l3
    refine x_aload_n dX8_whyNoTin_0 rfl ?_
    refine x_iload_n dX8_whyNoTin_1 rfl ?_
    refine x_callV1 lk_X8_344 (m_isTinAt hF _) ho dX8_whyNoTin_2 rfl (Nat.le_of_ble_eq_true rfl) (by omega) (by decide) (by omega) (by omega) ?_
    refine x_ifb_ne (tgt := 12) dX8_whyNoTin_5 (by decide) (fun c5 => ?_) (fun c5 => ?_)
    · try (exfalso; first | (simp (disch := omega) [inS_ix, inS_N, ixL_N, ix_nI, hx, hg] at c5 <;> omega) | (simp (disch := omega) only [h0, h1, h3, Int32.le_iff_toInt_le, Int32.lt_iff_toInt_lt, ← Int32.toInt_inj, nI_toInt, Int32.toInt_zero, m1_toInt, Int64.le_iff_toInt_le, Int64.lt_iff_toInt_lt, ← Int64.toInt_inj, pk_lT, i64_toInt, Int64.toInt_zero, eq_self, not_true_eq_false, not_false_eq_true] at c5 <;> omega) | omega)
      all_goals
        skip
        refine x_aload_n dX8_whyNoTin_12 rfl ?_
        refine x_iload_n dX8_whyNoTin_13 rfl ?_
        refine x_callV1 lk_X8_310 (m_isGone hF _ (by omega)) ho dX8_whyNoTin_14 rfl (Nat.le_of_ble_eq_true rfl) (by omega) (by decide) (by omega) (by omega) ?_
        refine x_ifb_eq (tgt := 25) dX8_whyNoTin_17 (by decide) (fun c17 => ?_) (fun c17 => ?_)
        · try (exfalso; first | (simp (disch := omega) [inS_ix, inS_N, ixL_N, ix_nI, hx, hg] at c17 <;> omega) | (simp (disch := omega) only [h0, h1, h3, Int32.le_iff_toInt_le, Int32.lt_iff_toInt_lt, ← Int32.toInt_inj, nI_toInt, Int32.toInt_zero, m1_toInt, Int64.le_iff_toInt_le, Int64.lt_iff_toInt_lt, ← Int64.toInt_inj, pk_lT, i64_toInt, Int64.toInt_zero, eq_self, not_true_eq_false, not_false_eq_true] at c5 c17 <;> omega) | omega)
          all_goals
            skip
            refine x_iconst (v := nI 0) rfl dX8_whyNoTin_25 ?_
            refine x_iret hr rfl dX8_whyNoTin_26 (by omega) (by omega) (hQ _ _ ?_)
            try dsimp only [mI, mSA] at c5 c17
            exact ⟨by simp [whyT, hx, hg], rfl⟩
        · try (exfalso; first | (simp (disch := omega) [inS_ix, inS_N, ixL_N, ix_nI, hx, hg] at c17 <;> omega) | (simp (disch := omega) only [h0, h1, h3, Int32.le_iff_toInt_le, Int32.lt_iff_toInt_lt, ← Int32.toInt_inj, nI_toInt, Int32.toInt_zero, m1_toInt, Int64.le_iff_toInt_le, Int64.lt_iff_toInt_lt, ← Int64.toInt_inj, pk_lT, i64_toInt, Int64.toInt_zero, eq_self, not_true_eq_false, not_false_eq_true] at c5 c17 <;> omega) | omega)
          all_goals
            skip
            refine x_bipush (v := nI 9) rfl dX8_whyNoTin_20 ?_
            refine x_goto (tgt := 26) dX8_whyNoTin_22 (by decide) ?_
            refine x_iret hr rfl dX8_whyNoTin_26 (by omega) (by omega) (hQ _ _ ?_)
            try dsimp only [mI, mSA] at c5 c17
            exact ⟨by simp [whyT, hx, hg], rfl⟩
    · try (exfalso; first | (simp (disch := omega) [inS_ix, inS_N, ixL_N, ix_nI, hx, hg] at c5 <;> omega) | (simp (disch := omega) only [h0, h1, h3, Int32.le_iff_toInt_le, Int32.lt_iff_toInt_lt, ← Int32.toInt_inj, nI_toInt, Int32.toInt_zero, m1_toInt, Int64.le_iff_toInt_le, Int64.lt_iff_toInt_lt, ← Int64.toInt_inj, pk_lT, i64_toInt, Int64.toInt_zero, eq_self, not_true_eq_false, not_false_eq_true] at c5 <;> omega) | omega)
      all_goals
        skip
        refine x_iconst (v := nI 2) rfl dX8_whyNoTin_8 ?_
        refine x_goto (tgt := 26) dX8_whyNoTin_9 (by decide) ?_
        refine x_iret hr rfl dX8_whyNoTin_26 (by omega) (by omega) (hQ _ _ ?_)
        try dsimp only [mI, mSA] at c5
        exact ⟨by simp [whyT, hx, hg], rfl⟩
  · skip
    refine CT.of (ini := false) (by decide +kernel) q2046 q164 (Nat.le_of_ble_eq_true rfl) (by decide) ?_
    intro Γ hw ho hL hr hh hini hal hd hmc hms hQ
    subst hw
    show AW Γ cX8_whyNoTin 0 0 0 [some (.ref 32), some (.int t9)] [] (hM M R)
    have h0 := hF.c0
    have h1 := hF.c1
    have h3 := hF.c3
    have l0 := hF.l0
    have l1 := hF.l1
    have l3 := hF.l3
    refine x_aload_n dX8_whyNoTin_0 rfl ?_
    refine x_iload_n dX8_whyNoTin_1 rfl ?_
    refine x_callV1 lk_X8_344 (m_isTinAt hF _) ho dX8_whyNoTin_2 rfl (Nat.le_of_ble_eq_true rfl) (by omega) (by decide) (by omega) (by omega) ?_
    refine x_ifb_ne (tgt := 12) dX8_whyNoTin_5 (by decide) (fun c5 => ?_) (fun c5 => ?_)
    · try (exfalso; first | (simp (disch := omega) [inS_ix, inS_N, ixL_N, ix_nI, hx] at c5 <;> omega) | (simp (disch := omega) only [h0, h1, h3, Int32.le_iff_toInt_le, Int32.lt_iff_toInt_lt, ← Int32.toInt_inj, nI_toInt, Int32.toInt_zero, m1_toInt, Int64.le_iff_toInt_le, Int64.lt_iff_toInt_lt, ← Int64.toInt_inj, pk_lT, i64_toInt, Int64.toInt_zero, eq_self, not_true_eq_false, not_false_eq_true] at c5 <;> omega) | omega)
      all_goals
        skip
        refine x_aload_n dX8_whyNoTin_12 rfl ?_
        refine x_iload_n dX8_whyNoTin_13 rfl ?_
        refine x_callV1 lk_X8_310 (m_isGone hF _ (by omega)) ho dX8_whyNoTin_14 rfl (Nat.le_of_ble_eq_true rfl) (by omega) (by decide) (by omega) (by omega) ?_
        refine x_ifb_eq (tgt := 25) dX8_whyNoTin_17 (by decide) (fun c17 => ?_) (fun c17 => ?_)
        · try (exfalso; first | (simp (disch := omega) [inS_ix, inS_N, ixL_N, ix_nI, hx] at c17 <;> omega) | (simp (disch := omega) only [h0, h1, h3, Int32.le_iff_toInt_le, Int32.lt_iff_toInt_lt, ← Int32.toInt_inj, nI_toInt, Int32.toInt_zero, m1_toInt, Int64.le_iff_toInt_le, Int64.lt_iff_toInt_lt, ← Int64.toInt_inj, pk_lT, i64_toInt, Int64.toInt_zero, eq_self, not_true_eq_false, not_false_eq_true] at c5 c17 <;> omega) | omega)
          all_goals
            skip
            refine x_iconst (v := nI 0) rfl dX8_whyNoTin_25 ?_
            refine x_iret hr rfl dX8_whyNoTin_26 (by omega) (by omega) (hQ _ _ ?_)
            try dsimp only [mI, mSA] at c5 c17
            exact ⟨by simp [whyT, hx], rfl⟩
        · try (exfalso; first | (simp (disch := omega) [inS_ix, inS_N, ixL_N, ix_nI, hx] at c17 <;> omega) | (simp (disch := omega) only [h0, h1, h3, Int32.le_iff_toInt_le, Int32.lt_iff_toInt_lt, ← Int32.toInt_inj, nI_toInt, Int32.toInt_zero, m1_toInt, Int64.le_iff_toInt_le, Int64.lt_iff_toInt_lt, ← Int64.toInt_inj, pk_lT, i64_toInt, Int64.toInt_zero, eq_self, not_true_eq_false, not_false_eq_true] at c5 c17 <;> omega) | omega)
          all_goals
            skip
            refine x_bipush (v := nI 9) rfl dX8_whyNoTin_20 ?_
            refine x_goto (tgt := 26) dX8_whyNoTin_22 (by decide) ?_
            refine x_iret hr rfl dX8_whyNoTin_26 (by omega) (by omega) (hQ _ _ ?_)
            try dsimp only [mI, mSA] at c5 c17
            exact ⟨by simp [whyT, hx], rfl⟩
    · try (exfalso; first | (simp (disch := omega) [inS_ix, inS_N, ixL_N, ix_nI, hx] at c5 <;> omega) | (simp (disch := omega) only [h0, h1, h3, Int32.le_iff_toInt_le, Int32.lt_iff_toInt_lt, ← Int32.toInt_inj, nI_toInt, Int32.toInt_zero, m1_toInt, Int64.le_iff_toInt_le, Int64.lt_iff_toInt_lt, ← Int64.toInt_inj, pk_lT, i64_toInt, Int64.toInt_zero, eq_self, not_true_eq_false, not_false_eq_true] at c5 <;> omega) | omega)
      all_goals
        skip
        refine x_iconst (v := nI 2) rfl dX8_whyNoTin_8 ?_
        refine x_goto (tgt := 26) dX8_whyNoTin_9 (by decide) ?_
        refine x_iret hr rfl dX8_whyNoTin_26 (by omega) (by omega) (hQ _ _ ?_)
        try dsimp only [mI, mSA] at c5
        exact ⟨by simp [whyT, hx], rfl⟩
set_option maxHeartbeats 800000 in
theorem m_whyNoWay {w : xW} {M : mS} {R : xH} {tm pm tn G : Nat} (hF : wF (M.2.2.1 5) tm pm tn G) (t9 q9 : Int32) : CT w yX8_whyNoWay cX8_whyNoWay 3 (some (.int)) [] false (2) 0 0 [.ref 32, .int t9, .int q9] (hM M R) (xret (some (.int (nI (whyW (M.2.2.1 5) pm tn t9 q9)))) (hM M R)) := by
  have l0 := hF.l0
  have l1 := hF.l1
  have l3 := hF.l3
  rcases ix_or t9 (n := tn) (by omega) with ⟨hx, hx2⟩ | ⟨t, ht, rfl, hx⟩
  rotate_left 1
  rcases ix_or q9 (n := pm) (by omega) with ⟨hy, hy2⟩ | ⟨j, hj, rfl, hy⟩
  rotate_left 1
  rcases hF.on ht with e | ⟨p, hp, e⟩
  · have hg := goB_1 e
    refine CT.of (ini := false) (by decide +kernel) q2030 q164 (Nat.le_of_ble_eq_true rfl) (by decide) ?_
    intro Γ hw ho hL hr hh hini hal hd hmc hms hQ
    subst hw
    show AW Γ cX8_whyNoWay 0 0 0 [some (.ref 32), some (.int (nI t)), some (.int (nI j))] [] (hM M R)
    have h0 := hF.c0
    have h1 := hF.c1
    have h3 := hF.c3
    have l0 := hF.l0
    have l1 := hF.l1
    have l3 := hF.l3
    refine x_aload_n dX8_whyNoWay_0 rfl ?_
    refine x_iload_n dX8_whyNoWay_1 rfl ?_
    refine x_callV1 lk_X8_344 (m_isTinAt hF _) ho dX8_whyNoWay_2 rfl (Nat.le_of_ble_eq_true rfl) (by omega) (by decide) (by omega) (by omega) ?_
    refine x_ifb_eq (tgt := 17) dX8_whyNoWay_5 (by decide) (fun c5 => ?_) (fun c5 => ?_)
    · try (exfalso; first | (simp (disch := omega) [inS_ix, inS_N, ixL_N, ix_nI, hx, hy, hg] at c5 <;> omega) | (simp (disch := omega) only [h0, h1, h3, Int32.le_iff_toInt_le, Int32.lt_iff_toInt_lt, ← Int32.toInt_inj, nI_toInt, Int32.toInt_zero, m1_toInt, Int64.le_iff_toInt_le, Int64.lt_iff_toInt_lt, ← Int64.toInt_inj, pk_lT, i64_toInt, Int64.toInt_zero, eq_self, not_true_eq_false, not_false_eq_true] at c5 <;> omega) | omega)
      all_goals
        skip
        refine x_iconst (v := nI 2) rfl dX8_whyNoWay_17 ?_
        refine x_goto (tgt := 35) dX8_whyNoWay_18 (by decide) ?_
        refine x_iret hr rfl dX8_whyNoWay_35 (by omega) (by omega) (hQ _ _ ?_)
        try dsimp only [mI, mSA] at c5
        exact ⟨by simp [whyW, hx, hy, hg], rfl⟩
    · try (exfalso; first | (simp (disch := omega) [inS_ix, inS_N, ixL_N, ix_nI, hx, hy, hg] at c5 <;> omega) | (simp (disch := omega) only [h0, h1, h3, Int32.le_iff_toInt_le, Int32.lt_iff_toInt_lt, ← Int32.toInt_inj, nI_toInt, Int32.toInt_zero, m1_toInt, Int64.le_iff_toInt_le, Int64.lt_iff_toInt_lt, ← Int64.toInt_inj, pk_lT, i64_toInt, Int64.toInt_zero, eq_self, not_true_eq_false, not_false_eq_true] at c5 <;> omega) | omega)
      all_goals
        skip
        refine x_aload_n dX8_whyNoWay_8 rfl ?_
        refine x_iload_n dX8_whyNoWay_9 rfl ?_
        refine x_i2lN (by omega) dX8_whyNoWay_10 ?_
        refine x_callV1 lk_X8_336 (m_isPersonAt hF _) ho dX8_whyNoWay_11 rfl (Nat.le_of_ble_eq_true rfl) (by omega) (by decide) (by omega) (by omega) ?_
        refine x_ifb_ne (tgt := 21) dX8_whyNoWay_14 (by decide) (fun c14 => ?_) (fun c14 => ?_)
        · try (exfalso; first | (simp (disch := omega) [inS_ix, inS_N, ixL_N, ix_nI, hx, hy, hg] at c14 <;> omega) | (simp (disch := omega) only [h0, h1, h3, Int32.le_iff_toInt_le, Int32.lt_iff_toInt_lt, ← Int32.toInt_inj, nI_toInt, Int32.toInt_zero, m1_toInt, Int64.le_iff_toInt_le, Int64.lt_iff_toInt_lt, ← Int64.toInt_inj, pk_lT, i64_toInt, Int64.toInt_zero, eq_self, not_true_eq_false, not_false_eq_true] at c5 c14 <;> omega) | omega)
          all_goals
            skip
            refine x_aload_n dX8_whyNoWay_21 rfl ?_
            refine x_iload_n dX8_whyNoWay_22 rfl ?_
            refine x_callV1 lk_X8_310 (m_isGone hF _ (by omega)) ho dX8_whyNoWay_23 rfl (Nat.le_of_ble_eq_true rfl) (by omega) (by decide) (by omega) (by omega) ?_
            refine x_ifb_eq (tgt := 34) dX8_whyNoWay_26 (by decide) (fun c26 => ?_) (fun c26 => ?_)
            · try (exfalso; first | (simp (disch := omega) [inS_ix, inS_N, ixL_N, ix_nI, hx, hy, hg] at c26 <;> omega) | (simp (disch := omega) only [h0, h1, h3, Int32.le_iff_toInt_le, Int32.lt_iff_toInt_lt, ← Int32.toInt_inj, nI_toInt, Int32.toInt_zero, m1_toInt, Int64.le_iff_toInt_le, Int64.lt_iff_toInt_lt, ← Int64.toInt_inj, pk_lT, i64_toInt, Int64.toInt_zero, eq_self, not_true_eq_false, not_false_eq_true] at c5 c14 c26 <;> omega) | omega)
              all_goals
                skip
                refine x_iconst (v := nI 0) rfl dX8_whyNoWay_34 ?_
                refine x_iret hr rfl dX8_whyNoWay_35 (by omega) (by omega) (hQ _ _ ?_)
                try dsimp only [mI, mSA] at c5 c14 c26
                exact ⟨by simp [whyW, hx, hy, hg], rfl⟩
            · try (exfalso; first | (simp (disch := omega) [inS_ix, inS_N, ixL_N, ix_nI, hx, hy, hg] at c26 <;> omega) | (simp (disch := omega) only [h0, h1, h3, Int32.le_iff_toInt_le, Int32.lt_iff_toInt_lt, ← Int32.toInt_inj, nI_toInt, Int32.toInt_zero, m1_toInt, Int64.le_iff_toInt_le, Int64.lt_iff_toInt_lt, ← Int64.toInt_inj, pk_lT, i64_toInt, Int64.toInt_zero, eq_self, not_true_eq_false, not_false_eq_true] at c5 c14 c26 <;> omega) | omega)
              all_goals
                skip
                refine x_bipush (v := nI 9) rfl dX8_whyNoWay_29 ?_
                refine x_goto (tgt := 35) dX8_whyNoWay_31 (by decide) ?_
                refine x_iret hr rfl dX8_whyNoWay_35 (by omega) (by omega) (hQ _ _ ?_)
                try dsimp only [mI, mSA] at c5 c14 c26
                exact ⟨by simp [whyW, hx, hy, hg], rfl⟩
        · try (exfalso; first | (simp (disch := omega) [inS_ix, inS_N, ixL_N, ix_nI, hx, hy, hg] at c14 <;> omega) | (simp (disch := omega) only [h0, h1, h3, Int32.le_iff_toInt_le, Int32.lt_iff_toInt_lt, ← Int32.toInt_inj, nI_toInt, Int32.toInt_zero, m1_toInt, Int64.le_iff_toInt_le, Int64.lt_iff_toInt_lt, ← Int64.toInt_inj, pk_lT, i64_toInt, Int64.toInt_zero, eq_self, not_true_eq_false, not_false_eq_true] at c5 c14 <;> omega) | omega)
          all_goals
            skip
            refine x_iconst (v := nI 2) rfl dX8_whyNoWay_17 ?_
            refine x_goto (tgt := 35) dX8_whyNoWay_18 (by decide) ?_
            refine x_iret hr rfl dX8_whyNoWay_35 (by omega) (by omega) (hQ _ _ ?_)
            try dsimp only [mI, mSA] at c5 c14
            exact ⟨by simp [whyW, hx, hy, hg], rfl⟩
  · have hg := goB_0 e (show p < 2 ^ 31 by omega)
    refine CT.of (ini := false) (by decide +kernel) q2030 q164 (Nat.le_of_ble_eq_true rfl) (by decide) ?_
    intro Γ hw ho hL hr hh hini hal hd hmc hms hQ
    subst hw
    show AW Γ cX8_whyNoWay 0 0 0 [some (.ref 32), some (.int (nI t)), some (.int (nI j))] [] (hM M R)
    have h0 := hF.c0
    have h1 := hF.c1
    have h3 := hF.c3
    have l0 := hF.l0
    have l1 := hF.l1
    have l3 := hF.l3
    refine x_aload_n dX8_whyNoWay_0 rfl ?_
    refine x_iload_n dX8_whyNoWay_1 rfl ?_
    refine x_callV1 lk_X8_344 (m_isTinAt hF _) ho dX8_whyNoWay_2 rfl (Nat.le_of_ble_eq_true rfl) (by omega) (by decide) (by omega) (by omega) ?_
    refine x_ifb_eq (tgt := 17) dX8_whyNoWay_5 (by decide) (fun c5 => ?_) (fun c5 => ?_)
    · try (exfalso; first | (simp (disch := omega) [inS_ix, inS_N, ixL_N, ix_nI, hx, hy, hg] at c5 <;> omega) | (simp (disch := omega) only [h0, h1, h3, Int32.le_iff_toInt_le, Int32.lt_iff_toInt_lt, ← Int32.toInt_inj, nI_toInt, Int32.toInt_zero, m1_toInt, Int64.le_iff_toInt_le, Int64.lt_iff_toInt_lt, ← Int64.toInt_inj, pk_lT, i64_toInt, Int64.toInt_zero, eq_self, not_true_eq_false, not_false_eq_true] at c5 <;> omega) | omega)
      all_goals
        skip
        refine x_iconst (v := nI 2) rfl dX8_whyNoWay_17 ?_
        refine x_goto (tgt := 35) dX8_whyNoWay_18 (by decide) ?_
        refine x_iret hr rfl dX8_whyNoWay_35 (by omega) (by omega) (hQ _ _ ?_)
        try dsimp only [mI, mSA] at c5
        exact ⟨by simp [whyW, hx, hy, hg], rfl⟩
    · try (exfalso; first | (simp (disch := omega) [inS_ix, inS_N, ixL_N, ix_nI, hx, hy, hg] at c5 <;> omega) | (simp (disch := omega) only [h0, h1, h3, Int32.le_iff_toInt_le, Int32.lt_iff_toInt_lt, ← Int32.toInt_inj, nI_toInt, Int32.toInt_zero, m1_toInt, Int64.le_iff_toInt_le, Int64.lt_iff_toInt_lt, ← Int64.toInt_inj, pk_lT, i64_toInt, Int64.toInt_zero, eq_self, not_true_eq_false, not_false_eq_true] at c5 <;> omega) | omega)
      all_goals
        skip
        refine x_aload_n dX8_whyNoWay_8 rfl ?_
        refine x_iload_n dX8_whyNoWay_9 rfl ?_
        refine x_i2lN (by omega) dX8_whyNoWay_10 ?_
        refine x_callV1 lk_X8_336 (m_isPersonAt hF _) ho dX8_whyNoWay_11 rfl (Nat.le_of_ble_eq_true rfl) (by omega) (by decide) (by omega) (by omega) ?_
        refine x_ifb_ne (tgt := 21) dX8_whyNoWay_14 (by decide) (fun c14 => ?_) (fun c14 => ?_)
        · try (exfalso; first | (simp (disch := omega) [inS_ix, inS_N, ixL_N, ix_nI, hx, hy, hg] at c14 <;> omega) | (simp (disch := omega) only [h0, h1, h3, Int32.le_iff_toInt_le, Int32.lt_iff_toInt_lt, ← Int32.toInt_inj, nI_toInt, Int32.toInt_zero, m1_toInt, Int64.le_iff_toInt_le, Int64.lt_iff_toInt_lt, ← Int64.toInt_inj, pk_lT, i64_toInt, Int64.toInt_zero, eq_self, not_true_eq_false, not_false_eq_true] at c5 c14 <;> omega) | omega)
          all_goals
            skip
            refine x_aload_n dX8_whyNoWay_21 rfl ?_
            refine x_iload_n dX8_whyNoWay_22 rfl ?_
            refine x_callV1 lk_X8_310 (m_isGone hF _ (by omega)) ho dX8_whyNoWay_23 rfl (Nat.le_of_ble_eq_true rfl) (by omega) (by decide) (by omega) (by omega) ?_
            refine x_ifb_eq (tgt := 34) dX8_whyNoWay_26 (by decide) (fun c26 => ?_) (fun c26 => ?_)
            · try (exfalso; first | (simp (disch := omega) [inS_ix, inS_N, ixL_N, ix_nI, hx, hy, hg] at c26 <;> omega) | (simp (disch := omega) only [h0, h1, h3, Int32.le_iff_toInt_le, Int32.lt_iff_toInt_lt, ← Int32.toInt_inj, nI_toInt, Int32.toInt_zero, m1_toInt, Int64.le_iff_toInt_le, Int64.lt_iff_toInt_lt, ← Int64.toInt_inj, pk_lT, i64_toInt, Int64.toInt_zero, eq_self, not_true_eq_false, not_false_eq_true] at c5 c14 c26 <;> omega) | omega)
              all_goals
                skip
                refine x_iconst (v := nI 0) rfl dX8_whyNoWay_34 ?_
                refine x_iret hr rfl dX8_whyNoWay_35 (by omega) (by omega) (hQ _ _ ?_)
                try dsimp only [mI, mSA] at c5 c14 c26
                exact ⟨by simp [whyW, hx, hy, hg], rfl⟩
            · try (exfalso; first | (simp (disch := omega) [inS_ix, inS_N, ixL_N, ix_nI, hx, hy, hg] at c26 <;> omega) | (simp (disch := omega) only [h0, h1, h3, Int32.le_iff_toInt_le, Int32.lt_iff_toInt_lt, ← Int32.toInt_inj, nI_toInt, Int32.toInt_zero, m1_toInt, Int64.le_iff_toInt_le, Int64.lt_iff_toInt_lt, ← Int64.toInt_inj, pk_lT, i64_toInt, Int64.toInt_zero, eq_self, not_true_eq_false, not_false_eq_true] at c5 c14 c26 <;> omega) | omega)
              all_goals
                skip
                refine x_bipush (v := nI 9) rfl dX8_whyNoWay_29 ?_
                refine x_goto (tgt := 35) dX8_whyNoWay_31 (by decide) ?_
                refine x_iret hr rfl dX8_whyNoWay_35 (by omega) (by omega) (hQ _ _ ?_)
                try dsimp only [mI, mSA] at c5 c14 c26
                exact ⟨by simp [whyW, hx, hy, hg], rfl⟩
        · try (exfalso; first | (simp (disch := omega) [inS_ix, inS_N, ixL_N, ix_nI, hx, hy, hg] at c14 <;> omega) | (simp (disch := omega) only [h0, h1, h3, Int32.le_iff_toInt_le, Int32.lt_iff_toInt_lt, ← Int32.toInt_inj, nI_toInt, Int32.toInt_zero, m1_toInt, Int64.le_iff_toInt_le, Int64.lt_iff_toInt_lt, ← Int64.toInt_inj, pk_lT, i64_toInt, Int64.toInt_zero, eq_self, not_true_eq_false, not_false_eq_true] at c5 c14 <;> omega) | omega)
          all_goals
            skip
            refine x_iconst (v := nI 2) rfl dX8_whyNoWay_17 ?_
            refine x_goto (tgt := 35) dX8_whyNoWay_18 (by decide) ?_
            refine x_iret hr rfl dX8_whyNoWay_35 (by omega) (by omega) (hQ _ _ ?_)
            try dsimp only [mI, mSA] at c5 c14
            exact ⟨by simp [whyW, hx, hy, hg], rfl⟩
  · skip
    refine CT.of (ini := false) (by decide +kernel) q2030 q164 (Nat.le_of_ble_eq_true rfl) (by decide) ?_
    intro Γ hw ho hL hr hh hini hal hd hmc hms hQ
    subst hw
    show AW Γ cX8_whyNoWay 0 0 0 [some (.ref 32), some (.int t9), some (.int q9)] [] (hM M R)
    have h0 := hF.c0
    have h1 := hF.c1
    have h3 := hF.c3
    have l0 := hF.l0
    have l1 := hF.l1
    have l3 := hF.l3
    refine x_aload_n dX8_whyNoWay_0 rfl ?_
    refine x_iload_n dX8_whyNoWay_1 rfl ?_
    refine x_callV1 lk_X8_344 (m_isTinAt hF _) ho dX8_whyNoWay_2 rfl (Nat.le_of_ble_eq_true rfl) (by omega) (by decide) (by omega) (by omega) ?_
    refine x_ifb_eq (tgt := 17) dX8_whyNoWay_5 (by decide) (fun c5 => ?_) (fun c5 => ?_)
    · try (exfalso; first | (simp (disch := omega) [inS_ix, inS_N, ixL_N, ix_nI, hx, ixL_i] at c5 <;> omega) | (simp (disch := omega) only [h0, h1, h3, Int32.le_iff_toInt_le, Int32.lt_iff_toInt_lt, ← Int32.toInt_inj, nI_toInt, Int32.toInt_zero, m1_toInt, Int64.le_iff_toInt_le, Int64.lt_iff_toInt_lt, ← Int64.toInt_inj, pk_lT, i64_toInt, Int64.toInt_zero, eq_self, not_true_eq_false, not_false_eq_true] at c5 <;> omega) | omega)
      all_goals
        skip
        refine x_iconst (v := nI 2) rfl dX8_whyNoWay_17 ?_
        refine x_goto (tgt := 35) dX8_whyNoWay_18 (by decide) ?_
        refine x_iret hr rfl dX8_whyNoWay_35 (by omega) (by omega) (hQ _ _ ?_)
        try dsimp only [mI, mSA] at c5
        exact ⟨by first | (simp [whyW, hx]; done) | (simp [whyW, hx, hy]; done), rfl⟩
    · try (exfalso; first | (simp (disch := omega) [inS_ix, inS_N, ixL_N, ix_nI, hx, ixL_i] at c5 <;> omega) | (simp (disch := omega) only [h0, h1, h3, Int32.le_iff_toInt_le, Int32.lt_iff_toInt_lt, ← Int32.toInt_inj, nI_toInt, Int32.toInt_zero, m1_toInt, Int64.le_iff_toInt_le, Int64.lt_iff_toInt_lt, ← Int64.toInt_inj, pk_lT, i64_toInt, Int64.toInt_zero, eq_self, not_true_eq_false, not_false_eq_true] at c5 <;> omega) | omega)
      all_goals
        skip
        refine x_aload_n dX8_whyNoWay_8 rfl ?_
        refine x_iload_n dX8_whyNoWay_9 rfl ?_
        refine x_i2l dX8_whyNoWay_10 ?_
        refine x_callV1 lk_X8_336 (m_isPersonAt hF _) ho dX8_whyNoWay_11 rfl (Nat.le_of_ble_eq_true rfl) (by omega) (by decide) (by omega) (by omega) ?_
        refine x_ifb_ne (tgt := 21) dX8_whyNoWay_14 (by decide) (fun c14 => ?_) (fun c14 => ?_)
        · try (exfalso; first | (simp (disch := omega) [inS_ix, inS_N, ixL_N, ix_nI, hx, ixL_i] at c14 <;> omega) | (simp (disch := omega) only [h0, h1, h3, Int32.le_iff_toInt_le, Int32.lt_iff_toInt_lt, ← Int32.toInt_inj, nI_toInt, Int32.toInt_zero, m1_toInt, Int64.le_iff_toInt_le, Int64.lt_iff_toInt_lt, ← Int64.toInt_inj, pk_lT, i64_toInt, Int64.toInt_zero, eq_self, not_true_eq_false, not_false_eq_true] at c5 c14 <;> omega) | omega)
          all_goals
            skip
            refine x_aload_n dX8_whyNoWay_21 rfl ?_
            refine x_iload_n dX8_whyNoWay_22 rfl ?_
            refine x_callV1 lk_X8_310 (m_isGone hF _ (by omega)) ho dX8_whyNoWay_23 rfl (Nat.le_of_ble_eq_true rfl) (by omega) (by decide) (by omega) (by omega) ?_
            refine x_ifb_eq (tgt := 34) dX8_whyNoWay_26 (by decide) (fun c26 => ?_) (fun c26 => ?_)
            · try (exfalso; first | (simp (disch := omega) [inS_ix, inS_N, ixL_N, ix_nI, hx, ixL_i] at c26 <;> omega) | (simp (disch := omega) only [h0, h1, h3, Int32.le_iff_toInt_le, Int32.lt_iff_toInt_lt, ← Int32.toInt_inj, nI_toInt, Int32.toInt_zero, m1_toInt, Int64.le_iff_toInt_le, Int64.lt_iff_toInt_lt, ← Int64.toInt_inj, pk_lT, i64_toInt, Int64.toInt_zero, eq_self, not_true_eq_false, not_false_eq_true] at c5 c14 c26 <;> omega) | omega)
              all_goals
                skip
                refine x_iconst (v := nI 0) rfl dX8_whyNoWay_34 ?_
                refine x_iret hr rfl dX8_whyNoWay_35 (by omega) (by omega) (hQ _ _ ?_)
                try dsimp only [mI, mSA] at c5 c14 c26
                exact ⟨by first | (simp [whyW, hx]; done) | (simp [whyW, hx, hy]; done), rfl⟩
            · try (exfalso; first | (simp (disch := omega) [inS_ix, inS_N, ixL_N, ix_nI, hx, ixL_i] at c26 <;> omega) | (simp (disch := omega) only [h0, h1, h3, Int32.le_iff_toInt_le, Int32.lt_iff_toInt_lt, ← Int32.toInt_inj, nI_toInt, Int32.toInt_zero, m1_toInt, Int64.le_iff_toInt_le, Int64.lt_iff_toInt_lt, ← Int64.toInt_inj, pk_lT, i64_toInt, Int64.toInt_zero, eq_self, not_true_eq_false, not_false_eq_true] at c5 c14 c26 <;> omega) | omega)
              all_goals
                skip
                refine x_bipush (v := nI 9) rfl dX8_whyNoWay_29 ?_
                refine x_goto (tgt := 35) dX8_whyNoWay_31 (by decide) ?_
                refine x_iret hr rfl dX8_whyNoWay_35 (by omega) (by omega) (hQ _ _ ?_)
                try dsimp only [mI, mSA] at c5 c14 c26
                exact ⟨by first | (simp [whyW, hx]; done) | (simp [whyW, hx, hy]; done), rfl⟩
        · try (exfalso; first | (simp (disch := omega) [inS_ix, inS_N, ixL_N, ix_nI, hx, ixL_i] at c14 <;> omega) | (simp (disch := omega) only [h0, h1, h3, Int32.le_iff_toInt_le, Int32.lt_iff_toInt_lt, ← Int32.toInt_inj, nI_toInt, Int32.toInt_zero, m1_toInt, Int64.le_iff_toInt_le, Int64.lt_iff_toInt_lt, ← Int64.toInt_inj, pk_lT, i64_toInt, Int64.toInt_zero, eq_self, not_true_eq_false, not_false_eq_true] at c5 c14 <;> omega) | omega)
          all_goals
            skip
            refine x_iconst (v := nI 2) rfl dX8_whyNoWay_17 ?_
            refine x_goto (tgt := 35) dX8_whyNoWay_18 (by decide) ?_
            refine x_iret hr rfl dX8_whyNoWay_35 (by omega) (by omega) (hQ _ _ ?_)
            try dsimp only [mI, mSA] at c5 c14
            exact ⟨by first | (simp [whyW, hx]; done) | (simp [whyW, hx, hy]; done), rfl⟩
  · skip
    refine CT.of (ini := false) (by decide +kernel) q2030 q164 (Nat.le_of_ble_eq_true rfl) (by decide) ?_
    intro Γ hw ho hL hr hh hini hal hd hmc hms hQ
    subst hw
    show AW Γ cX8_whyNoWay 0 0 0 [some (.ref 32), some (.int (nI t)), some (.int q9)] [] (hM M R)
    have h0 := hF.c0
    have h1 := hF.c1
    have h3 := hF.c3
    have l0 := hF.l0
    have l1 := hF.l1
    have l3 := hF.l3
    refine x_aload_n dX8_whyNoWay_0 rfl ?_
    refine x_iload_n dX8_whyNoWay_1 rfl ?_
    refine x_callV1 lk_X8_344 (m_isTinAt hF _) ho dX8_whyNoWay_2 rfl (Nat.le_of_ble_eq_true rfl) (by omega) (by decide) (by omega) (by omega) ?_
    refine x_ifb_eq (tgt := 17) dX8_whyNoWay_5 (by decide) (fun c5 => ?_) (fun c5 => ?_)
    · try (exfalso; first | (simp (disch := omega) [inS_ix, inS_N, ixL_N, ix_nI, hx, hy, ixL_i] at c5 <;> omega) | (simp (disch := omega) only [h0, h1, h3, Int32.le_iff_toInt_le, Int32.lt_iff_toInt_lt, ← Int32.toInt_inj, nI_toInt, Int32.toInt_zero, m1_toInt, Int64.le_iff_toInt_le, Int64.lt_iff_toInt_lt, ← Int64.toInt_inj, pk_lT, i64_toInt, Int64.toInt_zero, eq_self, not_true_eq_false, not_false_eq_true] at c5 <;> omega) | omega)
      all_goals
        skip
        refine x_iconst (v := nI 2) rfl dX8_whyNoWay_17 ?_
        refine x_goto (tgt := 35) dX8_whyNoWay_18 (by decide) ?_
        refine x_iret hr rfl dX8_whyNoWay_35 (by omega) (by omega) (hQ _ _ ?_)
        try dsimp only [mI, mSA] at c5
        exact ⟨by first | (simp [whyW, hx]; done) | (simp [whyW, hx, hy]; done), rfl⟩
    · try (exfalso; first | (simp (disch := omega) [inS_ix, inS_N, ixL_N, ix_nI, hx, hy, ixL_i] at c5 <;> omega) | (simp (disch := omega) only [h0, h1, h3, Int32.le_iff_toInt_le, Int32.lt_iff_toInt_lt, ← Int32.toInt_inj, nI_toInt, Int32.toInt_zero, m1_toInt, Int64.le_iff_toInt_le, Int64.lt_iff_toInt_lt, ← Int64.toInt_inj, pk_lT, i64_toInt, Int64.toInt_zero, eq_self, not_true_eq_false, not_false_eq_true] at c5 <;> omega) | omega)
      all_goals
        skip
        refine x_aload_n dX8_whyNoWay_8 rfl ?_
        refine x_iload_n dX8_whyNoWay_9 rfl ?_
        refine x_i2l dX8_whyNoWay_10 ?_
        refine x_callV1 lk_X8_336 (m_isPersonAt hF _) ho dX8_whyNoWay_11 rfl (Nat.le_of_ble_eq_true rfl) (by omega) (by decide) (by omega) (by omega) ?_
        refine x_ifb_ne (tgt := 21) dX8_whyNoWay_14 (by decide) (fun c14 => ?_) (fun c14 => ?_)
        · try (exfalso; first | (simp (disch := omega) [inS_ix, inS_N, ixL_N, ix_nI, hx, hy, ixL_i] at c14 <;> omega) | (simp (disch := omega) only [h0, h1, h3, Int32.le_iff_toInt_le, Int32.lt_iff_toInt_lt, ← Int32.toInt_inj, nI_toInt, Int32.toInt_zero, m1_toInt, Int64.le_iff_toInt_le, Int64.lt_iff_toInt_lt, ← Int64.toInt_inj, pk_lT, i64_toInt, Int64.toInt_zero, eq_self, not_true_eq_false, not_false_eq_true] at c5 c14 <;> omega) | omega)
          all_goals
            skip
            refine x_aload_n dX8_whyNoWay_21 rfl ?_
            refine x_iload_n dX8_whyNoWay_22 rfl ?_
            refine x_callV1 lk_X8_310 (m_isGone hF _ (by omega)) ho dX8_whyNoWay_23 rfl (Nat.le_of_ble_eq_true rfl) (by omega) (by decide) (by omega) (by omega) ?_
            refine x_ifb_eq (tgt := 34) dX8_whyNoWay_26 (by decide) (fun c26 => ?_) (fun c26 => ?_)
            · try (exfalso; first | (simp (disch := omega) [inS_ix, inS_N, ixL_N, ix_nI, hx, hy, ixL_i] at c26 <;> omega) | (simp (disch := omega) only [h0, h1, h3, Int32.le_iff_toInt_le, Int32.lt_iff_toInt_lt, ← Int32.toInt_inj, nI_toInt, Int32.toInt_zero, m1_toInt, Int64.le_iff_toInt_le, Int64.lt_iff_toInt_lt, ← Int64.toInt_inj, pk_lT, i64_toInt, Int64.toInt_zero, eq_self, not_true_eq_false, not_false_eq_true] at c5 c14 c26 <;> omega) | omega)
              all_goals
                skip
                refine x_iconst (v := nI 0) rfl dX8_whyNoWay_34 ?_
                refine x_iret hr rfl dX8_whyNoWay_35 (by omega) (by omega) (hQ _ _ ?_)
                try dsimp only [mI, mSA] at c5 c14 c26
                exact ⟨by first | (simp [whyW, hx]; done) | (simp [whyW, hx, hy]; done), rfl⟩
            · try (exfalso; first | (simp (disch := omega) [inS_ix, inS_N, ixL_N, ix_nI, hx, hy, ixL_i] at c26 <;> omega) | (simp (disch := omega) only [h0, h1, h3, Int32.le_iff_toInt_le, Int32.lt_iff_toInt_lt, ← Int32.toInt_inj, nI_toInt, Int32.toInt_zero, m1_toInt, Int64.le_iff_toInt_le, Int64.lt_iff_toInt_lt, ← Int64.toInt_inj, pk_lT, i64_toInt, Int64.toInt_zero, eq_self, not_true_eq_false, not_false_eq_true] at c5 c14 c26 <;> omega) | omega)
              all_goals
                skip
                refine x_bipush (v := nI 9) rfl dX8_whyNoWay_29 ?_
                refine x_goto (tgt := 35) dX8_whyNoWay_31 (by decide) ?_
                refine x_iret hr rfl dX8_whyNoWay_35 (by omega) (by omega) (hQ _ _ ?_)
                try dsimp only [mI, mSA] at c5 c14 c26
                exact ⟨by first | (simp [whyW, hx]; done) | (simp [whyW, hx, hy]; done), rfl⟩
        · try (exfalso; first | (simp (disch := omega) [inS_ix, inS_N, ixL_N, ix_nI, hx, hy, ixL_i] at c14 <;> omega) | (simp (disch := omega) only [h0, h1, h3, Int32.le_iff_toInt_le, Int32.lt_iff_toInt_lt, ← Int32.toInt_inj, nI_toInt, Int32.toInt_zero, m1_toInt, Int64.le_iff_toInt_le, Int64.lt_iff_toInt_lt, ← Int64.toInt_inj, pk_lT, i64_toInt, Int64.toInt_zero, eq_self, not_true_eq_false, not_false_eq_true] at c5 c14 <;> omega) | omega)
          all_goals
            skip
            refine x_iconst (v := nI 2) rfl dX8_whyNoWay_17 ?_
            refine x_goto (tgt := 35) dX8_whyNoWay_18 (by decide) ?_
            refine x_iret hr rfl dX8_whyNoWay_35 (by omega) (by omega) (hQ _ _ ?_)
            try dsimp only [mI, mSA] at c5 c14
            exact ⟨by first | (simp [whyW, hx]; done) | (simp [whyW, hx, hy]; done), rfl⟩
set_option maxHeartbeats 800000 in
theorem m_next {w : xW} {M : mS} {R : xH} {tm pm tn G : Nat} (hF : wF (M.2.2.1 5) tm pm tn G) (t9 : Int32) : CT w yX8_next cX8_next 2 (some (.int)) [] false (3) 0 0 [.ref 32, .int t9] (hM M R) (xret (some (.int (spNext (M.2.2.1 5) pm tn t9).1)) (hM (mI (mI M 1 (nI 0)) 0 (nI (spNext (M.2.2.1 5) pm tn t9).2)) R)) := by
  have l0 := hF.l0
  have l1 := hF.l1
  have l3 := hF.l3
  rcases ix_or t9 (n := tn) (by omega) with ⟨hx, hx2⟩ | ⟨t, ht, rfl, hx⟩
  rotate_left 1
  rcases hF.on ht with e | ⟨p, hp, e⟩
  · have hg := goB_1 e
    refine CT.of (ini := false) (by decide +kernel) q2050 q164 (Nat.le_of_ble_eq_true rfl) (by decide) ?_
    intro Γ hw ho hL hr hh hini hal hd hmc hms hQ
    subst hw
    show AW Γ cX8_next 0 0 0 [some (.ref 32), some (.int (nI t))] [] (hM M R)
    have h0 := hF.c0
    have h1 := hF.c1
    have h3 := hF.c3
    have l0 := hF.l0
    have l1 := hF.l1
    have l3 := hF.l3
    refine x_aload_n dX8_next_0 rfl ?_
    refine x_iconst (v := nI 0) rfl dX8_next_1 ?_
    refine m_puti (k := 1) (pf_X8_70 (ini := false)) ho hini dX8_next_2 rfl rfl (by decide) (ms_1 _ _) ?_
    refine x_aload_n dX8_next_5 rfl ?_
    refine x_aload_n dX8_next_6 rfl ?_
    refine x_iload_n dX8_next_7 rfl ?_
    refine x_callV1 lk_X8_380 (m_whyNoTin (M := (mI M 1 (nI 0))) hF _) ho dX8_next_8 rfl (Nat.le_of_ble_eq_true rfl) (by omega) (by decide) (by omega) (by omega) ?_
    refine x_ival (y := nI 9) (by simp [whyT, hx, hg]) ?_
    refine m_puti (k := 0) (pf_X8_73 (ini := false)) ho hini dX8_next_11 rfl rfl (by decide) (ms_0 _ _) ?_
    refine x_aload_n dX8_next_14 rfl ?_
    refine x_getf gf_X8_73 ho dX8_next_15 rfl rfl ?_
    refine x_ival (y := nI 9) rfl ?_
    refine x_if_le (tgt := 25) dX8_next_18 (by decide) (fun c18 => ?_) (fun c18 => ?_)
    · try (exfalso; first | (simp (disch := omega) [inS_ix, inS_N, ixL_N, ix_nI, hx, hg] at c18 <;> omega) | (simp (disch := omega) only [h0, h1, h3, Int32.le_iff_toInt_le, Int32.lt_iff_toInt_lt, ← Int32.toInt_inj, nI_toInt, Int32.toInt_zero, m1_toInt, Int64.le_iff_toInt_le, Int64.lt_iff_toInt_lt, ← Int64.toInt_inj, pk_lT, i64_toInt, Int64.toInt_zero, eq_self, not_true_eq_false, not_false_eq_true] at c18 <;> omega) | omega)
      all_goals
        skip
        omega
    · try (exfalso; first | (simp (disch := omega) [inS_ix, inS_N, ixL_N, ix_nI, hx, hg] at c18 <;> omega) | (simp (disch := omega) only [h0, h1, h3, Int32.le_iff_toInt_le, Int32.lt_iff_toInt_lt, ← Int32.toInt_inj, nI_toInt, Int32.toInt_zero, m1_toInt, Int64.le_iff_toInt_le, Int64.lt_iff_toInt_lt, ← Int64.toInt_inj, pk_lT, i64_toInt, Int64.toInt_zero, eq_self, not_true_eq_false, not_false_eq_true] at c18 <;> omega) | omega)
      all_goals
        skip
        refine x_iconst (v := (-1)) rfl dX8_next_21 ?_
        refine x_goto (tgt := 39) dX8_next_22 (by decide) ?_
        refine x_iret hr rfl dX8_next_39 (by omega) (by omega) (hQ _ _ ?_)
        try dsimp only [mI, mSA] at c18
        exact ⟨by simp [spNext, hx, hg], by simp [spNext, hx, hg]⟩
  · have hg := goB_0 e (show p < 2 ^ 31 by omega)
    refine CT.of (ini := false) (by decide +kernel) q2050 q164 (Nat.le_of_ble_eq_true rfl) (by decide) ?_
    intro Γ hw ho hL hr hh hini hal hd hmc hms hQ
    subst hw
    show AW Γ cX8_next 0 0 0 [some (.ref 32), some (.int (nI t))] [] (hM M R)
    have h0 := hF.c0
    have h1 := hF.c1
    have h3 := hF.c3
    have l0 := hF.l0
    have l1 := hF.l1
    have l3 := hF.l3
    refine x_aload_n dX8_next_0 rfl ?_
    refine x_iconst (v := nI 0) rfl dX8_next_1 ?_
    refine m_puti (k := 1) (pf_X8_70 (ini := false)) ho hini dX8_next_2 rfl rfl (by decide) (ms_1 _ _) ?_
    refine x_aload_n dX8_next_5 rfl ?_
    refine x_aload_n dX8_next_6 rfl ?_
    refine x_iload_n dX8_next_7 rfl ?_
    refine x_callV1 lk_X8_380 (m_whyNoTin (M := (mI M 1 (nI 0))) hF _) ho dX8_next_8 rfl (Nat.le_of_ble_eq_true rfl) (by omega) (by decide) (by omega) (by omega) ?_
    refine x_ival (y := nI 0) (by simp [whyT, hx, hg]) ?_
    refine m_puti (k := 0) (pf_X8_73 (ini := false)) ho hini dX8_next_11 rfl rfl (by decide) (ms_0 _ _) ?_
    refine x_aload_n dX8_next_14 rfl ?_
    refine x_getf gf_X8_73 ho dX8_next_15 rfl rfl ?_
    refine x_ival (y := nI 0) rfl ?_
    refine x_if_le (tgt := 25) dX8_next_18 (by decide) (fun c18 => ?_) (fun c18 => ?_)
    · try (exfalso; first | (simp (disch := omega) [inS_ix, inS_N, ixL_N, ix_nI, hx, hg] at c18 <;> omega) | (simp (disch := omega) only [h0, h1, h3, Int32.le_iff_toInt_le, Int32.lt_iff_toInt_lt, ← Int32.toInt_inj, nI_toInt, Int32.toInt_zero, m1_toInt, Int64.le_iff_toInt_le, Int64.lt_iff_toInt_lt, ← Int64.toInt_inj, pk_lT, i64_toInt, Int64.toInt_zero, eq_self, not_true_eq_false, not_false_eq_true] at c18 <;> omega) | omega)
      all_goals
        skip
        refine x_aload_n dX8_next_25 rfl ?_
        refine x_iload_n dX8_next_26 rfl ?_
        refine x_aload_n dX8_next_27 rfl ?_
        refine x_getf gf_X8_35 ho dX8_next_28 rfl rfl ?_
        refine x_bipush (v := nI 42) rfl dX8_next_31 ?_
        refine x_iload_n dX8_next_33 rfl ?_
        refine x_iaddN dX8_next_34 ?_
        refine x_iald dX8_next_35 rfl (by first | rfl | exact nI_add _ _ | (simp only [nI_add, pk_mul]; rfl)) (by omega) (by decide) ?_
        refine x_ival e ?_
        refine x_callV2 lk_X8_357 (m_nextOf (M := (mI (mI M 1 (nI 0)) 0 (nI 0))) hF _ _ (by omega) (by omega)) ho dX8_next_36 rfl (Nat.le_of_ble_eq_true rfl) (by omega) (by decide) (by omega) (by omega) ?_
        refine x_iret hr rfl dX8_next_39 (by omega) (by omega) (hQ _ _ ?_)
        try dsimp only [mI, mSA] at c18
        exact ⟨by simp (disch := omega) [spNext, hx, hg, e, cl_nI], by simp [spNext, hx, hg]⟩
    · try (exfalso; first | (simp (disch := omega) [inS_ix, inS_N, ixL_N, ix_nI, hx, hg] at c18 <;> omega) | (simp (disch := omega) only [h0, h1, h3, Int32.le_iff_toInt_le, Int32.lt_iff_toInt_lt, ← Int32.toInt_inj, nI_toInt, Int32.toInt_zero, m1_toInt, Int64.le_iff_toInt_le, Int64.lt_iff_toInt_lt, ← Int64.toInt_inj, pk_lT, i64_toInt, Int64.toInt_zero, eq_self, not_true_eq_false, not_false_eq_true] at c18 <;> omega) | omega)
      all_goals
        skip
        refine x_iconst (v := (-1)) rfl dX8_next_21 ?_
        refine x_goto (tgt := 39) dX8_next_22 (by decide) ?_
        refine x_iret hr rfl dX8_next_39 (by omega) (by omega) (hQ _ _ ?_)
        try dsimp only [mI, mSA] at c18
        exact ⟨by simp (disch := omega) [spNext, hx, hg, e, cl_nI], by simp [spNext, hx, hg]⟩
  · skip
    refine CT.of (ini := false) (by decide +kernel) q2050 q164 (Nat.le_of_ble_eq_true rfl) (by decide) ?_
    intro Γ hw ho hL hr hh hini hal hd hmc hms hQ
    subst hw
    show AW Γ cX8_next 0 0 0 [some (.ref 32), some (.int t9)] [] (hM M R)
    have h0 := hF.c0
    have h1 := hF.c1
    have h3 := hF.c3
    have l0 := hF.l0
    have l1 := hF.l1
    have l3 := hF.l3
    refine x_aload_n dX8_next_0 rfl ?_
    refine x_iconst (v := nI 0) rfl dX8_next_1 ?_
    refine m_puti (k := 1) (pf_X8_70 (ini := false)) ho hini dX8_next_2 rfl rfl (by decide) (ms_1 _ _) ?_
    refine x_aload_n dX8_next_5 rfl ?_
    refine x_aload_n dX8_next_6 rfl ?_
    refine x_iload_n dX8_next_7 rfl ?_
    refine x_callV1 lk_X8_380 (m_whyNoTin (M := (mI M 1 (nI 0))) hF _) ho dX8_next_8 rfl (Nat.le_of_ble_eq_true rfl) (by omega) (by decide) (by omega) (by omega) ?_
    refine x_ival (y := nI 2) (by simp [whyT, hx]) ?_
    refine m_puti (k := 0) (pf_X8_73 (ini := false)) ho hini dX8_next_11 rfl rfl (by decide) (ms_0 _ _) ?_
    refine x_aload_n dX8_next_14 rfl ?_
    refine x_getf gf_X8_73 ho dX8_next_15 rfl rfl ?_
    refine x_ival (y := nI 2) rfl ?_
    refine x_if_le (tgt := 25) dX8_next_18 (by decide) (fun c18 => ?_) (fun c18 => ?_)
    · try (exfalso; first | (simp (disch := omega) [inS_ix, inS_N, ixL_N, ix_nI, hx] at c18 <;> omega) | (simp (disch := omega) only [h0, h1, h3, Int32.le_iff_toInt_le, Int32.lt_iff_toInt_lt, ← Int32.toInt_inj, nI_toInt, Int32.toInt_zero, m1_toInt, Int64.le_iff_toInt_le, Int64.lt_iff_toInt_lt, ← Int64.toInt_inj, pk_lT, i64_toInt, Int64.toInt_zero, eq_self, not_true_eq_false, not_false_eq_true] at c18 <;> omega) | omega)
      all_goals
        skip
        omega
    · try (exfalso; first | (simp (disch := omega) [inS_ix, inS_N, ixL_N, ix_nI, hx] at c18 <;> omega) | (simp (disch := omega) only [h0, h1, h3, Int32.le_iff_toInt_le, Int32.lt_iff_toInt_lt, ← Int32.toInt_inj, nI_toInt, Int32.toInt_zero, m1_toInt, Int64.le_iff_toInt_le, Int64.lt_iff_toInt_lt, ← Int64.toInt_inj, pk_lT, i64_toInt, Int64.toInt_zero, eq_self, not_true_eq_false, not_false_eq_true] at c18 <;> omega) | omega)
      all_goals
        skip
        refine x_iconst (v := (-1)) rfl dX8_next_21 ?_
        refine x_goto (tgt := 39) dX8_next_22 (by decide) ?_
        refine x_iret hr rfl dX8_next_39 (by omega) (by omega) (hQ _ _ ?_)
        try dsimp only [mI, mSA] at c18
        exact ⟨by simp [spNext, hx], by simp [spNext, hx]⟩
set_option maxHeartbeats 800000 in
theorem m_reach {w : xW} {M : mS} {R : xH} {tm pm tn G : Nat} (hF : wF (M.2.2.1 5) tm pm tn G) (t9 : Int32) : CT w yX8_reach cX8_reach 5 (some (.int)) [] false (3) 0 0 [.ref 32, .int t9] (hM M R) (xret (some (.int (spReach (M.2.2.1 5) pm tn t9).1)) (hM (mI (mI M 1 (nI 0)) 0 (nI (spReach (M.2.2.1 5) pm tn t9).2)) R)) := by
  have l0 := hF.l0
  have l1 := hF.l1
  have l3 := hF.l3
  rcases ix_or t9 (n := tn) (by omega) with ⟨hx, hx2⟩ | ⟨t, ht, rfl, hx⟩
  rotate_left 1
  rcases hF.on ht with e | ⟨p, hp, e⟩
  · have hg := goB_1 e
    refine CT.of (ini := false) (by decide +kernel) q2042 q164 (Nat.le_of_ble_eq_true rfl) (by decide) ?_
    intro Γ hw ho hL hr hh hini hal hd hmc hms hQ
    subst hw
    show AW Γ cX8_reach 0 0 0 [some (.ref 32), some (.int (nI t)), none, none, none] [] (hM M R)
    have h0 := hF.c0
    have h1 := hF.c1
    have h3 := hF.c3
    have l0 := hF.l0
    have l1 := hF.l1
    have l3 := hF.l3
    refine x_aload_n dX8_reach_0 rfl ?_
    refine x_iconst (v := nI 0) rfl dX8_reach_1 ?_
    refine m_puti (k := 1) (pf_X8_70 (ini := false)) ho hini dX8_reach_2 rfl rfl (by decide) (ms_1 _ _) ?_
    refine x_aload_n dX8_reach_5 rfl ?_
    refine x_aload_n dX8_reach_6 rfl ?_
    refine x_iload_n dX8_reach_7 rfl ?_
    refine x_callV1 lk_X8_380 (m_whyNoTin (M := (mI M 1 (nI 0))) hF _) ho dX8_reach_8 rfl (Nat.le_of_ble_eq_true rfl) (by omega) (by decide) (by omega) (by omega) ?_
    refine x_ival (y := nI 9) (by simp [whyT, hx, hg]) ?_
    refine m_puti (k := 0) (pf_X8_73 (ini := false)) ho hini dX8_reach_11 rfl rfl (by decide) (ms_0 _ _) ?_
    refine x_aload_n dX8_reach_14 rfl ?_
    refine x_getf gf_X8_73 ho dX8_reach_15 rfl rfl ?_
    refine x_ival (y := nI 9) rfl ?_
    refine x_if_le (tgt := 23) dX8_reach_18 (by decide) (fun c18 => ?_) (fun c18 => ?_)
    · try (exfalso; first | (simp (disch := omega) [inS_ix, inS_N, ixL_N, ix_nI, hx, hg] at c18 <;> omega) | (simp (disch := omega) only [h0, h1, h3, Int32.le_iff_toInt_le, Int32.lt_iff_toInt_lt, ← Int32.toInt_inj, nI_toInt, Int32.toInt_zero, m1_toInt, Int64.le_iff_toInt_le, Int64.lt_iff_toInt_lt, ← Int64.toInt_inj, pk_lT, i64_toInt, Int64.toInt_zero, eq_self, not_true_eq_false, not_false_eq_true] at c18 <;> omega) | omega)
      all_goals
        skip
        omega
    · try (exfalso; first | (simp (disch := omega) [inS_ix, inS_N, ixL_N, ix_nI, hx, hg] at c18 <;> omega) | (simp (disch := omega) only [h0, h1, h3, Int32.le_iff_toInt_le, Int32.lt_iff_toInt_lt, ← Int32.toInt_inj, nI_toInt, Int32.toInt_zero, m1_toInt, Int64.le_iff_toInt_le, Int64.lt_iff_toInt_lt, ← Int64.toInt_inj, pk_lT, i64_toInt, Int64.toInt_zero, eq_self, not_true_eq_false, not_false_eq_true] at c18 <;> omega) | omega)
      all_goals
        skip
        refine x_iconst (v := (-1)) rfl dX8_reach_21 ?_
        refine x_iret hr rfl dX8_reach_22 (by omega) (by omega) (hQ _ _ ?_)
        try dsimp only [mI, mSA] at c18
        exact ⟨by simp [spReach, hx, hg], by simp [spReach, hx, hg]⟩
  · have hg := goB_0 e (show p < 2 ^ 31 by omega)
    refine CT.of (ini := false) (by decide +kernel) q2042 q164 (Nat.le_of_ble_eq_true rfl) (by decide) ?_
    intro Γ hw ho hL hr hh hini hal hd hmc hms hQ
    subst hw
    show AW Γ cX8_reach 0 0 0 [some (.ref 32), some (.int (nI t)), none, none, none] [] (hM M R)
    have h0 := hF.c0
    have h1 := hF.c1
    have h3 := hF.c3
    have l0 := hF.l0
    have l1 := hF.l1
    have l3 := hF.l3
    refine x_aload_n dX8_reach_0 rfl ?_
    refine x_iconst (v := nI 0) rfl dX8_reach_1 ?_
    refine m_puti (k := 1) (pf_X8_70 (ini := false)) ho hini dX8_reach_2 rfl rfl (by decide) (ms_1 _ _) ?_
    refine x_aload_n dX8_reach_5 rfl ?_
    refine x_aload_n dX8_reach_6 rfl ?_
    refine x_iload_n dX8_reach_7 rfl ?_
    refine x_callV1 lk_X8_380 (m_whyNoTin (M := (mI M 1 (nI 0))) hF _) ho dX8_reach_8 rfl (Nat.le_of_ble_eq_true rfl) (by omega) (by decide) (by omega) (by omega) ?_
    refine x_ival (y := nI 0) (by simp [whyT, hx, hg]) ?_
    refine m_puti (k := 0) (pf_X8_73 (ini := false)) ho hini dX8_reach_11 rfl rfl (by decide) (ms_0 _ _) ?_
    refine x_aload_n dX8_reach_14 rfl ?_
    refine x_getf gf_X8_73 ho dX8_reach_15 rfl rfl ?_
    refine x_ival (y := nI 0) rfl ?_
    refine x_if_le (tgt := 23) dX8_reach_18 (by decide) (fun c18 => ?_) (fun c18 => ?_)
    · try (exfalso; first | (simp (disch := omega) [inS_ix, inS_N, ixL_N, ix_nI, hx, hg] at c18 <;> omega) | (simp (disch := omega) only [h0, h1, h3, Int32.le_iff_toInt_le, Int32.lt_iff_toInt_lt, ← Int32.toInt_inj, nI_toInt, Int32.toInt_zero, m1_toInt, Int64.le_iff_toInt_le, Int64.lt_iff_toInt_lt, ← Int64.toInt_inj, pk_lT, i64_toInt, Int64.toInt_zero, eq_self, not_true_eq_false, not_false_eq_true] at c18 <;> omega) | omega)
      all_goals
        skip
        refine x_iconst (v := nI 1) rfl dX8_reach_23 ?_
        refine x_aload_n dX8_reach_24 rfl ?_
        refine x_getf gf_X8_35 ho dX8_reach_25 rfl rfl ?_
        refine x_bipush (v := nI 42) rfl dX8_reach_28 ?_
        refine x_iload_n dX8_reach_30 rfl ?_
        refine x_iaddN dX8_reach_31 ?_
        refine x_iald dX8_reach_32 rfl (by first | rfl | exact nI_add _ _ | (simp only [nI_add, pk_mul]; rfl)) (by omega) (by decide) ?_
        refine x_ival e ?_
        refine x_ishl dX8_reach_33 ?_
        refine x_ist2 hL (by decide) rfl dX8_reach_34 ?_
        refine x_iconst (v := nI 0) rfl dX8_reach_35 ?_
        refine x_ist3 hL (by decide) rfl dX8_reach_36 ?_
        refine x_for (n := 7) (fun i => [some (.ref 32), some (.int (nI t)), some (.int (itN (fun _ s => itN (fun p s => s ||| (if hs s (nI p) then nxS (M.2.2.1 5) pm t p else nI 0)) pm s) i (bi p))), some (.int (nI i)), none]) (fun i => []) (fun i => hM (mI (mI M 1 (nI 0)) 0 (nI 0)) R) ?_ (fun i hi ihi => ?_)
        · skip
          refine x_iload_n dX8_reach_37 rfl ?_
          refine x_bipush (v := nI 7) rfl dX8_reach_38 ?_
          refine x_icmp_ge (tgt := 92) dX8_reach_40 (by decide) (fun c40 => ?_) (fun c40 => ?_)
          · skip
            refine x_iload_n dX8_reach_92 rfl ?_
            refine x_iret hr rfl dX8_reach_93 (by omega) (by omega) (hQ _ _ ?_)
            try dsimp only [mI, mSA] at c18 c40
            exact ⟨by simp (disch := omega) [spReach, hx, hg, e, cl_nI, reaS], by simp [spReach, hx, hg]⟩
          · exfalso; first | (simp (disch := omega) [inS_ix, inS_N, ixL_N, ix_nI, hx, hg] at c40 <;> omega) | (simp (disch := omega) only [h0, h1, h3, Int32.le_iff_toInt_le, Int32.lt_iff_toInt_lt, ← Int32.toInt_inj, nI_toInt, Int32.toInt_zero, m1_toInt, Int64.le_iff_toInt_le, Int64.lt_iff_toInt_lt, ← Int64.toInt_inj, pk_lT, i64_toInt, Int64.toInt_zero, eq_self, not_true_eq_false, not_false_eq_true] at c18 c40 <;> omega) | omega
        · skip
          refine x_iload_n dX8_reach_37 rfl ?_
          refine x_bipush (v := nI 7) rfl dX8_reach_38 ?_
          refine x_icmp_ge (tgt := 92) dX8_reach_40 (by decide) (fun c40 => ?_) (fun c40 => ?_)
          · exfalso; first | (simp (disch := omega) [inS_ix, inS_N, ixL_N, ix_nI, hx, hg] at c40 <;> omega) | (simp (disch := omega) only [h0, h1, h3, Int32.le_iff_toInt_le, Int32.lt_iff_toInt_lt, ← Int32.toInt_inj, nI_toInt, Int32.toInt_zero, m1_toInt, Int64.le_iff_toInt_le, Int64.lt_iff_toInt_lt, ← Int64.toInt_inj, pk_lT, i64_toInt, Int64.toInt_zero, eq_self, not_true_eq_false, not_false_eq_true] at c18 c40 <;> omega) | omega
          · skip
            refine x_iconst (v := nI 0) rfl dX8_reach_43 ?_
            refine x_ist4 hL (by decide) rfl dX8_reach_44 ?_
            refine x_for (n := pm) (fun j => [some (.ref 32), some (.int (nI t)), some (.int (itN (fun p s => s ||| (if hs s (nI p) then nxS (M.2.2.1 5) pm t p else nI 0)) j (itN (fun _ s => itN (fun p s => s ||| (if hs s (nI p) then nxS (M.2.2.1 5) pm t p else nI 0)) pm s) i (bi p)))), some (.int (nI i)), some (.int (nI j))]) (fun j => []) (fun j => hM (mI (mI M 1 (nI 0)) 0 (nI 0)) R) ?_ (fun j hj ihj => ?_)
            · skip
              refine x_iload dX8_reach_46 rfl ?_
              refine x_aload_n dX8_reach_48 rfl ?_
              refine x_getf gf_X8_35 ho dX8_reach_49 rfl rfl ?_
              refine x_iconst (v := nI 1) rfl dX8_reach_52 ?_
              refine x_iald dX8_reach_53 rfl (by first | rfl | exact nI_add _ _ | (simp only [nI_add, pk_mul]; rfl)) (by omega) (by decide) ?_
              refine x_icmp_ge (tgt := 86) dX8_reach_54 (by decide) (fun c54 => ?_) (fun c54 => ?_)
              · skip
                refine x_inc3 hL (by decide) rfl dX8_reach_86 (nI_1 _) ?_
                refine x_goto (tgt := 37) dX8_reach_89 (by decide) ?_
                refine x_drop (k := 4) ?_
                refine x_eq ?_ ?_ ?_ (ihi)
                · first | rfl | (simp [c18, c40, c54]; done)
                · rfl
                · rfl
              · exfalso; first | (simp (disch := omega) [inS_ix, inS_N, ixL_N, ix_nI, hx, hg] at c54 <;> omega) | (simp (disch := omega) only [h0, h1, h3, Int32.le_iff_toInt_le, Int32.lt_iff_toInt_lt, ← Int32.toInt_inj, nI_toInt, Int32.toInt_zero, m1_toInt, Int64.le_iff_toInt_le, Int64.lt_iff_toInt_lt, ← Int64.toInt_inj, pk_lT, i64_toInt, Int64.toInt_zero, eq_self, not_true_eq_false, not_false_eq_true] at c18 c40 c54 <;> omega) | omega
            · skip
              refine x_iload dX8_reach_46 rfl ?_
              refine x_aload_n dX8_reach_48 rfl ?_
              refine x_getf gf_X8_35 ho dX8_reach_49 rfl rfl ?_
              refine x_iconst (v := nI 1) rfl dX8_reach_52 ?_
              refine x_iald dX8_reach_53 rfl (by first | rfl | exact nI_add _ _ | (simp only [nI_add, pk_mul]; rfl)) (by omega) (by decide) ?_
              refine x_icmp_ge (tgt := 86) dX8_reach_54 (by decide) (fun c54 => ?_) (fun c54 => ?_)
              · exfalso; first | (simp (disch := omega) [inS_ix, inS_N, ixL_N, ix_nI, hx, hg] at c54 <;> omega) | (simp (disch := omega) only [h0, h1, h3, Int32.le_iff_toInt_le, Int32.lt_iff_toInt_lt, ← Int32.toInt_inj, nI_toInt, Int32.toInt_zero, m1_toInt, Int64.le_iff_toInt_le, Int64.lt_iff_toInt_lt, ← Int64.toInt_inj, pk_lT, i64_toInt, Int64.toInt_zero, eq_self, not_true_eq_false, not_false_eq_true] at c18 c40 c54 <;> omega) | omega
              · skip
                refine x_iload_n dX8_reach_57 rfl ?_
                refine x_iload_n dX8_reach_58 rfl ?_
                refine x_iload dX8_reach_59 rfl ?_
                refine x_callS2 lk_X8_109 (m_has _ _) ho dX8_reach_61 (Nat.le_of_ble_eq_true rfl) (by omega) (by decide) (by omega) (by omega) ?_
                refine x_ifb_eq (tgt := 77) dX8_reach_64 (by decide) (fun c64 => ?_) (fun c64 => ?_)
                · try (exfalso; first | (simp (disch := omega) [inS_ix, inS_N, ixL_N, ix_nI, hx, hg] at c64 <;> omega) | (simp (disch := omega) only [h0, h1, h3, Int32.le_iff_toInt_le, Int32.lt_iff_toInt_lt, ← Int32.toInt_inj, nI_toInt, Int32.toInt_zero, m1_toInt, Int64.le_iff_toInt_le, Int64.lt_iff_toInt_lt, ← Int64.toInt_inj, pk_lT, i64_toInt, Int64.toInt_zero, eq_self, not_true_eq_false, not_false_eq_true] at c18 c40 c54 c64 <;> omega) | omega)
                  all_goals
                    skip
                    refine x_iconst (v := nI 0) rfl dX8_reach_77 ?_
                    refine x_ior dX8_reach_78 ?_
                    refine x_ist2 hL (by decide) rfl dX8_reach_79 ?_
                    refine x_inc4 hL (by decide) rfl dX8_reach_80 (nI_1 _) ?_
                    refine x_goto (tgt := 46) dX8_reach_83 (by decide) ?_
                    refine x_eq ?_ ?_ ?_ (ihj)
                    · simp [itN, c64]
                    · rfl
                    · rfl
                · try (exfalso; first | (simp (disch := omega) [inS_ix, inS_N, ixL_N, ix_nI, hx, hg] at c64 <;> omega) | (simp (disch := omega) only [h0, h1, h3, Int32.le_iff_toInt_le, Int32.lt_iff_toInt_lt, ← Int32.toInt_inj, nI_toInt, Int32.toInt_zero, m1_toInt, Int64.le_iff_toInt_le, Int64.lt_iff_toInt_lt, ← Int64.toInt_inj, pk_lT, i64_toInt, Int64.toInt_zero, eq_self, not_true_eq_false, not_false_eq_true] at c18 c40 c54 c64 <;> omega) | omega)
                  all_goals
                    skip
                    refine x_aload_n dX8_reach_67 rfl ?_
                    refine x_iload_n dX8_reach_68 rfl ?_
                    refine x_iload dX8_reach_69 rfl ?_
                    refine x_callV2 lk_X8_357 (m_nextOf (M := (mI (mI M 1 (nI 0)) 0 (nI 0))) hF _ _ (by omega) (by omega)) ho dX8_reach_71 rfl (Nat.le_of_ble_eq_true rfl) (by omega) (by decide) (by omega) (by omega) ?_
                    refine x_goto (tgt := 78) dX8_reach_74 (by decide) ?_
                    refine x_ior dX8_reach_78 ?_
                    refine x_ist2 hL (by decide) rfl dX8_reach_79 ?_
                    refine x_inc4 hL (by decide) rfl dX8_reach_80 (nI_1 _) ?_
                    refine x_goto (tgt := 46) dX8_reach_83 (by decide) ?_
                    refine x_eq ?_ ?_ ?_ (ihj)
                    · simp [itN, c64]
                    · rfl
                    · rfl
    · try (exfalso; first | (simp (disch := omega) [inS_ix, inS_N, ixL_N, ix_nI, hx, hg] at c18 <;> omega) | (simp (disch := omega) only [h0, h1, h3, Int32.le_iff_toInt_le, Int32.lt_iff_toInt_lt, ← Int32.toInt_inj, nI_toInt, Int32.toInt_zero, m1_toInt, Int64.le_iff_toInt_le, Int64.lt_iff_toInt_lt, ← Int64.toInt_inj, pk_lT, i64_toInt, Int64.toInt_zero, eq_self, not_true_eq_false, not_false_eq_true] at c18 <;> omega) | omega)
      all_goals
        skip
        refine x_iconst (v := (-1)) rfl dX8_reach_21 ?_
        refine x_iret hr rfl dX8_reach_22 (by omega) (by omega) (hQ _ _ ?_)
        try dsimp only [mI, mSA] at c18
        exact ⟨by simp (disch := omega) [spReach, hx, hg, e, cl_nI, reaS], by simp [spReach, hx, hg]⟩
  · skip
    refine CT.of (ini := false) (by decide +kernel) q2042 q164 (Nat.le_of_ble_eq_true rfl) (by decide) ?_
    intro Γ hw ho hL hr hh hini hal hd hmc hms hQ
    subst hw
    show AW Γ cX8_reach 0 0 0 [some (.ref 32), some (.int t9), none, none, none] [] (hM M R)
    have h0 := hF.c0
    have h1 := hF.c1
    have h3 := hF.c3
    have l0 := hF.l0
    have l1 := hF.l1
    have l3 := hF.l3
    refine x_aload_n dX8_reach_0 rfl ?_
    refine x_iconst (v := nI 0) rfl dX8_reach_1 ?_
    refine m_puti (k := 1) (pf_X8_70 (ini := false)) ho hini dX8_reach_2 rfl rfl (by decide) (ms_1 _ _) ?_
    refine x_aload_n dX8_reach_5 rfl ?_
    refine x_aload_n dX8_reach_6 rfl ?_
    refine x_iload_n dX8_reach_7 rfl ?_
    refine x_callV1 lk_X8_380 (m_whyNoTin (M := (mI M 1 (nI 0))) hF _) ho dX8_reach_8 rfl (Nat.le_of_ble_eq_true rfl) (by omega) (by decide) (by omega) (by omega) ?_
    refine x_ival (y := nI 2) (by simp [whyT, hx]) ?_
    refine m_puti (k := 0) (pf_X8_73 (ini := false)) ho hini dX8_reach_11 rfl rfl (by decide) (ms_0 _ _) ?_
    refine x_aload_n dX8_reach_14 rfl ?_
    refine x_getf gf_X8_73 ho dX8_reach_15 rfl rfl ?_
    refine x_ival (y := nI 2) rfl ?_
    refine x_if_le (tgt := 23) dX8_reach_18 (by decide) (fun c18 => ?_) (fun c18 => ?_)
    · try (exfalso; first | (simp (disch := omega) [inS_ix, inS_N, ixL_N, ix_nI, hx] at c18 <;> omega) | (simp (disch := omega) only [h0, h1, h3, Int32.le_iff_toInt_le, Int32.lt_iff_toInt_lt, ← Int32.toInt_inj, nI_toInt, Int32.toInt_zero, m1_toInt, Int64.le_iff_toInt_le, Int64.lt_iff_toInt_lt, ← Int64.toInt_inj, pk_lT, i64_toInt, Int64.toInt_zero, eq_self, not_true_eq_false, not_false_eq_true] at c18 <;> omega) | omega)
      all_goals
        skip
        omega
    · try (exfalso; first | (simp (disch := omega) [inS_ix, inS_N, ixL_N, ix_nI, hx] at c18 <;> omega) | (simp (disch := omega) only [h0, h1, h3, Int32.le_iff_toInt_le, Int32.lt_iff_toInt_lt, ← Int32.toInt_inj, nI_toInt, Int32.toInt_zero, m1_toInt, Int64.le_iff_toInt_le, Int64.lt_iff_toInt_lt, ← Int64.toInt_inj, pk_lT, i64_toInt, Int64.toInt_zero, eq_self, not_true_eq_false, not_false_eq_true] at c18 <;> omega) | omega)
      all_goals
        skip
        refine x_iconst (v := (-1)) rfl dX8_reach_21 ?_
        refine x_iret hr rfl dX8_reach_22 (by omega) (by omega) (hQ _ _ ?_)
        try dsimp only [mI, mSA] at c18
        exact ⟨by simp [spReach, hx], by simp [spReach, hx]⟩
set_option maxHeartbeats 800000 in
theorem m_laysFar {w : xW} {M : mS} {R : xH} {tm pm tn G : Nat} (hF : wF (M.2.2.1 5) tm pm tn G) (t to : Nat) (ht : t < 9) (hto : to < 7) : CT w yX8_laysFar cX8_laysFar 7 none [] false (3) 0 0 [.ref 32, .int (nI t), .int (nI to)] (hM M R) (xret none (hM (mSA M 8 (farS (M.2.2.1 5) pm t to (M.2.2.1 8))) R)) := by
  refine CT.of (ini := false) (by decide +kernel) q2034 q164 (Nat.le_of_ble_eq_true rfl) (by decide) ?_
  intro Γ hw ho hL hr hh hini hal hd hmc hms hQ
  subst hw
  show AW Γ cX8_laysFar 0 0 0 [some (.ref 32), some (.int (nI t)), some (.int (nI to)), none, none, none, none] [] (hM M R)
  have h0 := hF.c0
  have h1 := hF.c1
  have h3 := hF.c3
  have l0 := hF.l0
  have l1 := hF.l1
  have l3 := hF.l3
  refine x_iconst (v := nI 0) rfl dX8_laysFar_0 ?_
  refine x_ist3 hL (by decide) rfl dX8_laysFar_1 ?_
  refine x_eq (h' := hM (mSA M 8 (lay (M.2.2.1 8) 0 0 fun p => if p = to then nI 0 else nI 99)) R) rfl rfl (by rw [lay_0]; exact congrArg (hM · R) mSA_id.symm) ?_
  refine x_for (n := 7) (fun i => [some (.ref 32), some (.int (nI t)), some (.int (nI to)), some (.int (nI i)), none, none, none]) (fun i => []) (fun i => hM (mSA M 8 (lay (M.2.2.1 8) 0 i fun p => if p = to then nI 0 else nI 99)) R) ?_ (fun i hi ihi => ?_)
  · skip
    refine x_iload_n dX8_laysFar_2 rfl ?_
    refine x_bipush (v := nI 7) rfl dX8_laysFar_3 ?_
    refine x_icmp_ge (tgt := 31) dX8_laysFar_5 (by decide) (fun c5 => ?_) (fun c5 => ?_)
    · skip
      refine x_iconst (v := nI 0) rfl dX8_laysFar_31 ?_
      refine x_ist3 hL (by decide) rfl dX8_laysFar_32 ?_
      refine x_for (n := 7) (fun u => [some (.ref 32), some (.int (nI t)), some (.int (nI to)), some (.int (nI u)), none, none, none]) (fun u => []) (fun u => hM (mSA M 8 (itN (fun n => itN (faP (M.2.2.1 5) pm t n) pm) u (lay (M.2.2.1 8) 0 7 fun p => if p = to then nI 0 else nI 99))) R) ?_ (fun u hu ihu => ?_)
      · skip
        refine x_iload_n dX8_laysFar_33 rfl ?_
        refine x_bipush (v := nI 7) rfl dX8_laysFar_34 ?_
        refine x_icmp_ge (tgt := 137) dX8_laysFar_36 (by decide) (fun c36 => ?_) (fun c36 => ?_)
        · skip
          refine x_vret hr dX8_laysFar_137 (by omega) (by omega) (hQ _ _ ?_)
          exact ⟨rfl, rfl⟩
        · exfalso; first | (simp (disch := omega) only [h0, h1, h3, Int32.le_iff_toInt_le, Int32.lt_iff_toInt_lt, ← Int32.toInt_inj, nI_toInt, Int32.toInt_zero, m1_toInt, Int64.le_iff_toInt_le, Int64.lt_iff_toInt_lt, ← Int64.toInt_inj, pk_lT, i64_toInt, Int64.toInt_zero, eq_self, not_true_eq_false, not_false_eq_true] at c5 c36 <;> omega) | omega
      · skip
        refine x_iload_n dX8_laysFar_33 rfl ?_
        refine x_bipush (v := nI 7) rfl dX8_laysFar_34 ?_
        refine x_icmp_ge (tgt := 137) dX8_laysFar_36 (by decide) (fun c36 => ?_) (fun c36 => ?_)
        · exfalso; first | (simp (disch := omega) only [h0, h1, h3, Int32.le_iff_toInt_le, Int32.lt_iff_toInt_lt, ← Int32.toInt_inj, nI_toInt, Int32.toInt_zero, m1_toInt, Int64.le_iff_toInt_le, Int64.lt_iff_toInt_lt, ← Int64.toInt_inj, pk_lT, i64_toInt, Int64.toInt_zero, eq_self, not_true_eq_false, not_false_eq_true] at c5 c36 <;> omega) | omega
        · skip
          refine x_iconst (v := nI 0) rfl dX8_laysFar_39 ?_
          refine x_ist4 hL (by decide) rfl dX8_laysFar_40 ?_
          refine x_for (n := pm) (fun v => [some (.ref 32), some (.int (nI t)), some (.int (nI to)), some (.int (nI u)), some (.int (nI v)), none, none]) (fun v => []) (fun v => hM (mSA M 8 (itN (faP (M.2.2.1 5) pm t u) v (itN (fun n => itN (faP (M.2.2.1 5) pm t n) pm) u (lay (M.2.2.1 8) 0 7 fun p => if p = to then nI 0 else nI 99)))) R) ?_ (fun v hv ihv => ?_)
          · skip
            refine x_iload dX8_laysFar_42 rfl ?_
            refine x_aload_n dX8_laysFar_44 rfl ?_
            refine x_getf gf_X8_35 ho dX8_laysFar_45 rfl rfl ?_
            refine x_iconst (v := nI 1) rfl dX8_laysFar_48 ?_
            refine x_iald dX8_laysFar_49 rfl (by first | rfl | exact nI_add _ _ | (simp only [nI_add, pk_mul]; rfl)) (by omega) (by decide) ?_
            refine x_ival (y := nI pm) h1 ?_
            refine x_icmp_ge (tgt := 131) dX8_laysFar_50 (by decide) (fun c50 => ?_) (fun c50 => ?_)
            · skip
              refine x_inc3 hL (by decide) rfl dX8_laysFar_131 (nI_1 _) ?_
              refine x_goto (tgt := 33) dX8_laysFar_134 (by decide) ?_
              refine x_drop (k := 4) ?_
              refine x_drop (k := 5) ?_
              refine x_drop (k := 6) ?_
              refine x_eq ?_ ?_ ?_ (ihu)
              · first | rfl | (simp [c5, c36, c50]; done)
              · rfl
              · rfl
            · exfalso; first | (simp (disch := omega) only [h0, h1, h3, Int32.le_iff_toInt_le, Int32.lt_iff_toInt_lt, ← Int32.toInt_inj, nI_toInt, Int32.toInt_zero, m1_toInt, Int64.le_iff_toInt_le, Int64.lt_iff_toInt_lt, ← Int64.toInt_inj, pk_lT, i64_toInt, Int64.toInt_zero, eq_self, not_true_eq_false, not_false_eq_true] at c5 c36 c50 <;> omega) | omega
          · skip
            refine x_iload dX8_laysFar_42 rfl ?_
            refine x_aload_n dX8_laysFar_44 rfl ?_
            refine x_getf gf_X8_35 ho dX8_laysFar_45 rfl rfl ?_
            refine x_iconst (v := nI 1) rfl dX8_laysFar_48 ?_
            refine x_iald dX8_laysFar_49 rfl (by first | rfl | exact nI_add _ _ | (simp only [nI_add, pk_mul]; rfl)) (by omega) (by decide) ?_
            refine x_ival (y := nI pm) h1 ?_
            refine x_icmp_ge (tgt := 131) dX8_laysFar_50 (by decide) (fun c50 => ?_) (fun c50 => ?_)
            · exfalso; first | (simp (disch := omega) only [h0, h1, h3, Int32.le_iff_toInt_le, Int32.lt_iff_toInt_lt, ← Int32.toInt_inj, nI_toInt, Int32.toInt_zero, m1_toInt, Int64.le_iff_toInt_le, Int64.lt_iff_toInt_lt, ← Int64.toInt_inj, pk_lT, i64_toInt, Int64.toInt_zero, eq_self, not_true_eq_false, not_false_eq_true] at c5 c36 c50 <;> omega) | omega
            · skip
              refine x_aload_n dX8_laysFar_53 rfl ?_
              refine x_getf gf_X8_44 ho dX8_laysFar_54 rfl rfl ?_
              refine x_iload dX8_laysFar_57 rfl ?_
              refine x_iald dX8_laysFar_59 rfl (by first | rfl | exact nI_add _ _ | (simp only [nI_add, pk_mul]; rfl)) (by omega) (by decide) ?_
              refine x_bipush (v := nI 99) rfl dX8_laysFar_60 ?_
              refine x_icmp_ge (tgt := 69) dX8_laysFar_62 (by decide) (fun c62 => ?_) (fun c62 => ?_)
              · try (exfalso; first | (simp (disch := omega) only [h0, h1, h3, Int32.le_iff_toInt_le, Int32.lt_iff_toInt_lt, ← Int32.toInt_inj, nI_toInt, Int32.toInt_zero, m1_toInt, Int64.le_iff_toInt_le, Int64.lt_iff_toInt_lt, ← Int64.toInt_inj, pk_lT, i64_toInt, Int64.toInt_zero, eq_self, not_true_eq_false, not_false_eq_true] at c5 c36 c50 c62 <;> omega) | omega)
                all_goals
                  skip
                  simp only [mSA, upA_s] at c62
                  have c62 := Int32.not_lt.mpr c62
                  refine x_aload_n dX8_laysFar_69 rfl ?_
                  refine x_iload_n dX8_laysFar_70 rfl ?_
                  refine x_iload dX8_laysFar_71 rfl ?_
                  refine x_callV2 lk_X8_357 (m_nextOf (M := mSA M 8 (itN (faP (M.2.2.1 5) pm t u) v (itN (fun n => itN (faP (M.2.2.1 5) pm t n) pm) u (lay (M.2.2.1 8) 0 7 fun p => if p = to then nI 0 else nI 99)))) (wF_8 hF 8 (by decide) _) _ _ (by omega) (by omega)) ho dX8_laysFar_73 rfl (Nat.le_of_ble_eq_true rfl) (by omega) (by decide) (by omega) (by omega) ?_
                  refine x_ival (y := (if (itN (faP (M.2.2.1 5) pm t u) v (itN (fun n => itN (faP (M.2.2.1 5) pm t n) pm) u (lay (M.2.2.1 8) 0 7 fun p => if p = to then nI 0 else nI 99))) v < nI 99 then nI 0 else nxS (M.2.2.1 5) pm t v)) (by rw [if_neg c62, mSA_5 (by decide)]) ?_
                  refine x_ist5 hL (by decide) rfl dX8_laysFar_76 ?_
                  refine x_iconst (v := nI 0) rfl dX8_laysFar_78 ?_
                  refine x_ist6 hL (by decide) rfl dX8_laysFar_79 ?_
                  refine x_for (n := 7) (fun q => [some (.ref 32), some (.int (nI t)), some (.int (nI to)), some (.int (nI u)), some (.int (nI v)), some (.int (if (itN (faP (M.2.2.1 5) pm t u) v (itN (fun n => itN (faP (M.2.2.1 5) pm t n) pm) u (lay (M.2.2.1 8) 0 7 fun p => if p = to then nI 0 else nI 99))) v < nI 99 then nI 0 else nxS (M.2.2.1 5) pm t v)), some (.int (nI q))]) (fun q => []) (fun q => hM (mSA M 8 (itN (faQ (if (itN (faP (M.2.2.1 5) pm t u) v (itN (fun n => itN (faP (M.2.2.1 5) pm t n) pm) u (lay (M.2.2.1 8) 0 7 fun p => if p = to then nI 0 else nI 99))) v < nI 99 then nI 0 else nxS (M.2.2.1 5) pm t v) u v) q (itN (faP (M.2.2.1 5) pm t u) v (itN (fun n => itN (faP (M.2.2.1 5) pm t n) pm) u (lay (M.2.2.1 8) 0 7 fun p => if p = to then nI 0 else nI 99))))) R) ?_ (fun q hq ihq => ?_)
                  · skip
                    refine x_iload dX8_laysFar_81 rfl ?_
                    refine x_bipush (v := nI 7) rfl dX8_laysFar_83 ?_
                    refine x_icmp_ge (tgt := 125) dX8_laysFar_85 (by decide) (fun c85 => ?_) (fun c85 => ?_)
                    · skip
                      refine x_inc4 hL (by decide) rfl dX8_laysFar_125 (nI_1 _) ?_
                      refine x_goto (tgt := 42) dX8_laysFar_128 (by decide) ?_
                      refine x_drop (k := 5) ?_
                      refine x_drop (k := 6) ?_
                      refine x_eq ?_ ?_ ?_ (ihv)
                      · first | rfl | (simp [c5, c36, c50, c62, c85]; done)
                      · rfl
                      · rfl
                    · exfalso; first | (simp (disch := omega) only [h0, h1, h3, Int32.le_iff_toInt_le, Int32.lt_iff_toInt_lt, ← Int32.toInt_inj, nI_toInt, Int32.toInt_zero, m1_toInt, Int64.le_iff_toInt_le, Int64.lt_iff_toInt_lt, ← Int64.toInt_inj, pk_lT, i64_toInt, Int64.toInt_zero, eq_self, not_true_eq_false, not_false_eq_true] at c5 c36 c50 c62 c85 <;> omega) | omega
                  · skip
                    refine x_iload dX8_laysFar_81 rfl ?_
                    refine x_bipush (v := nI 7) rfl dX8_laysFar_83 ?_
                    refine x_icmp_ge (tgt := 125) dX8_laysFar_85 (by decide) (fun c85 => ?_) (fun c85 => ?_)
                    · exfalso; first | (simp (disch := omega) only [h0, h1, h3, Int32.le_iff_toInt_le, Int32.lt_iff_toInt_lt, ← Int32.toInt_inj, nI_toInt, Int32.toInt_zero, m1_toInt, Int64.le_iff_toInt_le, Int64.lt_iff_toInt_lt, ← Int64.toInt_inj, pk_lT, i64_toInt, Int64.toInt_zero, eq_self, not_true_eq_false, not_false_eq_true] at c5 c36 c50 c62 c85 <;> omega) | omega
                    · skip
                      refine x_iload dX8_laysFar_88 rfl ?_
                      refine x_iload dX8_laysFar_90 rfl ?_
                      refine x_callS2 lk_X8_109 (m_has _ _) ho dX8_laysFar_92 (Nat.le_of_ble_eq_true rfl) (by omega) (by decide) (by omega) (by omega) ?_
                      refine x_ifb_eq (tgt := 119) dX8_laysFar_95 (by decide) (fun c95 => ?_) (fun c95 => ?_)
                      · try (exfalso; first | (simp (disch := omega) only [h0, h1, h3, Int32.le_iff_toInt_le, Int32.lt_iff_toInt_lt, ← Int32.toInt_inj, nI_toInt, Int32.toInt_zero, m1_toInt, Int64.le_iff_toInt_le, Int64.lt_iff_toInt_lt, ← Int64.toInt_inj, pk_lT, i64_toInt, Int64.toInt_zero, eq_self, not_true_eq_false, not_false_eq_true] at c5 c36 c50 c62 c85 c95 <;> omega) | omega)
                        all_goals
                          skip
                          refine x_inc6 hL (by decide) rfl dX8_laysFar_119 (nI_1 _) ?_
                          refine x_goto (tgt := 81) dX8_laysFar_122 (by decide) ?_
                          refine x_eq ?_ ?_ ?_ (ihq)
                          · first | rfl | (simp [c5, c36, c50, c62, c85, c95]; done)
                          · rfl
                          · simp [itN, faQ, c95, mA_SA]
                      · try (exfalso; first | (simp (disch := omega) only [h0, h1, h3, Int32.le_iff_toInt_le, Int32.lt_iff_toInt_lt, ← Int32.toInt_inj, nI_toInt, Int32.toInt_zero, m1_toInt, Int64.le_iff_toInt_le, Int64.lt_iff_toInt_lt, ← Int64.toInt_inj, pk_lT, i64_toInt, Int64.toInt_zero, eq_self, not_true_eq_false, not_false_eq_true] at c5 c36 c50 c62 c85 c95 <;> omega) | omega)
                        all_goals
                          skip
                          refine x_aload_n dX8_laysFar_98 rfl ?_
                          refine x_getf gf_X8_44 ho dX8_laysFar_99 rfl rfl ?_
                          refine x_iload dX8_laysFar_102 rfl ?_
                          refine x_iald dX8_laysFar_104 rfl (by first | rfl | exact nI_add _ _ | (simp only [nI_add, pk_mul]; rfl)) (by omega) (by decide) ?_
                          refine x_iload_n dX8_laysFar_105 rfl ?_
                          refine x_icmp_ne (tgt := 119) dX8_laysFar_106 (by decide) (fun c106 => ?_) (fun c106 => ?_)
                          · try (exfalso; first | (simp (disch := omega) only [h0, h1, h3, Int32.le_iff_toInt_le, Int32.lt_iff_toInt_lt, ← Int32.toInt_inj, nI_toInt, Int32.toInt_zero, m1_toInt, Int64.le_iff_toInt_le, Int64.lt_iff_toInt_lt, ← Int64.toInt_inj, pk_lT, i64_toInt, Int64.toInt_zero, eq_self, not_true_eq_false, not_false_eq_true] at c5 c36 c50 c62 c85 c95 c106 <;> omega) | omega)
                            all_goals
                              skip
                              simp only [mSA, upA_s] at c106
                              refine x_inc6 hL (by decide) rfl dX8_laysFar_119 (nI_1 _) ?_
                              refine x_goto (tgt := 81) dX8_laysFar_122 (by decide) ?_
                              refine x_eq ?_ ?_ ?_ (ihq)
                              · first | rfl | (simp [c5, c36, c50, c62, c85, c95, c106]; done)
                              · rfl
                              · simp [itN, faQ, c95, c106, mA_SA]
                          · try (exfalso; first | (simp (disch := omega) only [h0, h1, h3, Int32.le_iff_toInt_le, Int32.lt_iff_toInt_lt, ← Int32.toInt_inj, nI_toInt, Int32.toInt_zero, m1_toInt, Int64.le_iff_toInt_le, Int64.lt_iff_toInt_lt, ← Int64.toInt_inj, pk_lT, i64_toInt, Int64.toInt_zero, eq_self, not_true_eq_false, not_false_eq_true] at c5 c36 c50 c62 c85 c95 c106 <;> omega) | omega)
                            all_goals
                              skip
                              simp only [mSA, upA_s] at c106
                              refine x_aload_n dX8_laysFar_109 rfl ?_
                              refine x_getf gf_X8_44 ho dX8_laysFar_110 rfl rfl ?_
                              refine x_iload dX8_laysFar_113 rfl ?_
                              refine x_iload_n dX8_laysFar_115 rfl ?_
                              refine x_iconst (v := nI 1) rfl dX8_laysFar_116 ?_
                              refine x_iaddN dX8_laysFar_117 ?_
                              refine m_iast (r := 8) dX8_laysFar_118 (by decide) (by decide) (fun _ => rfl) (by first | rfl | exact nI_add _ _ | (simp only [nI_add, pk_mul]; rfl)) (by omega) (by decide) ?_
                              refine x_inc6 hL (by decide) rfl dX8_laysFar_119 (nI_1 _) ?_
                              refine x_goto (tgt := 81) dX8_laysFar_122 (by decide) ?_
                              refine x_eq ?_ ?_ ?_ (ihq)
                              · first | rfl | (simp [c5, c36, c50, c62, c85, c95, c106]; done)
                              · rfl
                              · simp [itN, faQ, c95, c106, mA_SA]
              · try (exfalso; first | (simp (disch := omega) only [h0, h1, h3, Int32.le_iff_toInt_le, Int32.lt_iff_toInt_lt, ← Int32.toInt_inj, nI_toInt, Int32.toInt_zero, m1_toInt, Int64.le_iff_toInt_le, Int64.lt_iff_toInt_lt, ← Int64.toInt_inj, pk_lT, i64_toInt, Int64.toInt_zero, eq_self, not_true_eq_false, not_false_eq_true] at c5 c36 c50 c62 <;> omega) | omega)
                all_goals
                  skip
                  simp only [mSA, upA_s] at c62
                  have c62 := Int32.not_le.mp c62
                  refine x_iconst (v := nI 0) rfl dX8_laysFar_65 ?_
                  refine x_goto (tgt := 76) dX8_laysFar_66 (by decide) ?_
                  refine x_ival (y := (if (itN (faP (M.2.2.1 5) pm t u) v (itN (fun n => itN (faP (M.2.2.1 5) pm t n) pm) u (lay (M.2.2.1 8) 0 7 fun p => if p = to then nI 0 else nI 99))) v < nI 99 then nI 0 else nxS (M.2.2.1 5) pm t v)) (by rw [if_pos c62]) ?_
                  refine x_ist5 hL (by decide) rfl dX8_laysFar_76 ?_
                  refine x_iconst (v := nI 0) rfl dX8_laysFar_78 ?_
                  refine x_ist6 hL (by decide) rfl dX8_laysFar_79 ?_
                  refine x_for (n := 7) (fun q => [some (.ref 32), some (.int (nI t)), some (.int (nI to)), some (.int (nI u)), some (.int (nI v)), some (.int (if (itN (faP (M.2.2.1 5) pm t u) v (itN (fun n => itN (faP (M.2.2.1 5) pm t n) pm) u (lay (M.2.2.1 8) 0 7 fun p => if p = to then nI 0 else nI 99))) v < nI 99 then nI 0 else nxS (M.2.2.1 5) pm t v)), some (.int (nI q))]) (fun q => []) (fun q => hM (mSA M 8 (itN (faQ (if (itN (faP (M.2.2.1 5) pm t u) v (itN (fun n => itN (faP (M.2.2.1 5) pm t n) pm) u (lay (M.2.2.1 8) 0 7 fun p => if p = to then nI 0 else nI 99))) v < nI 99 then nI 0 else nxS (M.2.2.1 5) pm t v) u v) q (itN (faP (M.2.2.1 5) pm t u) v (itN (fun n => itN (faP (M.2.2.1 5) pm t n) pm) u (lay (M.2.2.1 8) 0 7 fun p => if p = to then nI 0 else nI 99))))) R) ?_ (fun q hq ihq => ?_)
                  · skip
                    refine x_iload dX8_laysFar_81 rfl ?_
                    refine x_bipush (v := nI 7) rfl dX8_laysFar_83 ?_
                    refine x_icmp_ge (tgt := 125) dX8_laysFar_85 (by decide) (fun c85 => ?_) (fun c85 => ?_)
                    · skip
                      refine x_inc4 hL (by decide) rfl dX8_laysFar_125 (nI_1 _) ?_
                      refine x_goto (tgt := 42) dX8_laysFar_128 (by decide) ?_
                      refine x_drop (k := 5) ?_
                      refine x_drop (k := 6) ?_
                      refine x_eq ?_ ?_ ?_ (ihv)
                      · first | rfl | (simp [c5, c36, c50, c62, c85]; done)
                      · rfl
                      · rfl
                    · exfalso; first | (simp (disch := omega) only [h0, h1, h3, Int32.le_iff_toInt_le, Int32.lt_iff_toInt_lt, ← Int32.toInt_inj, nI_toInt, Int32.toInt_zero, m1_toInt, Int64.le_iff_toInt_le, Int64.lt_iff_toInt_lt, ← Int64.toInt_inj, pk_lT, i64_toInt, Int64.toInt_zero, eq_self, not_true_eq_false, not_false_eq_true] at c5 c36 c50 c62 c85 <;> omega) | omega
                  · skip
                    refine x_iload dX8_laysFar_81 rfl ?_
                    refine x_bipush (v := nI 7) rfl dX8_laysFar_83 ?_
                    refine x_icmp_ge (tgt := 125) dX8_laysFar_85 (by decide) (fun c85 => ?_) (fun c85 => ?_)
                    · exfalso; first | (simp (disch := omega) only [h0, h1, h3, Int32.le_iff_toInt_le, Int32.lt_iff_toInt_lt, ← Int32.toInt_inj, nI_toInt, Int32.toInt_zero, m1_toInt, Int64.le_iff_toInt_le, Int64.lt_iff_toInt_lt, ← Int64.toInt_inj, pk_lT, i64_toInt, Int64.toInt_zero, eq_self, not_true_eq_false, not_false_eq_true] at c5 c36 c50 c62 c85 <;> omega) | omega
                    · skip
                      refine x_iload dX8_laysFar_88 rfl ?_
                      refine x_iload dX8_laysFar_90 rfl ?_
                      refine x_callS2 lk_X8_109 (m_has _ _) ho dX8_laysFar_92 (Nat.le_of_ble_eq_true rfl) (by omega) (by decide) (by omega) (by omega) ?_
                      refine x_ifb_eq (tgt := 119) dX8_laysFar_95 (by decide) (fun c95 => ?_) (fun c95 => ?_)
                      · try (exfalso; first | (simp (disch := omega) only [h0, h1, h3, Int32.le_iff_toInt_le, Int32.lt_iff_toInt_lt, ← Int32.toInt_inj, nI_toInt, Int32.toInt_zero, m1_toInt, Int64.le_iff_toInt_le, Int64.lt_iff_toInt_lt, ← Int64.toInt_inj, pk_lT, i64_toInt, Int64.toInt_zero, eq_self, not_true_eq_false, not_false_eq_true] at c5 c36 c50 c62 c85 c95 <;> omega) | omega)
                        all_goals
                          skip
                          refine x_inc6 hL (by decide) rfl dX8_laysFar_119 (nI_1 _) ?_
                          refine x_goto (tgt := 81) dX8_laysFar_122 (by decide) ?_
                          refine x_eq ?_ ?_ ?_ (ihq)
                          · first | rfl | (simp [c5, c36, c50, c62, c85, c95]; done)
                          · rfl
                          · simp [itN, faQ, c95, mA_SA]
                      · try (exfalso; first | (simp (disch := omega) only [h0, h1, h3, Int32.le_iff_toInt_le, Int32.lt_iff_toInt_lt, ← Int32.toInt_inj, nI_toInt, Int32.toInt_zero, m1_toInt, Int64.le_iff_toInt_le, Int64.lt_iff_toInt_lt, ← Int64.toInt_inj, pk_lT, i64_toInt, Int64.toInt_zero, eq_self, not_true_eq_false, not_false_eq_true] at c5 c36 c50 c62 c85 c95 <;> omega) | omega)
                        all_goals
                          skip
                          refine x_aload_n dX8_laysFar_98 rfl ?_
                          refine x_getf gf_X8_44 ho dX8_laysFar_99 rfl rfl ?_
                          refine x_iload dX8_laysFar_102 rfl ?_
                          refine x_iald dX8_laysFar_104 rfl (by first | rfl | exact nI_add _ _ | (simp only [nI_add, pk_mul]; rfl)) (by omega) (by decide) ?_
                          refine x_iload_n dX8_laysFar_105 rfl ?_
                          refine x_icmp_ne (tgt := 119) dX8_laysFar_106 (by decide) (fun c106 => ?_) (fun c106 => ?_)
                          · try (exfalso; first | (simp (disch := omega) only [h0, h1, h3, Int32.le_iff_toInt_le, Int32.lt_iff_toInt_lt, ← Int32.toInt_inj, nI_toInt, Int32.toInt_zero, m1_toInt, Int64.le_iff_toInt_le, Int64.lt_iff_toInt_lt, ← Int64.toInt_inj, pk_lT, i64_toInt, Int64.toInt_zero, eq_self, not_true_eq_false, not_false_eq_true] at c5 c36 c50 c62 c85 c95 c106 <;> omega) | omega)
                            all_goals
                              skip
                              simp only [mSA, upA_s] at c106
                              refine x_inc6 hL (by decide) rfl dX8_laysFar_119 (nI_1 _) ?_
                              refine x_goto (tgt := 81) dX8_laysFar_122 (by decide) ?_
                              refine x_eq ?_ ?_ ?_ (ihq)
                              · first | rfl | (simp [c5, c36, c50, c62, c85, c95, c106]; done)
                              · rfl
                              · simp [itN, faQ, c95, c106, mA_SA]
                          · try (exfalso; first | (simp (disch := omega) only [h0, h1, h3, Int32.le_iff_toInt_le, Int32.lt_iff_toInt_lt, ← Int32.toInt_inj, nI_toInt, Int32.toInt_zero, m1_toInt, Int64.le_iff_toInt_le, Int64.lt_iff_toInt_lt, ← Int64.toInt_inj, pk_lT, i64_toInt, Int64.toInt_zero, eq_self, not_true_eq_false, not_false_eq_true] at c5 c36 c50 c62 c85 c95 c106 <;> omega) | omega)
                            all_goals
                              skip
                              simp only [mSA, upA_s] at c106
                              refine x_aload_n dX8_laysFar_109 rfl ?_
                              refine x_getf gf_X8_44 ho dX8_laysFar_110 rfl rfl ?_
                              refine x_iload dX8_laysFar_113 rfl ?_
                              refine x_iload_n dX8_laysFar_115 rfl ?_
                              refine x_iconst (v := nI 1) rfl dX8_laysFar_116 ?_
                              refine x_iaddN dX8_laysFar_117 ?_
                              refine m_iast (r := 8) dX8_laysFar_118 (by decide) (by decide) (fun _ => rfl) (by first | rfl | exact nI_add _ _ | (simp only [nI_add, pk_mul]; rfl)) (by omega) (by decide) ?_
                              refine x_inc6 hL (by decide) rfl dX8_laysFar_119 (nI_1 _) ?_
                              refine x_goto (tgt := 81) dX8_laysFar_122 (by decide) ?_
                              refine x_eq ?_ ?_ ?_ (ihq)
                              · first | rfl | (simp [c5, c36, c50, c62, c85, c95, c106]; done)
                              · rfl
                              · simp [itN, faQ, c95, c106, mA_SA]
    · exfalso; first | (simp (disch := omega) only [h0, h1, h3, Int32.le_iff_toInt_le, Int32.lt_iff_toInt_lt, ← Int32.toInt_inj, nI_toInt, Int32.toInt_zero, m1_toInt, Int64.le_iff_toInt_le, Int64.lt_iff_toInt_lt, ← Int64.toInt_inj, pk_lT, i64_toInt, Int64.toInt_zero, eq_self, not_true_eq_false, not_false_eq_true] at c5 <;> omega) | omega
  · skip
    refine x_iload_n dX8_laysFar_2 rfl ?_
    refine x_bipush (v := nI 7) rfl dX8_laysFar_3 ?_
    refine x_icmp_ge (tgt := 31) dX8_laysFar_5 (by decide) (fun c5 => ?_) (fun c5 => ?_)
    · exfalso; first | (simp (disch := omega) only [h0, h1, h3, Int32.le_iff_toInt_le, Int32.lt_iff_toInt_lt, ← Int32.toInt_inj, nI_toInt, Int32.toInt_zero, m1_toInt, Int64.le_iff_toInt_le, Int64.lt_iff_toInt_lt, ← Int64.toInt_inj, pk_lT, i64_toInt, Int64.toInt_zero, eq_self, not_true_eq_false, not_false_eq_true] at c5 <;> omega) | omega
    · skip
      refine x_aload_n dX8_laysFar_8 rfl ?_
      refine x_getf gf_X8_44 ho dX8_laysFar_9 rfl rfl ?_
      refine x_iload_n dX8_laysFar_12 rfl ?_
      refine x_iload_n dX8_laysFar_13 rfl ?_
      refine x_iload_n dX8_laysFar_14 rfl ?_
      refine x_icmp_ne (tgt := 22) dX8_laysFar_15 (by decide) (fun c15 => ?_) (fun c15 => ?_)
      · try (exfalso; first | (simp (disch := omega) only [h0, h1, h3, Int32.le_iff_toInt_le, Int32.lt_iff_toInt_lt, ← Int32.toInt_inj, nI_toInt, Int32.toInt_zero, m1_toInt, Int64.le_iff_toInt_le, Int64.lt_iff_toInt_lt, ← Int64.toInt_inj, pk_lT, i64_toInt, Int64.toInt_zero, eq_self, not_true_eq_false, not_false_eq_true] at c5 c15 <;> omega) | omega)
        all_goals
          skip
          have c15 : ¬ i = to := fun q => c15 (congrArg nI q)
          refine x_bipush (v := nI 99) rfl dX8_laysFar_22 ?_
          refine m_iast (r := 8) dX8_laysFar_24 (by decide) (by decide) (fun _ => rfl) (by first | rfl | exact nI_add _ _ | (simp only [nI_add, pk_mul]; rfl)) (by omega) (by decide) ?_
          refine x_inc3 hL (by decide) rfl dX8_laysFar_25 (nI_1 _) ?_
          refine x_goto (tgt := 2) dX8_laysFar_28 (by decide) ?_
          refine x_eq ?_ ?_ ?_ (ihi)
          · first | rfl | (simp [c5, c15]; done)
          · rfl
          · rw [mA_SA]; exact congrArg (fun f => hM (mSA M 8 f) R) (layI_0 (by simp [c15]))
      · try (exfalso; first | (simp (disch := omega) only [h0, h1, h3, Int32.le_iff_toInt_le, Int32.lt_iff_toInt_lt, ← Int32.toInt_inj, nI_toInt, Int32.toInt_zero, m1_toInt, Int64.le_iff_toInt_le, Int64.lt_iff_toInt_lt, ← Int64.toInt_inj, pk_lT, i64_toInt, Int64.toInt_zero, eq_self, not_true_eq_false, not_false_eq_true] at c5 c15 <;> omega) | omega)
        all_goals
          skip
          have c15 := (nI_eq (by omega) (by omega)).mp c15
          refine x_iconst (v := nI 0) rfl dX8_laysFar_18 ?_
          refine x_goto (tgt := 24) dX8_laysFar_19 (by decide) ?_
          refine m_iast (r := 8) dX8_laysFar_24 (by decide) (by decide) (fun _ => rfl) (by first | rfl | exact nI_add _ _ | (simp only [nI_add, pk_mul]; rfl)) (by omega) (by decide) ?_
          refine x_inc3 hL (by decide) rfl dX8_laysFar_25 (nI_1 _) ?_
          refine x_goto (tgt := 2) dX8_laysFar_28 (by decide) ?_
          refine x_eq ?_ ?_ ?_ (ihi)
          · first | rfl | (simp [c5, c15]; done)
          · rfl
          · rw [mA_SA]; exact congrArg (fun f => hM (mSA M 8 f) R) (layI_0 (by simp [c15]))
