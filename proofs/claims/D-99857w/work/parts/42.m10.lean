/-! ===== the model: rounds, asked ===== -/
set_option maxRecDepth 100000
set_option maxHeartbeats 800000 in
theorem m_laysRound {w : xW} {M : mS} {R : xH} {tm pm tn G : Nat} (hF : wF (M.2.2.1 5) tm pm tn G) (t p : Nat) (ht : t < tn) (hp : p < pm) (e : M.2.2.1 5 (42 + t) = nI p) : CT w yX8_laysRound cX8_laysRound 2 none [] false (11) 0 0 [.ref 32, .int (nI t)] (hM M R) (xret none (hM (grM M (goR (M.2.2.1 5) pm t 6 1 (bi p) (0, M.2.2.1 10, upd (M.2.2.1 9) 0 (nI p)))) R)) := by
  refine CT.of (ini := false) (by decide +kernel) q2058 q164 (Nat.le_of_ble_eq_true rfl) (by decide) ?_
  intro Γ hw ho hL hr hh hini hal hd hmc hms hQ
  subst hw
  show AW Γ cX8_laysRound 0 0 0 [some (.ref 32), some (.int (nI t))] [] (hM M R)
  have h0 := hF.c0
  have h1 := hF.c1
  have h3 := hF.c3
  have l0 := hF.l0
  have l1 := hF.l1
  have l3 := hF.l3
  refine x_aload_n dX8_laysRound_0 rfl ?_
  refine x_iconst (v := nI 0) rfl dX8_laysRound_1 ?_
  refine m_puti (k := 29) (pf_X8_383 (ini := false)) ho hini dX8_laysRound_2 rfl rfl (by decide) (ms_29 _ _) ?_
  refine x_eq (h' := hM (grM M (0, M.2.2.1 10, M.2.2.1 9)) R) rfl rfl (by rw [grM_0]) ?_
  refine x_aload_n dX8_laysRound_5 rfl ?_
  refine x_getf gf_X8_47 ho dX8_laysRound_6 rfl rfl ?_
  refine x_iconst (v := nI 0) rfl dX8_laysRound_9 ?_
  refine x_aload_n dX8_laysRound_10 rfl ?_
  refine x_getf gf_X8_35 ho dX8_laysRound_11 rfl rfl ?_
  refine x_bipush (v := nI 42) rfl dX8_laysRound_14 ?_
  refine x_iload_n dX8_laysRound_16 rfl ?_
  refine x_iaddN dX8_laysRound_17 ?_
  refine x_iald dX8_laysRound_18 rfl (by first | rfl | exact nI_add _ _ | (simp only [nI_add, pk_mul]; rfl)) (by omega) (by decide) ?_
  refine x_ival (y := nI p) e ?_
  refine m_iast (r := 9) dX8_laysRound_19 (by decide) (by decide) (fun _ => rfl) (by first | rfl | exact nI_add _ _ | (simp only [nI_add, pk_mul]; rfl)) (by omega) (by decide) ?_
  refine x_eq (h' := hM (grM M (0, M.2.2.1 10, upd (M.2.2.1 9) 0 (nI p))) R) rfl rfl (by rw [grM_9]) ?_
  refine x_aload_n dX8_laysRound_20 rfl ?_
  refine x_iload_n dX8_laysRound_21 rfl ?_
  refine x_iconst (v := nI 1) rfl dX8_laysRound_22 ?_
  refine x_iconst (v := nI 1) rfl dX8_laysRound_23 ?_
  refine x_aload_n dX8_laysRound_24 rfl ?_
  refine x_getf gf_X8_47 ho dX8_laysRound_25 rfl rfl ?_
  refine x_iconst (v := nI 0) rfl dX8_laysRound_28 ?_
  refine x_iald dX8_laysRound_29 rfl (by first | rfl | exact nI_add _ _ | (simp only [nI_add, pk_mul]; rfl)) (by omega) (by decide) ?_
  refine x_ival (y := nI p) rfl ?_
  refine x_ishl dX8_laysRound_30 ?_
  refine x_callV3 lk_X8_386 (m_goesRound (M := M) hF t 6 1 (bi p) (0, M.2.2.1 10, upd (M.2.2.1 9) 0 (nI p)) (by omega) (by omega) (by omega) (szF_bi p (by omega)) ⟨p, by omega, rfl⟩ (Nat.zero_le _)) ho dX8_laysRound_31 rfl (Nat.le_of_ble_eq_true rfl) (by omega) (by decide) (by omega) (by omega) ?_
  refine x_vret hr dX8_laysRound_34 (by omega) (by omega) (hQ _ _ ?_)
  exact ⟨rfl, rfl⟩
set_option maxHeartbeats 800000 in
theorem m_round {w : xW} {M : mS} {R : xH} {tm pm tn G : Nat} (hF : wF (M.2.2.1 5) tm pm tn G) (t9 : Int32) : CT w yX8_round cX8_round 2 (some (.int)) [] false (12) 0 0 [.ref 32, .int t9] (hM M R) (xrt (some (.int (spRound (M.2.2.1 5) pm tn t9).1)) (fun M' => mQ M' (mI (mI M 1 (nI 0)) 0 (nI (spRound (M.2.2.1 5) pm tn t9).2))) R) := by
  have l0 := hF.l0
  have l1 := hF.l1
  have l3 := hF.l3
  rcases ix_or t9 (n := tn) (by omega) with ⟨hx, hx2⟩ | ⟨t, ht, rfl, hx⟩
  rotate_left 1
  rcases hF.on ht with e | ⟨p, hp, e⟩
  · have hg := goB_1 e
    refine CT.of (ini := false) (by decide +kernel) q2054 q164 (Nat.le_of_ble_eq_true rfl) (by decide) ?_
    intro Γ hw ho hL hr hh hini hal hd hmc hms hQ
    subst hw
    show AW Γ cX8_round 0 0 0 [some (.ref 32), some (.int (nI t))] [] (hM M R)
    have h0 := hF.c0
    have h1 := hF.c1
    have h3 := hF.c3
    have l0 := hF.l0
    have l1 := hF.l1
    have l3 := hF.l3
    refine x_aload_n dX8_round_0 rfl ?_
    refine x_iconst (v := nI 0) rfl dX8_round_1 ?_
    refine m_puti (k := 1) (pf_X8_70 (ini := false)) ho hini dX8_round_2 rfl rfl (by decide) (ms_1 _ _) ?_
    refine x_aload_n dX8_round_5 rfl ?_
    refine x_aload_n dX8_round_6 rfl ?_
    refine x_iload_n dX8_round_7 rfl ?_
    refine x_callV1 lk_X8_380 (m_whyNoTin (M := (mI M 1 (nI 0))) hF _) ho dX8_round_8 rfl (Nat.le_of_ble_eq_true rfl) (by omega) (by decide) (by omega) (by omega) ?_
    refine x_ival (y := nI 9) (by first | (simp [whyT, hx, hg]; done) | (simp [whyT, hx, hg, hy]; done)) ?_
    refine m_puti (k := 0) (pf_X8_73 (ini := false)) ho hini dX8_round_11 rfl rfl (by decide) (ms_0 _ _) ?_
    refine x_aload_n dX8_round_14 rfl ?_
    refine x_getf gf_X8_73 ho dX8_round_15 rfl rfl ?_
    refine x_ival (y := nI 9) rfl ?_
    refine x_if_le (tgt := 23) dX8_round_18 (by decide) (fun c18 => ?_) (fun c18 => ?_)
    · try (exfalso; first | (simp (disch := omega) [inS_ix, inS_N, ixL_N, ix_nI, hx, hg] at c18 <;> omega) | (simp (disch := omega) only [h0, h1, h3, Int32.le_iff_toInt_le, Int32.lt_iff_toInt_lt, ← Int32.toInt_inj, nI_toInt, Int32.toInt_zero, m1_toInt, Int64.le_iff_toInt_le, Int64.lt_iff_toInt_lt, ← Int64.toInt_inj, pk_lT, i64_toInt, Int64.toInt_zero, eq_self, not_true_eq_false, not_false_eq_true] at c18 <;> omega) | omega)
      all_goals
        skip
        omega
    · try (exfalso; first | (simp (disch := omega) [inS_ix, inS_N, ixL_N, ix_nI, hx, hg] at c18 <;> omega) | (simp (disch := omega) only [h0, h1, h3, Int32.le_iff_toInt_le, Int32.lt_iff_toInt_lt, ← Int32.toInt_inj, nI_toInt, Int32.toInt_zero, m1_toInt, Int64.le_iff_toInt_le, Int64.lt_iff_toInt_lt, ← Int64.toInt_inj, pk_lT, i64_toInt, Int64.toInt_zero, eq_self, not_true_eq_false, not_false_eq_true] at c18 <;> omega) | omega)
      all_goals
        skip
        refine x_iconst (v := (-1)) rfl dX8_round_21 ?_
        refine x_iret hr rfl dX8_round_22 (by omega) (by omega) (hQ _ _ ?_)
        try dsimp only [mI, mSA] at c18
        exact ⟨by simp [spRound, hx, hg], _, rfl, by simp [spRound, hx, hg]; exact mQ_r _⟩
  · have hg := goB_0 e (show p < 2 ^ 31 by omega)
    refine CT.of (ini := false) (by decide +kernel) q2054 q164 (Nat.le_of_ble_eq_true rfl) (by decide) ?_
    intro Γ hw ho hL hr hh hini hal hd hmc hms hQ
    subst hw
    show AW Γ cX8_round 0 0 0 [some (.ref 32), some (.int (nI t))] [] (hM M R)
    have hq := rnd_eq (pm := pm) e (show p < 7 by omega) (M.2.2.1 10) (M.2.2.1 9)
    refine x_aload_n dX8_round_0 rfl ?_
    refine x_iconst (v := nI 0) rfl dX8_round_1 ?_
    refine m_puti (k := 1) (pf_X8_70 (ini := false)) ho hini dX8_round_2 rfl rfl (by decide) (ms_1 _ _) ?_
    refine x_aload_n dX8_round_5 rfl ?_
    refine x_aload_n dX8_round_6 rfl ?_
    refine x_iload_n dX8_round_7 rfl ?_
    refine x_callV1 lk_X8_380 (m_whyNoTin (M := (mI M 1 (nI 0))) hF _) ho dX8_round_8 rfl (Nat.le_of_ble_eq_true rfl) (by omega) (by decide) (by omega) (by omega) ?_
    refine x_ival (y := nI 0) (by first | (simp [whyT, hx, hg]; done) | (simp [whyT, hx, hg, hy]; done)) ?_
    refine m_puti (k := 0) (pf_X8_73 (ini := false)) ho hini dX8_round_11 rfl rfl (by decide) (ms_0 _ _) ?_
    refine x_aload_n dX8_round_14 rfl ?_
    refine x_getf gf_X8_73 ho dX8_round_15 rfl rfl ?_
    refine x_ival (y := nI 0) rfl ?_
    refine x_if_le (tgt := 23) dX8_round_18 (by decide) (fun c18 => ?_) (fun c18 => ?_)
    · try (exfalso; first | (simp (disch := omega) [inS_ix, inS_N, ixL_N, ix_nI, hx, hg] at c18 <;> omega) | (simp (disch := omega) only [h0, h1, h3, Int32.le_iff_toInt_le, Int32.lt_iff_toInt_lt, ← Int32.toInt_inj, nI_toInt, Int32.toInt_zero, m1_toInt, Int64.le_iff_toInt_le, Int64.lt_iff_toInt_lt, ← Int64.toInt_inj, pk_lT, i64_toInt, Int64.toInt_zero, eq_self, not_true_eq_false, not_false_eq_true] at c18 <;> omega) | omega)
      all_goals
        skip
        refine x_aload_n dX8_round_23 rfl ?_
        refine x_iload_n dX8_round_24 rfl ?_
        refine x_callV1 lk_X8_389 (m_laysRound (M := (mI (mI M 1 (nI 0)) 0 (nI 0))) hF _ _ (by omega) hp e) ho dX8_round_25 rfl (Nat.le_of_ble_eq_true rfl) (by omega) (by decide) (by omega) (by omega) ?_
        refine x_aload_n dX8_round_28 rfl ?_
        refine x_getf gf_X8_383 ho dX8_round_29 rfl rfl ?_
        refine x_ival (y := nI (rnd (M.2.2.1 5) pm t).1) (congrArg nI hq.1) ?_
        refine x_iret hr rfl dX8_round_32 (by omega) (by omega) (hQ _ _ ?_)
        try dsimp only [mI, mSA] at c18
        exact ⟨by simp [spRound, hx, hg], _, rfl, by simp [spRound, hx, hg]; exact mQ_G (mQ_r _)⟩
    · exact absurd (by decide +kernel) c18
  · skip
    refine CT.of (ini := false) (by decide +kernel) q2054 q164 (Nat.le_of_ble_eq_true rfl) (by decide) ?_
    intro Γ hw ho hL hr hh hini hal hd hmc hms hQ
    subst hw
    show AW Γ cX8_round 0 0 0 [some (.ref 32), some (.int t9)] [] (hM M R)
    have h0 := hF.c0
    have h1 := hF.c1
    have h3 := hF.c3
    have l0 := hF.l0
    have l1 := hF.l1
    have l3 := hF.l3
    refine x_aload_n dX8_round_0 rfl ?_
    refine x_iconst (v := nI 0) rfl dX8_round_1 ?_
    refine m_puti (k := 1) (pf_X8_70 (ini := false)) ho hini dX8_round_2 rfl rfl (by decide) (ms_1 _ _) ?_
    refine x_aload_n dX8_round_5 rfl ?_
    refine x_aload_n dX8_round_6 rfl ?_
    refine x_iload_n dX8_round_7 rfl ?_
    refine x_callV1 lk_X8_380 (m_whyNoTin (M := (mI M 1 (nI 0))) hF _) ho dX8_round_8 rfl (Nat.le_of_ble_eq_true rfl) (by omega) (by decide) (by omega) (by omega) ?_
    refine x_ival (y := nI 2) (by first | (simp [whyT, hx]; done) | (simp [whyT, hx, hy]; done)) ?_
    refine m_puti (k := 0) (pf_X8_73 (ini := false)) ho hini dX8_round_11 rfl rfl (by decide) (ms_0 _ _) ?_
    refine x_aload_n dX8_round_14 rfl ?_
    refine x_getf gf_X8_73 ho dX8_round_15 rfl rfl ?_
    refine x_ival (y := nI 2) rfl ?_
    refine x_if_le (tgt := 23) dX8_round_18 (by decide) (fun c18 => ?_) (fun c18 => ?_)
    · try (exfalso; first | (simp (disch := omega) [inS_ix, inS_N, ixL_N, ix_nI, hx] at c18 <;> omega) | (simp (disch := omega) only [h0, h1, h3, Int32.le_iff_toInt_le, Int32.lt_iff_toInt_lt, ← Int32.toInt_inj, nI_toInt, Int32.toInt_zero, m1_toInt, Int64.le_iff_toInt_le, Int64.lt_iff_toInt_lt, ← Int64.toInt_inj, pk_lT, i64_toInt, Int64.toInt_zero, eq_self, not_true_eq_false, not_false_eq_true] at c18 <;> omega) | omega)
      all_goals
        skip
        omega
    · try (exfalso; first | (simp (disch := omega) [inS_ix, inS_N, ixL_N, ix_nI, hx] at c18 <;> omega) | (simp (disch := omega) only [h0, h1, h3, Int32.le_iff_toInt_le, Int32.lt_iff_toInt_lt, ← Int32.toInt_inj, nI_toInt, Int32.toInt_zero, m1_toInt, Int64.le_iff_toInt_le, Int64.lt_iff_toInt_lt, ← Int64.toInt_inj, pk_lT, i64_toInt, Int64.toInt_zero, eq_self, not_true_eq_false, not_false_eq_true] at c18 <;> omega) | omega)
      all_goals
        skip
        refine x_iconst (v := (-1)) rfl dX8_round_21 ?_
        refine x_iret hr rfl dX8_round_22 (by omega) (by omega) (hQ _ _ ?_)
        try dsimp only [mI, mSA] at c18
        exact ⟨by simp [spRound, hx], _, rfl, by simp [spRound, hx]; exact mQ_r _⟩
set_option maxHeartbeats 800000 in
theorem m_roundAt {w : xW} {M : mS} {R : xH} {tm pm tn G : Nat} (hF : wF (M.2.2.1 5) tm pm tn G) (t9 k9 : Int32) : CT w yX8_roundAt cX8_roundAt 3 (some (.int)) [] false (12) 0 0 [.ref 32, .int t9, .int k9] (hM M R) (xrt (some (.int (spRoundAt (M.2.2.1 5) pm tn t9 k9).1)) (fun M' => mQ M' (mI (mI M 1 (nI 0)) 0 (nI (spRoundAt (M.2.2.1 5) pm tn t9 k9).2))) R) := by
  have l0 := hF.l0
  have l1 := hF.l1
  have l3 := hF.l3
  rcases ix_or t9 (n := tn) (by omega) with ⟨hx, hx2⟩ | ⟨t, ht, rfl, hx⟩
  rotate_left 1
  rcases hF.on ht with e | ⟨p, hp, e⟩
  rotate_left 1
  rcases ix_or k9 (n := (rnd (M.2.2.1 5) pm t).1) (by have := rnd_bl (c := (M.2.2.1 5)) (pm := pm) (t := t); omega) with ⟨hy, hy2⟩ | ⟨k, hk, rfl, hy⟩
  · have hg := goB_0 e (show p < 2 ^ 31 by omega)
    refine CT.of (ini := false) (by decide +kernel) q2066 q164 (Nat.le_of_ble_eq_true rfl) (by decide) ?_
    intro Γ hw ho hL hr hh hini hal hd hmc hms hQ
    subst hw
    show AW Γ cX8_roundAt 0 0 0 [some (.ref 32), some (.int (nI t)), some (.int k9)] [] (hM M R)
    have hq := rnd_eq (pm := pm) e (show p < 7 by omega) (M.2.2.1 10) (M.2.2.1 9)
    have his : inS k9.toInt64 (lN 0) (nI (rnd (M.2.2.1 5) pm t).1 - nI 1).toInt64 = false := by rw [inI_ix (by have := rnd_bl (c := (M.2.2.1 5)) (pm := pm) (t := t); omega), hy]; rfl
    have hbl := rnd_bl (c := (M.2.2.1 5)) (pm := pm) (t := t)
    refine x_aload_n dX8_roundAt_0 rfl ?_
    refine x_iconst (v := nI 0) rfl dX8_roundAt_1 ?_
    refine m_puti (k := 1) (pf_X8_70 (ini := false)) ho hini dX8_roundAt_2 rfl rfl (by decide) (ms_1 _ _) ?_
    refine x_aload_n dX8_roundAt_5 rfl ?_
    refine x_aload_n dX8_roundAt_6 rfl ?_
    refine x_iload_n dX8_roundAt_7 rfl ?_
    refine x_callV1 lk_X8_380 (m_whyNoTin (M := (mI M 1 (nI 0))) hF _) ho dX8_roundAt_8 rfl (Nat.le_of_ble_eq_true rfl) (by omega) (by decide) (by omega) (by omega) ?_
    refine x_ival (y := nI 0) (by first | (simp [whyT, hx, hg]; done) | (simp [whyT, hx, hg, hy]; done)) ?_
    refine m_puti (k := 0) (pf_X8_73 (ini := false)) ho hini dX8_roundAt_11 rfl rfl (by decide) (ms_0 _ _) ?_
    refine x_aload_n dX8_roundAt_14 rfl ?_
    refine x_getf gf_X8_73 ho dX8_roundAt_15 rfl rfl ?_
    refine x_ival (y := nI 0) rfl ?_
    refine x_if_le (tgt := 23) dX8_roundAt_18 (by decide) (fun c18 => ?_) (fun c18 => ?_)
    · try (exfalso; first | (simp (disch := omega) [inS_ix, inS_N, ixL_N, ix_nI, hx, hg, hy] at c18 <;> omega) | (simp (disch := omega) only [h0, h1, h3, Int32.le_iff_toInt_le, Int32.lt_iff_toInt_lt, ← Int32.toInt_inj, nI_toInt, Int32.toInt_zero, m1_toInt, Int64.le_iff_toInt_le, Int64.lt_iff_toInt_lt, ← Int64.toInt_inj, pk_lT, i64_toInt, Int64.toInt_zero, eq_self, not_true_eq_false, not_false_eq_true] at c18 <;> omega) | omega)
      all_goals
        skip
        refine x_aload_n dX8_roundAt_23 rfl ?_
        refine x_iload_n dX8_roundAt_24 rfl ?_
        refine x_callV1 lk_X8_389 (m_laysRound (M := (mI (mI M 1 (nI 0)) 0 (nI 0))) hF _ _ (by omega) hp e) ho dX8_roundAt_25 rfl (Nat.le_of_ble_eq_true rfl) (by omega) (by decide) (by omega) (by omega) ?_
        refine x_iload_n dX8_roundAt_28 rfl ?_
        refine x_i2l dX8_roundAt_29 ?_
        refine x_lconst (v := lN 0) rfl dX8_roundAt_30 ?_
        refine x_aload_n dX8_roundAt_31 rfl ?_
        refine x_getf gf_X8_383 ho dX8_roundAt_32 rfl rfl ?_
        refine x_ival (y := nI (rnd (M.2.2.1 5) pm t).1) (congrArg nI hq.1) ?_
        refine x_iconst (v := nI 1) rfl dX8_roundAt_35 ?_
        refine x_isub dX8_roundAt_36 ?_
        refine x_i2l dX8_roundAt_37 ?_
        refine x_callS3 lk_X8_105 (m_isIn _ _ _) ho dX8_roundAt_38 (Nat.le_of_ble_eq_true rfl) (by omega) (by decide) (by omega) (by omega) ?_
        refine x_ifb_eq (tgt := 53) dX8_roundAt_41 (by decide) (fun c41 => ?_) (fun c41 => ?_)
        · try (exfalso; first | (simp (disch := omega) [inS_ix, inS_N, ixL_N, ix_nI, hx, hg, hy] at c41 <;> omega) | (simp (disch := omega) only [h0, h1, h3, Int32.le_iff_toInt_le, Int32.lt_iff_toInt_lt, ← Int32.toInt_inj, nI_toInt, Int32.toInt_zero, m1_toInt, Int64.le_iff_toInt_le, Int64.lt_iff_toInt_lt, ← Int64.toInt_inj, pk_lT, i64_toInt, Int64.toInt_zero, eq_self, not_true_eq_false, not_false_eq_true] at c18 c41 <;> omega) | omega)
          all_goals
            skip
            refine x_aload_n dX8_roundAt_53 rfl ?_
            refine x_bipush (v := nI 8) rfl dX8_roundAt_54 ?_
            refine x_callV1 lk_X8_327 (m_refuse (M := grM (mI (mI M 1 (nI 0)) 0 (nI 0)) (goR (M.2.2.1 5) pm t 6 1 (bi p) (0, M.2.2.1 10, upd (M.2.2.1 9) 0 (nI p)))) _) ho dX8_roundAt_56 rfl (Nat.le_of_ble_eq_true rfl) (by omega) (by decide) (by omega) (by omega) ?_
            refine x_iret hr rfl dX8_roundAt_59 (by omega) (by omega) (hQ _ _ ?_)
            try dsimp only [mI, mSA] at c18 c41
            exact ⟨by simp [spRoundAt, hx, hg, hy], _, rfl, by simp [spRoundAt, hx, hg, hy]; first | exact mQ_GR | exact mQ_G (mQ_r _)⟩
        · exact absurd (c41.symm.trans his) (by decide)
    · exact absurd (by decide +kernel) c18
  · have hg := goB_0 e (show p < 2 ^ 31 by omega)
    refine CT.of (ini := false) (by decide +kernel) q2066 q164 (Nat.le_of_ble_eq_true rfl) (by decide) ?_
    intro Γ hw ho hL hr hh hini hal hd hmc hms hQ
    subst hw
    show AW Γ cX8_roundAt 0 0 0 [some (.ref 32), some (.int (nI t)), some (.int (nI k))] [] (hM M R)
    have hq := rnd_eq (pm := pm) e (show p < 7 by omega) (M.2.2.1 10) (M.2.2.1 9)
    have his : inS (lN k) (lN 0) (nI (rnd (M.2.2.1 5) pm t).1 - nI 1).toInt64 = true := by rw [← nI_l (by have := rnd_bl (c := (M.2.2.1 5)) (pm := pm) (t := t); omega), inI_ix (by have := rnd_bl (c := (M.2.2.1 5)) (pm := pm) (t := t); omega), hy]; rfl
    have hbl := rnd_bl (c := (M.2.2.1 5)) (pm := pm) (t := t)
    refine x_aload_n dX8_roundAt_0 rfl ?_
    refine x_iconst (v := nI 0) rfl dX8_roundAt_1 ?_
    refine m_puti (k := 1) (pf_X8_70 (ini := false)) ho hini dX8_roundAt_2 rfl rfl (by decide) (ms_1 _ _) ?_
    refine x_aload_n dX8_roundAt_5 rfl ?_
    refine x_aload_n dX8_roundAt_6 rfl ?_
    refine x_iload_n dX8_roundAt_7 rfl ?_
    refine x_callV1 lk_X8_380 (m_whyNoTin (M := (mI M 1 (nI 0))) hF _) ho dX8_roundAt_8 rfl (Nat.le_of_ble_eq_true rfl) (by omega) (by decide) (by omega) (by omega) ?_
    refine x_ival (y := nI 0) (by first | (simp [whyT, hx, hg]; done) | (simp [whyT, hx, hg, hy]; done)) ?_
    refine m_puti (k := 0) (pf_X8_73 (ini := false)) ho hini dX8_roundAt_11 rfl rfl (by decide) (ms_0 _ _) ?_
    refine x_aload_n dX8_roundAt_14 rfl ?_
    refine x_getf gf_X8_73 ho dX8_roundAt_15 rfl rfl ?_
    refine x_ival (y := nI 0) rfl ?_
    refine x_if_le (tgt := 23) dX8_roundAt_18 (by decide) (fun c18 => ?_) (fun c18 => ?_)
    · try (exfalso; first | (simp (disch := omega) [inS_ix, inS_N, ixL_N, ix_nI, hx, hg, hy] at c18 <;> omega) | (simp (disch := omega) only [h0, h1, h3, Int32.le_iff_toInt_le, Int32.lt_iff_toInt_lt, ← Int32.toInt_inj, nI_toInt, Int32.toInt_zero, m1_toInt, Int64.le_iff_toInt_le, Int64.lt_iff_toInt_lt, ← Int64.toInt_inj, pk_lT, i64_toInt, Int64.toInt_zero, eq_self, not_true_eq_false, not_false_eq_true] at c18 <;> omega) | omega)
      all_goals
        skip
        refine x_aload_n dX8_roundAt_23 rfl ?_
        refine x_iload_n dX8_roundAt_24 rfl ?_
        refine x_callV1 lk_X8_389 (m_laysRound (M := (mI (mI M 1 (nI 0)) 0 (nI 0))) hF _ _ (by omega) hp e) ho dX8_roundAt_25 rfl (Nat.le_of_ble_eq_true rfl) (by omega) (by decide) (by omega) (by omega) ?_
        refine x_iload_n dX8_roundAt_28 rfl ?_
        refine x_i2lN (by omega) dX8_roundAt_29 ?_
        refine x_lconst (v := lN 0) rfl dX8_roundAt_30 ?_
        refine x_aload_n dX8_roundAt_31 rfl ?_
        refine x_getf gf_X8_383 ho dX8_roundAt_32 rfl rfl ?_
        refine x_ival (y := nI (rnd (M.2.2.1 5) pm t).1) (congrArg nI hq.1) ?_
        refine x_iconst (v := nI 1) rfl dX8_roundAt_35 ?_
        refine x_isub dX8_roundAt_36 ?_
        refine x_i2l dX8_roundAt_37 ?_
        refine x_callS3 lk_X8_105 (m_isIn _ _ _) ho dX8_roundAt_38 (Nat.le_of_ble_eq_true rfl) (by omega) (by decide) (by omega) (by omega) ?_
        refine x_ifb_eq (tgt := 53) dX8_roundAt_41 (by decide) (fun c41 => ?_) (fun c41 => ?_)
        · exact absurd (c41.symm.trans his) (by decide)
        · try (exfalso; first | (simp (disch := omega) [inS_ix, inS_N, ixL_N, ix_nI, hx, hg, hy] at c41 <;> omega) | (simp (disch := omega) only [h0, h1, h3, Int32.le_iff_toInt_le, Int32.lt_iff_toInt_lt, ← Int32.toInt_inj, nI_toInt, Int32.toInt_zero, m1_toInt, Int64.le_iff_toInt_le, Int64.lt_iff_toInt_lt, ← Int64.toInt_inj, pk_lT, i64_toInt, Int64.toInt_zero, eq_self, not_true_eq_false, not_false_eq_true] at c18 c41 <;> omega) | omega)
          all_goals
            skip
            refine x_aload_n dX8_roundAt_44 rfl ?_
            refine x_getf gf_X8_50 ho dX8_roundAt_45 rfl rfl ?_
            refine x_iload_n dX8_roundAt_48 rfl ?_
            refine x_iald dX8_roundAt_49 rfl (by first | rfl | exact nI_add _ _ | (simp only [nI_add, pk_mul]; rfl)) (by omega) (by decide) ?_
            refine x_ival (y := (rnd (M.2.2.1 5) pm t).2.1 k) (hq.2.2 k (by rw [hq.1]; exact hk)) ?_
            refine x_goto (tgt := 59) dX8_roundAt_50 (by decide) ?_
            refine x_iret hr rfl dX8_roundAt_59 (by omega) (by omega) (hQ _ _ ?_)
            try dsimp only [mI, mSA] at c18 c41
            exact ⟨by simp [spRoundAt, hx, hg, hy], _, rfl, by simp [spRoundAt, hx, hg, hy]; first | exact mQ_GR | exact mQ_G (mQ_r _)⟩
    · exact absurd (by decide +kernel) c18
  · skip
    refine CT.of (ini := false) (by decide +kernel) q2066 q164 (Nat.le_of_ble_eq_true rfl) (by decide) ?_
    intro Γ hw ho hL hr hh hini hal hd hmc hms hQ
    subst hw
    show AW Γ cX8_roundAt 0 0 0 [some (.ref 32), some (.int t9), some (.int k9)] [] (hM M R)
    have h0 := hF.c0
    have h1 := hF.c1
    have h3 := hF.c3
    have l0 := hF.l0
    have l1 := hF.l1
    have l3 := hF.l3
    refine x_aload_n dX8_roundAt_0 rfl ?_
    refine x_iconst (v := nI 0) rfl dX8_roundAt_1 ?_
    refine m_puti (k := 1) (pf_X8_70 (ini := false)) ho hini dX8_roundAt_2 rfl rfl (by decide) (ms_1 _ _) ?_
    refine x_aload_n dX8_roundAt_5 rfl ?_
    refine x_aload_n dX8_roundAt_6 rfl ?_
    refine x_iload_n dX8_roundAt_7 rfl ?_
    refine x_callV1 lk_X8_380 (m_whyNoTin (M := (mI M 1 (nI 0))) hF _) ho dX8_roundAt_8 rfl (Nat.le_of_ble_eq_true rfl) (by omega) (by decide) (by omega) (by omega) ?_
    refine x_ival (y := nI 2) (by first | (simp [whyT, hx]; done) | (simp [whyT, hx, hy]; done)) ?_
    refine m_puti (k := 0) (pf_X8_73 (ini := false)) ho hini dX8_roundAt_11 rfl rfl (by decide) (ms_0 _ _) ?_
    refine x_aload_n dX8_roundAt_14 rfl ?_
    refine x_getf gf_X8_73 ho dX8_roundAt_15 rfl rfl ?_
    refine x_ival (y := nI 2) rfl ?_
    refine x_if_le (tgt := 23) dX8_roundAt_18 (by decide) (fun c18 => ?_) (fun c18 => ?_)
    · try (exfalso; first | (simp (disch := omega) [inS_ix, inS_N, ixL_N, ix_nI, hx] at c18 <;> omega) | (simp (disch := omega) only [h0, h1, h3, Int32.le_iff_toInt_le, Int32.lt_iff_toInt_lt, ← Int32.toInt_inj, nI_toInt, Int32.toInt_zero, m1_toInt, Int64.le_iff_toInt_le, Int64.lt_iff_toInt_lt, ← Int64.toInt_inj, pk_lT, i64_toInt, Int64.toInt_zero, eq_self, not_true_eq_false, not_false_eq_true] at c18 <;> omega) | omega)
      all_goals
        skip
        omega
    · try (exfalso; first | (simp (disch := omega) [inS_ix, inS_N, ixL_N, ix_nI, hx] at c18 <;> omega) | (simp (disch := omega) only [h0, h1, h3, Int32.le_iff_toInt_le, Int32.lt_iff_toInt_lt, ← Int32.toInt_inj, nI_toInt, Int32.toInt_zero, m1_toInt, Int64.le_iff_toInt_le, Int64.lt_iff_toInt_lt, ← Int64.toInt_inj, pk_lT, i64_toInt, Int64.toInt_zero, eq_self, not_true_eq_false, not_false_eq_true] at c18 <;> omega) | omega)
      all_goals
        skip
        refine x_iconst (v := (-1)) rfl dX8_roundAt_21 ?_
        refine x_iret hr rfl dX8_roundAt_22 (by omega) (by omega) (hQ _ _ ?_)
        try dsimp only [mI, mSA] at c18
        exact ⟨by simp [spRoundAt, hx], _, rfl, by simp [spRoundAt, hx]; exact mQ_r _⟩
  · have hg := goB_1 e
    refine CT.of (ini := false) (by decide +kernel) q2066 q164 (Nat.le_of_ble_eq_true rfl) (by decide) ?_
    intro Γ hw ho hL hr hh hini hal hd hmc hms hQ
    subst hw
    show AW Γ cX8_roundAt 0 0 0 [some (.ref 32), some (.int (nI t)), some (.int k9)] [] (hM M R)
    have h0 := hF.c0
    have h1 := hF.c1
    have h3 := hF.c3
    have l0 := hF.l0
    have l1 := hF.l1
    have l3 := hF.l3
    refine x_aload_n dX8_roundAt_0 rfl ?_
    refine x_iconst (v := nI 0) rfl dX8_roundAt_1 ?_
    refine m_puti (k := 1) (pf_X8_70 (ini := false)) ho hini dX8_roundAt_2 rfl rfl (by decide) (ms_1 _ _) ?_
    refine x_aload_n dX8_roundAt_5 rfl ?_
    refine x_aload_n dX8_roundAt_6 rfl ?_
    refine x_iload_n dX8_roundAt_7 rfl ?_
    refine x_callV1 lk_X8_380 (m_whyNoTin (M := (mI M 1 (nI 0))) hF _) ho dX8_roundAt_8 rfl (Nat.le_of_ble_eq_true rfl) (by omega) (by decide) (by omega) (by omega) ?_
    refine x_ival (y := nI 9) (by first | (simp [whyT, hx, hg]; done) | (simp [whyT, hx, hg, hy]; done)) ?_
    refine m_puti (k := 0) (pf_X8_73 (ini := false)) ho hini dX8_roundAt_11 rfl rfl (by decide) (ms_0 _ _) ?_
    refine x_aload_n dX8_roundAt_14 rfl ?_
    refine x_getf gf_X8_73 ho dX8_roundAt_15 rfl rfl ?_
    refine x_ival (y := nI 9) rfl ?_
    refine x_if_le (tgt := 23) dX8_roundAt_18 (by decide) (fun c18 => ?_) (fun c18 => ?_)
    · try (exfalso; first | (simp (disch := omega) [inS_ix, inS_N, ixL_N, ix_nI, hx, hg] at c18 <;> omega) | (simp (disch := omega) only [h0, h1, h3, Int32.le_iff_toInt_le, Int32.lt_iff_toInt_lt, ← Int32.toInt_inj, nI_toInt, Int32.toInt_zero, m1_toInt, Int64.le_iff_toInt_le, Int64.lt_iff_toInt_lt, ← Int64.toInt_inj, pk_lT, i64_toInt, Int64.toInt_zero, eq_self, not_true_eq_false, not_false_eq_true] at c18 <;> omega) | omega)
      all_goals
        skip
        omega
    · try (exfalso; first | (simp (disch := omega) [inS_ix, inS_N, ixL_N, ix_nI, hx, hg] at c18 <;> omega) | (simp (disch := omega) only [h0, h1, h3, Int32.le_iff_toInt_le, Int32.lt_iff_toInt_lt, ← Int32.toInt_inj, nI_toInt, Int32.toInt_zero, m1_toInt, Int64.le_iff_toInt_le, Int64.lt_iff_toInt_lt, ← Int64.toInt_inj, pk_lT, i64_toInt, Int64.toInt_zero, eq_self, not_true_eq_false, not_false_eq_true] at c18 <;> omega) | omega)
      all_goals
        skip
        refine x_iconst (v := (-1)) rfl dX8_roundAt_21 ?_
        refine x_iret hr rfl dX8_roundAt_22 (by omega) (by omega) (hQ _ _ ?_)
        try dsimp only [mI, mSA] at c18
        exact ⟨by simp [spRoundAt, hx, hg], _, rfl, by simp [spRoundAt, hx, hg]; exact mQ_r _⟩
