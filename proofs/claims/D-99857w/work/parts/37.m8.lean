/-! ===== the model: shares, marks ===== -/
set_option maxRecDepth 100000
set_option maxHeartbeats 800000 in
theorem m_share {w : xW} {M : mS} {R : xH} {tm pm tn G : Nat} (hF : wF (M.2.2.1 5) tm pm tn G) (p9 : Int32) : CT w yX8_share cX8_share 3 (some (.boolean)) [] false (5) 0 0 [.ref 32, .int p9] (hM M R) (xret (some (.int (xb (decide (spShare (M.2.2.1 5) pm tn p9 = 0))))) (hM (shM M pm tn p9) R)) := by
  have l1 := hF.l1
  rcases ix_or p9 (n := pm) (by omega) with ⟨hx, hx2⟩ | ⟨j, hj, rfl, hx⟩
  rotate_left 1
  obtain ⟨A, hA, eA⟩ : ∃ x, x ≤ 891 ∧ thS (M.2.2.1 5) tn = nI x := waS_N hF _
  obtain ⟨B, hB, eB⟩ := waS_N hF (onS (M.2.2.1 5) tn (nI j))
  by_cases h9 : A = 0
  · subst h9
    have hsp : spShare (M.2.2.1 5) pm tn (nI j) = 8 := by rw [spShare]; simp only [hx]; exact if_pos (by rw [eA]; exact cl_nI (by omega))
    refine CT.of (ini := false) (by decide +kernel) q2191 q164 (Nat.le_of_ble_eq_true rfl) (by decide) ?_
    intro Γ hw ho hL hr hh hini hal hd hmc hms hQ
    subst hw
    show AW Γ cX8_share 0 0 0 [some (.ref 32), some (.int (nI j)), none] [] (hM M R)
    have h0 := hF.c0
    have h1 := hF.c1
    have h3 := hF.c3
    have l0 := hF.l0
    have l1 := hF.l1
    have l3 := hF.l3
    refine x_aload_n dX8_share_0 rfl ?_
    refine x_iconst (v := nI 0) rfl dX8_share_1 ?_
    refine m_puti (k := 1) (pf_X8_70 (ini := false)) ho hini dX8_share_2 rfl rfl (by decide) (ms_1 _ _) ?_
    refine x_aload_n dX8_share_5 rfl ?_
    refine x_iconst (v := nI 0) rfl dX8_share_6 ?_
    refine m_puti (k := 0) (pf_X8_73 (ini := false)) ho hini dX8_share_7 rfl rfl (by decide) (ms_0 _ _) ?_
    refine x_aload_n dX8_share_10 rfl ?_
    refine x_iload_n dX8_share_11 rfl ?_
    refine x_i2lN (by omega) dX8_share_12 ?_
    refine x_callV1 lk_X8_336 (m_isPersonAt (M := (mI (mI M 1 (nI 0)) 0 (nI 0))) hF _) ho dX8_share_13 rfl (Nat.le_of_ble_eq_true rfl) (by omega) (by decide) (by omega) (by omega) ?_
    refine x_ifb_ne (tgt := 25) dX8_share_16 (by decide) (fun c16 => ?_) (fun c16 => ?_)
    · try (exfalso; first | (simp (disch := omega) [inS_ix, inS_N, ixL_N, ix_nI, hx, hj] at c16 <;> omega) | (simp (disch := omega) only [h0, h1, h3, Int32.le_iff_toInt_le, Int32.lt_iff_toInt_lt, ← Int32.toInt_inj, nI_toInt, Int32.toInt_zero, m1_toInt, Int64.le_iff_toInt_le, Int64.lt_iff_toInt_lt, ← Int64.toInt_inj, pk_lT, i64_toInt, Int64.toInt_zero, eq_self, not_true_eq_false, not_false_eq_true] at c16 <;> omega) | omega)
      all_goals
        skip
        refine x_aload_n dX8_share_25 rfl ?_
        refine x_callV0 lk_X8_330 (m_allThere (M := (mI (mI M 1 (nI 0)) 0 (nI 0))) hF) ho dX8_share_26 rfl (Nat.le_of_ble_eq_true rfl) (by omega) (by decide) (by omega) (by omega) ?_
        refine x_ival (y := nI 0) eA ?_
        refine x_ist2 hL (by decide) rfl dX8_share_29 ?_
        refine x_iload_n dX8_share_30 rfl ?_
        refine x_if_ne (tgt := 43) dX8_share_31 (by decide) (fun c31 => ?_) (fun c31 => ?_)
        · try (exfalso; first | (simp (disch := omega) [inS_ix, inS_N, ixL_N, ix_nI, hx, hj] at c31 <;> omega) | (simp (disch := omega) only [h0, h1, h3, Int32.le_iff_toInt_le, Int32.lt_iff_toInt_lt, ← Int32.toInt_inj, nI_toInt, Int32.toInt_zero, m1_toInt, Int64.le_iff_toInt_le, Int64.lt_iff_toInt_lt, ← Int64.toInt_inj, pk_lT, i64_toInt, Int64.toInt_zero, eq_self, not_true_eq_false, not_false_eq_true] at c16 c31 <;> omega) | omega)
          all_goals
            skip
            omega
        · try (exfalso; first | (simp (disch := omega) [inS_ix, inS_N, ixL_N, ix_nI, hx, hj] at c31 <;> omega) | (simp (disch := omega) only [h0, h1, h3, Int32.le_iff_toInt_le, Int32.lt_iff_toInt_lt, ← Int32.toInt_inj, nI_toInt, Int32.toInt_zero, m1_toInt, Int64.le_iff_toInt_le, Int64.lt_iff_toInt_lt, ← Int64.toInt_inj, pk_lT, i64_toInt, Int64.toInt_zero, eq_self, not_true_eq_false, not_false_eq_true] at c16 c31 <;> omega) | omega)
          all_goals
            skip
            refine x_aload_n dX8_share_34 rfl ?_
            refine x_bipush (v := nI 8) rfl dX8_share_35 ?_
            refine x_callV1 lk_X8_85 (m_no _) ho dX8_share_37 rfl (Nat.le_of_ble_eq_true rfl) (by omega) (by decide) (by omega) (by omega) ?_
            refine x_goto (tgt := 59) dX8_share_40 (by decide) ?_
            refine x_iret hr rfl dX8_share_59 (by omega) (by omega) (hQ _ _ ?_)
            try dsimp only [mI, mSA] at c16 c31
            exact ⟨by rw [hsp]; rfl, by rw [shM, if_neg (by rw [hsp]; decide), hsp, mI_mI]⟩
    · try (exfalso; first | (simp (disch := omega) [inS_ix, inS_N, ixL_N, ix_nI, hx, hj] at c16 <;> omega) | (simp (disch := omega) only [h0, h1, h3, Int32.le_iff_toInt_le, Int32.lt_iff_toInt_lt, ← Int32.toInt_inj, nI_toInt, Int32.toInt_zero, m1_toInt, Int64.le_iff_toInt_le, Int64.lt_iff_toInt_lt, ← Int64.toInt_inj, pk_lT, i64_toInt, Int64.toInt_zero, eq_self, not_true_eq_false, not_false_eq_true] at c16 <;> omega) | omega)
      all_goals
        skip
        refine x_aload_n dX8_share_19 rfl ?_
        refine x_iconst (v := nI 2) rfl dX8_share_20 ?_
        refine x_callV1 lk_X8_85 (m_no _) ho dX8_share_21 rfl (Nat.le_of_ble_eq_true rfl) (by omega) (by decide) (by omega) (by omega) ?_
        refine x_iret hr rfl dX8_share_24 (by omega) (by omega) (hQ _ _ ?_)
        try dsimp only [mI, mSA] at c16
        exact ⟨by rw [hsp]; rfl, by rw [shM, if_neg (by rw [hsp]; decide), hsp, mI_mI]⟩
  · have hsp : spShare (M.2.2.1 5) pm tn (nI j) = 0 := by rw [spShare]; simp only [hx]; exact if_neg (by rw [eA, cl_nI (by omega)]; exact h9)
    refine CT.of (ini := false) (by decide +kernel) q2191 q164 (Nat.le_of_ble_eq_true rfl) (by decide) ?_
    intro Γ hw ho hL hr hh hini hal hd hmc hms hQ
    subst hw
    show AW Γ cX8_share 0 0 0 [some (.ref 32), some (.int (nI j)), none] [] (hM M R)
    have h0 := hF.c0
    have h1 := hF.c1
    have h3 := hF.c3
    have l0 := hF.l0
    have l1 := hF.l1
    have l3 := hF.l3
    refine x_aload_n dX8_share_0 rfl ?_
    refine x_iconst (v := nI 0) rfl dX8_share_1 ?_
    refine m_puti (k := 1) (pf_X8_70 (ini := false)) ho hini dX8_share_2 rfl rfl (by decide) (ms_1 _ _) ?_
    refine x_aload_n dX8_share_5 rfl ?_
    refine x_iconst (v := nI 0) rfl dX8_share_6 ?_
    refine m_puti (k := 0) (pf_X8_73 (ini := false)) ho hini dX8_share_7 rfl rfl (by decide) (ms_0 _ _) ?_
    refine x_aload_n dX8_share_10 rfl ?_
    refine x_iload_n dX8_share_11 rfl ?_
    refine x_i2lN (by omega) dX8_share_12 ?_
    refine x_callV1 lk_X8_336 (m_isPersonAt (M := (mI (mI M 1 (nI 0)) 0 (nI 0))) hF _) ho dX8_share_13 rfl (Nat.le_of_ble_eq_true rfl) (by omega) (by decide) (by omega) (by omega) ?_
    refine x_ifb_ne (tgt := 25) dX8_share_16 (by decide) (fun c16 => ?_) (fun c16 => ?_)
    · try (exfalso; first | (simp (disch := omega) [inS_ix, inS_N, ixL_N, ix_nI, hx, hj] at c16 <;> omega) | (simp (disch := omega) only [hx, Int32.le_iff_toInt_le, Int32.lt_iff_toInt_lt, ← Int32.toInt_inj, nI_toInt, Int32.toInt_zero, m1_toInt, Int64.le_iff_toInt_le, Int64.lt_iff_toInt_lt, ← Int64.toInt_inj, pk_lT, i64_toInt, Int64.toInt_zero, eq_self, not_true_eq_false, not_false_eq_true] at c16 <;> omega) | omega)
      all_goals
        skip
        refine x_aload_n dX8_share_25 rfl ?_
        refine x_callV0 lk_X8_330 (m_allThere (M := (mI (mI M 1 (nI 0)) 0 (nI 0))) hF) ho dX8_share_26 rfl (Nat.le_of_ble_eq_true rfl) (by omega) (by decide) (by omega) (by omega) ?_
        refine x_ival (y := nI A) eA ?_
        refine x_ist2 hL (by decide) rfl dX8_share_29 ?_
        refine x_iload_n dX8_share_30 rfl ?_
        refine x_if_ne (tgt := 43) dX8_share_31 (by decide) (fun c31 => ?_) (fun c31 => ?_)
        · try (exfalso; first | (simp (disch := omega) [inS_ix, inS_N, ixL_N, ix_nI, hx, hj] at c31 <;> omega) | (simp (disch := omega) only [hx, Int32.le_iff_toInt_le, Int32.lt_iff_toInt_lt, ← Int32.toInt_inj, nI_toInt, Int32.toInt_zero, m1_toInt, Int64.le_iff_toInt_le, Int64.lt_iff_toInt_lt, ← Int64.toInt_inj, pk_lT, i64_toInt, Int64.toInt_zero, eq_self, not_true_eq_false, not_false_eq_true] at c16 c31 <;> omega) | omega)
          all_goals
            skip
            refine x_aload_n dX8_share_43 rfl ?_
            refine x_aload_n dX8_share_44 rfl ?_
            refine x_aload_n dX8_share_45 rfl ?_
            refine x_iload_n dX8_share_46 rfl ?_
            refine x_callV1 lk_X8_341 (m_tinsOn (M := (mI (mI M 1 (nI 0)) 0 (nI 0))) hF _) ho dX8_share_47 rfl (Nat.le_of_ble_eq_true rfl) (by omega) (by decide) (by omega) (by omega) ?_
            refine x_callV1 lk_X8_322 (m_worthAll (M := (mI (mI M 1 (nI 0)) 0 (nI 0))) hF _) ho dX8_share_50 rfl (Nat.le_of_ble_eq_true rfl) (by omega) (by decide) (by omega) (by omega) ?_
            refine x_ival (y := nI B) eB ?_
            refine x_i2lN (by omega) dX8_share_53 ?_
            refine x_iload_n dX8_share_54 rfl ?_
            refine x_i2lN (by omega) dX8_share_55 ?_
            refine x_callV2 lk_X8_456 (m_fraction (M := (mI (mI M 1 (nI 0)) 0 (nI 0))) _ _ (by omega) (by omega) (by omega)) ho dX8_share_56 rfl (Nat.le_of_ble_eq_true rfl) (by omega) (by decide) (by omega) (by omega) ?_
            refine x_iret hr rfl dX8_share_59 (by omega) (by omega) (hQ _ _ ?_)
            try dsimp only [mI, mSA] at c16 c31
            exact ⟨by rw [hsp]; rfl, by rw [shM, if_pos hsp, eA, eB, cl_nI (by omega), cl_nI (by omega)]⟩
        · exact absurd ((nI_e0 (by omega)).mp c31) h9
    · try (exfalso; first | (simp (disch := omega) [inS_ix, inS_N, ixL_N, ix_nI, hx, hj] at c16 <;> omega) | (simp (disch := omega) only [hx, Int32.le_iff_toInt_le, Int32.lt_iff_toInt_lt, ← Int32.toInt_inj, nI_toInt, Int32.toInt_zero, m1_toInt, Int64.le_iff_toInt_le, Int64.lt_iff_toInt_lt, ← Int64.toInt_inj, pk_lT, i64_toInt, Int64.toInt_zero, eq_self, not_true_eq_false, not_false_eq_true] at c16 <;> omega) | omega)
      all_goals
        skip
        refine x_aload_n dX8_share_19 rfl ?_
        refine x_iconst (v := nI 2) rfl dX8_share_20 ?_
        refine x_callV1 lk_X8_85 (m_no _) ho dX8_share_21 rfl (Nat.le_of_ble_eq_true rfl) (by omega) (by decide) (by omega) (by omega) ?_
        refine x_iret hr rfl dX8_share_24 (by omega) (by omega) (hQ _ _ ?_)
        try dsimp only [mI, mSA] at c16
        exact ⟨by rw [hsp]; rfl, by rw [shM, if_pos hsp, eA, eB, cl_nI (by omega), cl_nI (by omega)]⟩
  · skip
    refine CT.of (ini := false) (by decide +kernel) q2191 q164 (Nat.le_of_ble_eq_true rfl) (by decide) ?_
    intro Γ hw ho hL hr hh hini hal hd hmc hms hQ
    subst hw
    show AW Γ cX8_share 0 0 0 [some (.ref 32), some (.int p9), none] [] (hM M R)
    have h0 := hF.c0
    have h1 := hF.c1
    have h3 := hF.c3
    have l0 := hF.l0
    have l1 := hF.l1
    have l3 := hF.l3
    refine x_aload_n dX8_share_0 rfl ?_
    refine x_iconst (v := nI 0) rfl dX8_share_1 ?_
    refine m_puti (k := 1) (pf_X8_70 (ini := false)) ho hini dX8_share_2 rfl rfl (by decide) (ms_1 _ _) ?_
    refine x_aload_n dX8_share_5 rfl ?_
    refine x_iconst (v := nI 0) rfl dX8_share_6 ?_
    refine m_puti (k := 0) (pf_X8_73 (ini := false)) ho hini dX8_share_7 rfl rfl (by decide) (ms_0 _ _) ?_
    refine x_aload_n dX8_share_10 rfl ?_
    refine x_iload_n dX8_share_11 rfl ?_
    refine x_i2l dX8_share_12 ?_
    refine x_callV1 lk_X8_336 (m_isPersonAt (M := (mI (mI M 1 (nI 0)) 0 (nI 0))) hF _) ho dX8_share_13 rfl (Nat.le_of_ble_eq_true rfl) (by omega) (by decide) (by omega) (by omega) ?_
    refine x_ifb_ne (tgt := 25) dX8_share_16 (by decide) (fun c16 => ?_) (fun c16 => ?_)
    · try (exfalso; first | (simp (disch := omega) [inS_ix, inS_N, ixL_N, ix_nI, hx, ixL_i] at c16 <;> omega) | (simp (disch := omega) only [h0, h1, h3, Int32.le_iff_toInt_le, Int32.lt_iff_toInt_lt, ← Int32.toInt_inj, nI_toInt, Int32.toInt_zero, m1_toInt, Int64.le_iff_toInt_le, Int64.lt_iff_toInt_lt, ← Int64.toInt_inj, pk_lT, i64_toInt, Int64.toInt_zero, eq_self, not_true_eq_false, not_false_eq_true] at c16 <;> omega) | omega)
      all_goals
        skip
        omega
    · try (exfalso; first | (simp (disch := omega) [inS_ix, inS_N, ixL_N, ix_nI, hx, ixL_i] at c16 <;> omega) | (simp (disch := omega) only [h0, h1, h3, Int32.le_iff_toInt_le, Int32.lt_iff_toInt_lt, ← Int32.toInt_inj, nI_toInt, Int32.toInt_zero, m1_toInt, Int64.le_iff_toInt_le, Int64.lt_iff_toInt_lt, ← Int64.toInt_inj, pk_lT, i64_toInt, Int64.toInt_zero, eq_self, not_true_eq_false, not_false_eq_true] at c16 <;> omega) | omega)
      all_goals
        skip
        refine x_aload_n dX8_share_19 rfl ?_
        refine x_iconst (v := nI 2) rfl dX8_share_20 ?_
        refine x_callV1 lk_X8_85 (m_no _) ho dX8_share_21 rfl (Nat.le_of_ble_eq_true rfl) (by omega) (by decide) (by omega) (by omega) ?_
        refine x_iret hr rfl dX8_share_24 (by omega) (by omega) (hQ _ _ ?_)
        try dsimp only [mI, mSA] at c16
        exact ⟨by simp [spShare, hx, xb], by simp [shM, spShare, hx, mI_mI]⟩
set_option maxHeartbeats 800000 in
theorem m_copy {w : xW} {M : mS} {R : xH} (f t : Nat) (hf : f < 5) (ht : t < 5) (hne : f ≠ t) : CT w yX8_copy cX8_copy 4 none [] false (0) 0 0 [.ref 32, .int (nI f), .int (nI t)] (hM M R) (xret none (hM (cpM M f t) R)) := by
  refine CT.of (ini := false) (by decide +kernel) q1876 q164 (Nat.le_of_ble_eq_true rfl) (by decide) ?_
  intro Γ hw ho hL hr hh hini hal hd hmc hms hQ
  subst hw
  show AW Γ cX8_copy 0 0 0 [some (.ref 32), some (.int (nI f)), some (.int (nI t)), none] [] (hM M R)
  refine x_iconst (v := nI 0) rfl dX8_copy_0 ?_
  refine x_ist3 hL (by decide) rfl dX8_copy_1 ?_
  refine x_eq (h' := hM (mSA M 5 (cpC (M.2.2.1 5) f t 0)) R) rfl rfl (by rw [cpC, lay_0]; exact congrArg (hM · R) mSA_id.symm) ?_
  refine x_for (n := 359) (fun i => [some (.ref 32), some (.int (nI f)), some (.int (nI t)), some (.int (nI i))]) (fun i => []) (fun i => hM (mSA M 5 (cpC (M.2.2.1 5) f t i)) R) ?_ (fun i hi ihi => ?_)
  · skip
    refine x_iload_n dX8_copy_2 rfl ?_
    refine x_sipush (v := nI 359) rfl dX8_copy_3 ?_
    refine x_icmp_ge (tgt := 39) dX8_copy_6 (by decide) (fun c6 => ?_) (fun c6 => ?_)
    · skip
      refine x_iconst (v := nI 0) rfl dX8_copy_39 ?_
      refine x_ist3 hL (by decide) rfl dX8_copy_40 ?_
      refine x_eq (h' := hM (mSB (mSA M 5 (cpC (M.2.2.1 5) f t 359)) 7 (cpW (M.2.2.2 7) f t 0)) R) rfl rfl (by rw [show cpW (M.2.2.2 7) f t 0 = M.2.2.2 7 from lay_0]; exact congrArg (hM · R) (mSB_id (M := mSA M 5 (cpC (M.2.2.1 5) f t 359)) (r := 7)).symm) ?_
      refine x_for (n := 22) (fun j => [some (.ref 32), some (.int (nI f)), some (.int (nI t)), some (.int (nI j))]) (fun j => []) (fun j => hM (mSB (mSA M 5 (cpC (M.2.2.1 5) f t 359)) 7 (cpW (M.2.2.2 7) f t j)) R) ?_ (fun j hj ihj => ?_)
      · skip
        refine x_iload_n dX8_copy_41 rfl ?_
        refine x_bipush (v := nI 22) rfl dX8_copy_42 ?_
        refine x_icmp_ge (tgt := 75) dX8_copy_44 (by decide) (fun c44 => ?_) (fun c44 => ?_)
        · skip
          refine x_vret hr dX8_copy_75 (by omega) (by omega) (hQ _ _ ?_)
          exact ⟨rfl, rfl⟩
        · exfalso; first | (simp (disch := omega) only [Int32.le_iff_toInt_le, Int32.lt_iff_toInt_lt, ← Int32.toInt_inj, nI_toInt, Int32.toInt_zero, m1_toInt, Int64.le_iff_toInt_le, Int64.lt_iff_toInt_lt, ← Int64.toInt_inj, pk_lT, i64_toInt, Int64.toInt_zero, eq_self, not_true_eq_false, not_false_eq_true] at c6 c44 <;> omega) | omega
      · skip
        refine x_iload_n dX8_copy_41 rfl ?_
        refine x_bipush (v := nI 22) rfl dX8_copy_42 ?_
        refine x_icmp_ge (tgt := 75) dX8_copy_44 (by decide) (fun c44 => ?_) (fun c44 => ?_)
        · exfalso; first | (simp (disch := omega) only [Int32.le_iff_toInt_le, Int32.lt_iff_toInt_lt, ← Int32.toInt_inj, nI_toInt, Int32.toInt_zero, m1_toInt, Int64.le_iff_toInt_le, Int64.lt_iff_toInt_lt, ← Int64.toInt_inj, pk_lT, i64_toInt, Int64.toInt_zero, eq_self, not_true_eq_false, not_false_eq_true] at c6 c44 <;> omega) | omega
        · skip
          refine x_aload_n dX8_copy_47 rfl ?_
          refine x_getf gf_X8_41 ho dX8_copy_48 rfl rfl ?_
          refine x_bipush (v := nI 22) rfl dX8_copy_51 ?_
          refine x_iload_n dX8_copy_53 rfl ?_
          refine x_imulN dX8_copy_54 ?_
          refine x_iload_n dX8_copy_55 rfl ?_
          refine x_iaddN dX8_copy_56 ?_
          refine x_aload_n dX8_copy_57 rfl ?_
          refine x_getf gf_X8_41 ho dX8_copy_58 rfl rfl ?_
          refine x_bipush (v := nI 22) rfl dX8_copy_61 ?_
          refine x_iload_n dX8_copy_63 rfl ?_
          refine x_imulN dX8_copy_64 ?_
          refine x_iload_n dX8_copy_65 rfl ?_
          refine x_iaddN dX8_copy_66 ?_
          refine x_lald dX8_copy_67 rfl (by first | rfl | exact nI_add _ _ | (simp only [nI_add, pk_mul]; rfl)) (by omega) (by decide) ?_
          refine m_last (r := 7) dX8_copy_68 (by decide) (by decide) (fun _ => rfl) (by first | rfl | exact nI_add _ _ | (simp only [nI_add, pk_mul]; rfl)) (by omega) (by decide) ?_
          refine x_inc3 hL (by decide) rfl dX8_copy_69 (nI_1 _) ?_
          refine x_goto (tgt := 41) dX8_copy_72 (by decide) ?_
          refine x_eq ?_ ?_ ?_ (ihj)
          · first | rfl | (simp [c6, c44]; done)
          · rfl
          · rw [mB_SB]; exact congrArg (fun g => hM (mSB (mSA M 5 (cpC (M.2.2.1 5) f t 359)) 7 g) R) ((congrArg (vp_updL (cpW (M.2.2.2 7) f t j) (22 * t + j)) (congrFun (upA_s (f := M.2.2.2) (r := 7) (x := cpW (M.2.2.2 7) f t j)) (22 * f + j))).trans (cpW_s hne (by omega)))
    · exfalso; first | (simp (disch := omega) only [Int32.le_iff_toInt_le, Int32.lt_iff_toInt_lt, ← Int32.toInt_inj, nI_toInt, Int32.toInt_zero, m1_toInt, Int64.le_iff_toInt_le, Int64.lt_iff_toInt_lt, ← Int64.toInt_inj, pk_lT, i64_toInt, Int64.toInt_zero, eq_self, not_true_eq_false, not_false_eq_true] at c6 <;> omega) | omega
  · skip
    refine x_iload_n dX8_copy_2 rfl ?_
    refine x_sipush (v := nI 359) rfl dX8_copy_3 ?_
    refine x_icmp_ge (tgt := 39) dX8_copy_6 (by decide) (fun c6 => ?_) (fun c6 => ?_)
    · exfalso; first | (simp (disch := omega) only [Int32.le_iff_toInt_le, Int32.lt_iff_toInt_lt, ← Int32.toInt_inj, nI_toInt, Int32.toInt_zero, m1_toInt, Int64.le_iff_toInt_le, Int64.lt_iff_toInt_lt, ← Int64.toInt_inj, pk_lT, i64_toInt, Int64.toInt_zero, eq_self, not_true_eq_false, not_false_eq_true] at c6 <;> omega) | omega
    · skip
      refine x_aload_n dX8_copy_9 rfl ?_
      refine x_getf gf_X8_35 ho dX8_copy_10 rfl rfl ?_
      refine x_sipush (v := nI 359) rfl dX8_copy_13 ?_
      refine x_iload_n dX8_copy_16 rfl ?_
      refine x_imulN dX8_copy_17 ?_
      refine x_iload_n dX8_copy_18 rfl ?_
      refine x_iaddN dX8_copy_19 ?_
      refine x_aload_n dX8_copy_20 rfl ?_
      refine x_getf gf_X8_35 ho dX8_copy_21 rfl rfl ?_
      refine x_sipush (v := nI 359) rfl dX8_copy_24 ?_
      refine x_iload_n dX8_copy_27 rfl ?_
      refine x_imulN dX8_copy_28 ?_
      refine x_iload_n dX8_copy_29 rfl ?_
      refine x_iaddN dX8_copy_30 ?_
      refine x_iald dX8_copy_31 rfl (by first | rfl | exact nI_add _ _ | (simp only [nI_add, pk_mul]; rfl)) (by omega) (by decide) ?_
      refine m_iast (r := 5) dX8_copy_32 (by decide) (by decide) (fun _ => rfl) (by first | rfl | exact nI_add _ _ | (simp only [nI_add, pk_mul]; rfl)) (by omega) (by decide) ?_
      refine x_inc3 hL (by decide) rfl dX8_copy_33 (nI_1 _) ?_
      refine x_goto (tgt := 2) dX8_copy_36 (by decide) ?_
      refine x_eq ?_ ?_ ?_ (ihi)
      · first | rfl | (simp [c6]; done)
      · rfl
      · rw [mA_SA]; exact congrArg (fun g => hM (mSA M 5 g) R) ((congrArg (upd (cpC (M.2.2.1 5) f t i) (359 * t + i)) (congrFun (upA_s (f := M.2.2.1) (r := 5) (x := cpC (M.2.2.1 5) f t i)) (359 * f + i))).trans (cpC_s hne (by omega)))
set_option maxHeartbeats 800000 in
theorem m_mark {w : xW} {M : mS} {R : xH} (k : Nat) (hk : k ≤ 3) (e : M.1 23 = nI k) : CT w yX8_mark cX8_mark 1 (some (.int)) [] false (2) 0 0 [.ref 32] (hM M R) (xret (some (.int (if k = 3 then -1 else nI (k + 1)))) (hM (if k = 3 then mI (mI M 1 (nI 0)) 0 (nI 7) else cpM (mI (mI (mI M 1 (nI 0)) 0 (nI 0)) 23 (nI (k + 1))) 0 (k + 1)) R)) := by
  by_cases h9 : k = 3
  · subst h9
    refine CT.of (ini := false) (by decide +kernel) q2246 q164 (Nat.le_of_ble_eq_true rfl) (by decide) ?_
    intro Γ hw ho hL hr hh hini hal hd hmc hms hQ
    subst hw
    show AW Γ cX8_mark 0 0 0 [some (.ref 32)] [] (hM M R)
    refine x_aload_n dX8_mark_0 rfl ?_
    refine x_iconst (v := nI 0) rfl dX8_mark_1 ?_
    refine m_puti (k := 1) (pf_X8_70 (ini := false)) ho hini dX8_mark_2 rfl rfl (by decide) (ms_1 _ _) ?_
    refine x_aload_n dX8_mark_5 rfl ?_
    refine x_iconst (v := nI 0) rfl dX8_mark_6 ?_
    refine m_puti (k := 0) (pf_X8_73 (ini := false)) ho hini dX8_mark_7 rfl rfl (by decide) (ms_0 _ _) ?_
    refine x_aload_n dX8_mark_10 rfl ?_
    refine x_getf gf_X8_519 ho dX8_mark_11 rfl rfl ?_
    refine x_ival e ?_
    refine x_iconst (v := nI 3) rfl dX8_mark_14 ?_
    refine x_icmp_ne (tgt := 25) dX8_mark_15 (by decide) (fun c15 => ?_) (fun c15 => ?_)
    · try (exfalso; first | (simp (disch := omega) only [Int32.le_iff_toInt_le, Int32.lt_iff_toInt_lt, ← Int32.toInt_inj, nI_toInt, Int32.toInt_zero, m1_toInt, Int64.le_iff_toInt_le, Int64.lt_iff_toInt_lt, ← Int64.toInt_inj, pk_lT, i64_toInt, Int64.toInt_zero, eq_self, not_true_eq_false, not_false_eq_true] at c15 <;> omega) | omega)
      all_goals
        skip
        omega
    · try (exfalso; first | (simp (disch := omega) only [Int32.le_iff_toInt_le, Int32.lt_iff_toInt_lt, ← Int32.toInt_inj, nI_toInt, Int32.toInt_zero, m1_toInt, Int64.le_iff_toInt_le, Int64.lt_iff_toInt_lt, ← Int64.toInt_inj, pk_lT, i64_toInt, Int64.toInt_zero, eq_self, not_true_eq_false, not_false_eq_true] at c15 <;> omega) | omega)
      all_goals
        skip
        refine x_aload_n dX8_mark_18 rfl ?_
        refine x_bipush (v := nI 7) rfl dX8_mark_19 ?_
        refine x_callV1 lk_X8_327 (m_refuse _) ho dX8_mark_21 rfl (Nat.le_of_ble_eq_true rfl) (by omega) (by decide) (by omega) (by omega) ?_
        refine x_iret hr rfl dX8_mark_24 (by omega) (by omega) (hQ _ _ ?_)
        exact ⟨by rw [if_pos rfl], by rw [if_pos rfl, mI_mI]⟩
  · skip
    refine CT.of (ini := false) (by decide +kernel) q2246 q164 (Nat.le_of_ble_eq_true rfl) (by decide) ?_
    intro Γ hw ho hL hr hh hini hal hd hmc hms hQ
    subst hw
    show AW Γ cX8_mark 0 0 0 [some (.ref 32)] [] (hM M R)
    refine x_aload_n dX8_mark_0 rfl ?_
    refine x_iconst (v := nI 0) rfl dX8_mark_1 ?_
    refine m_puti (k := 1) (pf_X8_70 (ini := false)) ho hini dX8_mark_2 rfl rfl (by decide) (ms_1 _ _) ?_
    refine x_aload_n dX8_mark_5 rfl ?_
    refine x_iconst (v := nI 0) rfl dX8_mark_6 ?_
    refine m_puti (k := 0) (pf_X8_73 (ini := false)) ho hini dX8_mark_7 rfl rfl (by decide) (ms_0 _ _) ?_
    refine x_aload_n dX8_mark_10 rfl ?_
    refine x_getf gf_X8_519 ho dX8_mark_11 rfl rfl ?_
    refine x_ival e ?_
    refine x_iconst (v := nI 3) rfl dX8_mark_14 ?_
    refine x_icmp_ne (tgt := 25) dX8_mark_15 (by decide) (fun c15 => ?_) (fun c15 => ?_)
    · try (exfalso; first | (simp (disch := omega) [inS_ix, inS_N, ixL_N, ix_nI, h9, hk] at c15 <;> omega) | (simp (disch := omega) only [Int32.le_iff_toInt_le, Int32.lt_iff_toInt_lt, ← Int32.toInt_inj, nI_toInt, Int32.toInt_zero, m1_toInt, Int64.le_iff_toInt_le, Int64.lt_iff_toInt_lt, ← Int64.toInt_inj, pk_lT, i64_toInt, Int64.toInt_zero, eq_self, not_true_eq_false, not_false_eq_true] at c15 <;> omega) | omega)
      all_goals
        skip
        refine x_aload_n dX8_mark_25 rfl ?_
        refine x_dup rfl dX8_mark_26 ?_
        refine x_getf gf_X8_519 ho dX8_mark_27 rfl rfl ?_
        refine x_ival e ?_
        refine x_iconst (v := nI 1) rfl dX8_mark_30 ?_
        refine x_iaddN dX8_mark_31 ?_
        refine m_puti (k := 23) (pf_X8_519 (ini := false)) ho hini dX8_mark_32 rfl rfl (by decide) (ms_23 _ _) ?_
        refine x_aload_n dX8_mark_35 rfl ?_
        refine x_iconst (v := nI 0) rfl dX8_mark_36 ?_
        refine x_aload_n dX8_mark_37 rfl ?_
        refine x_getf gf_X8_519 ho dX8_mark_38 rfl rfl ?_
        refine x_ival (y := nI (k + 1)) rfl ?_
        refine x_callV2 lk_X8_295 (m_copy (M := (mI (mI (mI M 1 (nI 0)) 0 (nI 0)) 23 (nI (k + 1)))) _ _ (by omega) (by omega) (by omega)) ho dX8_mark_41 rfl (Nat.le_of_ble_eq_true rfl) (by omega) (by decide) (by omega) (by omega) ?_
        refine x_aload_n dX8_mark_44 rfl ?_
        refine x_getf gf_X8_519 ho dX8_mark_45 rfl rfl ?_
        refine x_ival (y := nI (k + 1)) rfl ?_
        refine x_iret hr rfl dX8_mark_48 (by omega) (by omega) (hQ _ _ ?_)
        exact ⟨by rw [if_neg h9], by rw [if_neg h9]⟩
    · exact absurd ((nI_eq (by omega) (by omega)).mp c15) h9
set_option maxHeartbeats 800000 in
theorem m_back {w : xW} {M : mS} {R : xH} (k : Nat) (hk : k ≤ 3) (e : M.1 23 = nI k) : CT w yX8_back cX8_back 1 (some (.int)) [] false (2) 0 0 [.ref 32] (hM M R) (xret (some (.int (if k = 0 then -1 else nI (k - 1)))) (hM (if k = 0 then mI (mI M 1 (nI 0)) 0 (nI 8) else mI (cpM (mI (mI M 1 (nI 0)) 0 (nI 0)) k 0) 23 (nI (k - 1))) R)) := by
  by_cases h9 : k = 0
  · subst h9
    refine CT.of (ini := false) (by decide +kernel) q2250 q164 (Nat.le_of_ble_eq_true rfl) (by decide) ?_
    intro Γ hw ho hL hr hh hini hal hd hmc hms hQ
    subst hw
    show AW Γ cX8_back 0 0 0 [some (.ref 32)] [] (hM M R)
    refine x_aload_n dX8_back_0 rfl ?_
    refine x_iconst (v := nI 0) rfl dX8_back_1 ?_
    refine m_puti (k := 1) (pf_X8_70 (ini := false)) ho hini dX8_back_2 rfl rfl (by decide) (ms_1 _ _) ?_
    refine x_aload_n dX8_back_5 rfl ?_
    refine x_iconst (v := nI 0) rfl dX8_back_6 ?_
    refine m_puti (k := 0) (pf_X8_73 (ini := false)) ho hini dX8_back_7 rfl rfl (by decide) (ms_0 _ _) ?_
    refine x_aload_n dX8_back_10 rfl ?_
    refine x_getf gf_X8_519 ho dX8_back_11 rfl rfl ?_
    refine x_ival e ?_
    refine x_if_ne (tgt := 24) dX8_back_14 (by decide) (fun c14 => ?_) (fun c14 => ?_)
    · try (exfalso; first | (simp (disch := omega) only [Int32.le_iff_toInt_le, Int32.lt_iff_toInt_lt, ← Int32.toInt_inj, nI_toInt, Int32.toInt_zero, m1_toInt, Int64.le_iff_toInt_le, Int64.lt_iff_toInt_lt, ← Int64.toInt_inj, pk_lT, i64_toInt, Int64.toInt_zero, eq_self, not_true_eq_false, not_false_eq_true] at c14 <;> omega) | omega)
      all_goals
        skip
        omega
    · try (exfalso; first | (simp (disch := omega) only [Int32.le_iff_toInt_le, Int32.lt_iff_toInt_lt, ← Int32.toInt_inj, nI_toInt, Int32.toInt_zero, m1_toInt, Int64.le_iff_toInt_le, Int64.lt_iff_toInt_lt, ← Int64.toInt_inj, pk_lT, i64_toInt, Int64.toInt_zero, eq_self, not_true_eq_false, not_false_eq_true] at c14 <;> omega) | omega)
      all_goals
        skip
        refine x_aload_n dX8_back_17 rfl ?_
        refine x_bipush (v := nI 8) rfl dX8_back_18 ?_
        refine x_callV1 lk_X8_327 (m_refuse _) ho dX8_back_20 rfl (Nat.le_of_ble_eq_true rfl) (by omega) (by decide) (by omega) (by omega) ?_
        refine x_iret hr rfl dX8_back_23 (by omega) (by omega) (hQ _ _ ?_)
        exact ⟨by rw [if_pos rfl], by rw [if_pos rfl, mI_mI]⟩
  · skip
    refine CT.of (ini := false) (by decide +kernel) q2250 q164 (Nat.le_of_ble_eq_true rfl) (by decide) ?_
    intro Γ hw ho hL hr hh hini hal hd hmc hms hQ
    subst hw
    show AW Γ cX8_back 0 0 0 [some (.ref 32)] [] (hM M R)
    refine x_aload_n dX8_back_0 rfl ?_
    refine x_iconst (v := nI 0) rfl dX8_back_1 ?_
    refine m_puti (k := 1) (pf_X8_70 (ini := false)) ho hini dX8_back_2 rfl rfl (by decide) (ms_1 _ _) ?_
    refine x_aload_n dX8_back_5 rfl ?_
    refine x_iconst (v := nI 0) rfl dX8_back_6 ?_
    refine m_puti (k := 0) (pf_X8_73 (ini := false)) ho hini dX8_back_7 rfl rfl (by decide) (ms_0 _ _) ?_
    refine x_aload_n dX8_back_10 rfl ?_
    refine x_getf gf_X8_519 ho dX8_back_11 rfl rfl ?_
    refine x_ival e ?_
    refine x_if_ne (tgt := 24) dX8_back_14 (by decide) (fun c14 => ?_) (fun c14 => ?_)
    · try (exfalso; first | (simp (disch := omega) [inS_ix, inS_N, ixL_N, ix_nI, h9, hk] at c14 <;> omega) | (simp (disch := omega) only [Int32.le_iff_toInt_le, Int32.lt_iff_toInt_lt, ← Int32.toInt_inj, nI_toInt, Int32.toInt_zero, m1_toInt, Int64.le_iff_toInt_le, Int64.lt_iff_toInt_lt, ← Int64.toInt_inj, pk_lT, i64_toInt, Int64.toInt_zero, eq_self, not_true_eq_false, not_false_eq_true] at c14 <;> omega) | omega)
      all_goals
        skip
        refine x_aload_n dX8_back_24 rfl ?_
        refine x_aload_n dX8_back_25 rfl ?_
        refine x_getf gf_X8_519 ho dX8_back_26 rfl rfl ?_
        refine x_ival e ?_
        refine x_iconst (v := nI 0) rfl dX8_back_29 ?_
        refine x_callV2 lk_X8_295 (m_copy (M := (mI (mI M 1 (nI 0)) 0 (nI 0))) _ _ (by omega) (by omega) (by omega)) ho dX8_back_30 rfl (Nat.le_of_ble_eq_true rfl) (by omega) (by decide) (by omega) (by omega) ?_
        refine x_aload_n dX8_back_33 rfl ?_
        refine x_dup rfl dX8_back_34 ?_
        refine x_getf gf_X8_519 ho dX8_back_35 rfl rfl ?_
        refine x_ival e ?_
        refine x_iconst (v := nI 1) rfl dX8_back_38 ?_
        refine x_isubN (by omega) dX8_back_39 ?_
        refine m_puti (k := 23) (pf_X8_519 (ini := false)) ho hini dX8_back_40 rfl rfl (by decide) (ms_23 _ _) ?_
        refine x_aload_n dX8_back_43 rfl ?_
        refine x_getf gf_X8_519 ho dX8_back_44 rfl rfl ?_
        refine x_ival (y := nI (k - 1)) rfl ?_
        refine x_iret hr rfl dX8_back_47 (by omega) (by omega) (hQ _ _ ?_)
        exact ⟨by rw [if_neg h9], by rw [if_neg h9]⟩
    · exact absurd ((nI_e0 (by omega)).mp c14) h9
