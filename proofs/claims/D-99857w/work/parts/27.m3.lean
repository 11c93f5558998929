/-! ===== the model: what is done at a fen ===== -/
set_option maxRecDepth 100000
set_option maxHeartbeats 4000000 in
theorem m_worth {w : xW} {M : mS} {R : xH} {tm pm tn G : Nat} (hF : wF (M.2.2.1 5) tm pm tn G) (k9 : Int32) : CT w yX8_worth cX8_worth 2 (some (.int)) [] false (2) 0 0 [.ref 32, .int k9] (hM M R) (xret (some (.int (spWorth (M.2.2.1 5) tm k9).1)) (hM (mI (mI M 1 (nI 0)) 0 (nI (spWorth (M.2.2.1 5) tm k9).2)) R)) := by
  have l0 := hF.l0
  rcases ix_or k9 (n := tm) (by omega) with ⟨hx, hx2⟩ | ⟨k, hk, rfl, hx⟩
  · skip
    refine CT.of (ini := false) (by decide +kernel) q1929 q164 (Nat.le_of_ble_eq_true rfl) (by decide) ?_
    intro Γ hw ho hL hr hh hini hal hd hmc hms hQ
    subst hw
    show AW Γ cX8_worth 0 0 0 [some (.ref 32), some (.int k9)] [] (hM M R)
    have h0 := hF.c0
    have h1 := hF.c1
    have h3 := hF.c3
    have l0 := hF.l0
    have l1 := hF.l1
    have l3 := hF.l3
    refine x_aload_n dX8_worth_0 rfl ?_
    refine x_iconst (v := nI 0) rfl dX8_worth_1 ?_
    refine m_puti (k := 1) (pf_X8_70 (ini := false)) ho hini dX8_worth_2 rfl rfl (by decide) (ms_1 _ _) ?_
    refine x_aload_n dX8_worth_5 rfl ?_
    refine x_iconst (v := nI 0) rfl dX8_worth_6 ?_
    refine m_puti (k := 0) (pf_X8_73 (ini := false)) ho hini dX8_worth_7 rfl rfl (by decide) (ms_0 _ _) ?_
    refine x_aload_n dX8_worth_10 rfl ?_
    refine x_iload_n dX8_worth_11 rfl ?_
    refine x_callV1 lk_X8_333 (m_isTraitAt (M := (mI (mI M 1 (nI 0)) 0 (nI 0))) hF _) ho dX8_worth_12 rfl (Nat.le_of_ble_eq_true rfl) (by omega) (by decide) (by omega) (by omega) ?_
    refine x_ifb_eq (tgt := 30) dX8_worth_15 (by decide) (fun c15 => ?_) (fun c15 => ?_)
    · try (exfalso; first | (simp (disch := omega) [inS_ix, inS_N, ixL_N, ix_nI, hx] at c15 <;> omega) | (simp (disch := omega) only [h0, h1, h3, Int32.le_iff_toInt_le, Int32.lt_iff_toInt_lt, ← Int32.toInt_inj, nI_toInt, Int32.toInt_zero, m1_toInt, Int64.le_iff_toInt_le, Int64.lt_iff_toInt_lt, ← Int64.toInt_inj, pk_lT, i64_toInt, Int64.toInt_zero, eq_self, not_true_eq_false, not_false_eq_true] at c15 <;> omega) | omega)
      all_goals
        skip
        refine x_aload_n dX8_worth_30 rfl ?_
        refine x_iconst (v := nI 2) rfl dX8_worth_31 ?_
        refine x_callV1 lk_X8_327 (m_refuse _) ho dX8_worth_32 rfl (Nat.le_of_ble_eq_true rfl) (by omega) (by decide) (by omega) (by omega) ?_
        refine x_iret hr rfl dX8_worth_35 (by omega) (by omega) (hQ _ _ ?_)
        try dsimp only [mI, mSA] at c15
        exact ⟨by simp [spWorth, hx], by simp [spWorth, hx, mI_mI, mSA_id]⟩
    · try (exfalso; first | (simp (disch := omega) [inS_ix, inS_N, ixL_N, ix_nI, hx] at c15 <;> omega) | (simp (disch := omega) only [h0, h1, h3, Int32.le_iff_toInt_le, Int32.lt_iff_toInt_lt, ← Int32.toInt_inj, nI_toInt, Int32.toInt_zero, m1_toInt, Int64.le_iff_toInt_le, Int64.lt_iff_toInt_lt, ← Int64.toInt_inj, pk_lT, i64_toInt, Int64.toInt_zero, eq_self, not_true_eq_false, not_false_eq_true] at c15 <;> omega) | omega)
      all_goals
        skip
        refine x_aload_n dX8_worth_18 rfl ?_
        refine x_getf gf_X8_35 ho dX8_worth_19 rfl rfl ?_
        refine x_bipush (v := nI 6) rfl dX8_worth_22 ?_
        refine x_iload_n dX8_worth_24 rfl ?_
        refine x_iadd dX8_worth_25 ?_
        refine x_iald dX8_worth_26 rfl (by first | rfl | exact nI_add _ _ | (simp only [nI_add, pk_mul]; rfl)) (by omega) (by decide) ?_
        refine x_goto (tgt := 35) dX8_worth_27 (by decide) ?_
        refine x_iret hr rfl dX8_worth_35 (by omega) (by omega) (hQ _ _ ?_)
        try dsimp only [mI, mSA] at c15
        exact ⟨by simp [spWorth, hx], by simp [spWorth, hx, mI_mI, mSA_id]⟩
  · skip
    refine CT.of (ini := false) (by decide +kernel) q1929 q164 (Nat.le_of_ble_eq_true rfl) (by decide) ?_
    intro Γ hw ho hL hr hh hini hal hd hmc hms hQ
    subst hw
    show AW Γ cX8_worth 0 0 0 [some (.ref 32), some (.int (nI k))] [] (hM M R)
    have h0 := hF.c0
    have h1 := hF.c1
    have h3 := hF.c3
    have l0 := hF.l0
    have l1 := hF.l1
    have l3 := hF.l3
    refine x_aload_n dX8_worth_0 rfl ?_
    refine x_iconst (v := nI 0) rfl dX8_worth_1 ?_
    refine m_puti (k := 1) (pf_X8_70 (ini := false)) ho hini dX8_worth_2 rfl rfl (by decide) (ms_1 _ _) ?_
    refine x_aload_n dX8_worth_5 rfl ?_
    refine x_iconst (v := nI 0) rfl dX8_worth_6 ?_
    refine m_puti (k := 0) (pf_X8_73 (ini := false)) ho hini dX8_worth_7 rfl rfl (by decide) (ms_0 _ _) ?_
    refine x_aload_n dX8_worth_10 rfl ?_
    refine x_iload_n dX8_worth_11 rfl ?_
    refine x_callV1 lk_X8_333 (m_isTraitAt (M := (mI (mI M 1 (nI 0)) 0 (nI 0))) hF _) ho dX8_worth_12 rfl (Nat.le_of_ble_eq_true rfl) (by omega) (by decide) (by omega) (by omega) ?_
    refine x_ifb_eq (tgt := 30) dX8_worth_15 (by decide) (fun c15 => ?_) (fun c15 => ?_)
    · try (exfalso; first | (simp (disch := omega) [inS_ix, inS_N, ixL_N, ix_nI, hx] at c15 <;> omega) | (simp (disch := omega) only [h0, h1, h3, Int32.le_iff_toInt_le, Int32.lt_iff_toInt_lt, ← Int32.toInt_inj, nI_toInt, Int32.toInt_zero, m1_toInt, Int64.le_iff_toInt_le, Int64.lt_iff_toInt_lt, ← Int64.toInt_inj, pk_lT, i64_toInt, Int64.toInt_zero, eq_self, not_true_eq_false, not_false_eq_true] at c15 <;> omega) | omega)
      all_goals
        skip
        refine x_aload_n dX8_worth_30 rfl ?_
        refine x_iconst (v := nI 2) rfl dX8_worth_31 ?_
        refine x_callV1 lk_X8_327 (m_refuse _) ho dX8_worth_32 rfl (Nat.le_of_ble_eq_true rfl) (by omega) (by decide) (by omega) (by omega) ?_
        refine x_iret hr rfl dX8_worth_35 (by omega) (by omega) (hQ _ _ ?_)
        try dsimp only [mI, mSA] at c15
        exact ⟨by simp [spWorth, hx], by simp [spWorth, hx, mI_mI, mSA_id]⟩
    · try (exfalso; first | (simp (disch := omega) [inS_ix, inS_N, ixL_N, ix_nI, hx] at c15 <;> omega) | (simp (disch := omega) only [h0, h1, h3, Int32.le_iff_toInt_le, Int32.lt_iff_toInt_lt, ← Int32.toInt_inj, nI_toInt, Int32.toInt_zero, m1_toInt, Int64.le_iff_toInt_le, Int64.lt_iff_toInt_lt, ← Int64.toInt_inj, pk_lT, i64_toInt, Int64.toInt_zero, eq_self, not_true_eq_false, not_false_eq_true] at c15 <;> omega) | omega)
      all_goals
        skip
        refine x_aload_n dX8_worth_18 rfl ?_
        refine x_getf gf_X8_35 ho dX8_worth_19 rfl rfl ?_
        refine x_bipush (v := nI 6) rfl dX8_worth_22 ?_
        refine x_iload_n dX8_worth_24 rfl ?_
        refine x_iaddN dX8_worth_25 ?_
        refine x_iald dX8_worth_26 rfl (by first | rfl | exact nI_add _ _ | (simp only [nI_add, pk_mul]; rfl)) (by omega) (by decide) ?_
        refine x_goto (tgt := 35) dX8_worth_27 (by decide) ?_
        refine x_iret hr rfl dX8_worth_35 (by omega) (by omega) (hQ _ _ ?_)
        try dsimp only [mI, mSA] at c15
        exact ⟨by simp [spWorth, hx], by simp [spWorth, hx, mI_mI, mSA_id]⟩
set_option maxHeartbeats 4000000 in
theorem m_person {w : xW} {M : mS} {R : xH} {tm pm tn G : Nat} (hF : wF (M.2.2.1 5) tm pm tn G) (p9 w9 : Int32) : CT w yX8_person cX8_person 3 (some (.int)) [] false (3) 0 0 [.ref 32, .int p9, .int w9] (hM M R) (xret (some (.int (spPerson (M.2.2.1 5) pm tn p9 w9).1)) (hM (mI (mI M 1 (nI 0)) 0 (nI (spPerson (M.2.2.1 5) pm tn p9 w9).2)) R)) := by
  have l0 := hF.l0
  have l1 := hF.l1
  have l3 := hF.l3
  rcases ix_or p9 (n := pm) (by omega) with ⟨hx, hx2⟩ | ⟨t, ht, rfl, hx⟩
  rotate_left 1
  rcases ix_or w9 (n := 5) (by omega) with ⟨hy, hy2⟩ | ⟨j, hj, rfl, hy⟩
  rotate_left 1
  rcases (show j = 0 ∨ j = 1 ∨ j = 2 ∨ j = 3 ∨ j = 4 by omega) with rfl | rfl | rfl | rfl | rfl
  · skip
    refine CT.of (ini := false) (by decide +kernel) q1937 q164 (Nat.le_of_ble_eq_true rfl) (by decide) ?_
    intro Γ hw ho hL hr hh hini hal hd hmc hms hQ
    subst hw
    show AW Γ cX8_person 0 0 0 [some (.ref 32), some (.int (nI t)), some (.int (nI 0))] [] (hM M R)
    have h0 := hF.c0
    have h1 := hF.c1
    have h3 := hF.c3
    have l0 := hF.l0
    have l1 := hF.l1
    have l3 := hF.l3
    refine x_aload_n dX8_person_0 rfl ?_
    refine x_iconst (v := nI 0) rfl dX8_person_1 ?_
    refine m_puti (k := 1) (pf_X8_70 (ini := false)) ho hini dX8_person_2 rfl rfl (by decide) (ms_1 _ _) ?_
    refine x_aload_n dX8_person_5 rfl ?_
    refine x_iconst (v := nI 0) rfl dX8_person_6 ?_
    refine m_puti (k := 0) (pf_X8_73 (ini := false)) ho hini dX8_person_7 rfl rfl (by decide) (ms_0 _ _) ?_
    refine x_aload_n dX8_person_10 rfl ?_
    refine x_iload_n dX8_person_11 rfl ?_
    refine x_i2lN (by omega) dX8_person_12 ?_
    refine x_callV1 lk_X8_336 (m_isPersonAt (M := (mI (mI M 1 (nI 0)) 0 (nI 0))) hF _) ho dX8_person_13 rfl (Nat.le_of_ble_eq_true rfl) (by omega) (by decide) (by omega) (by omega) ?_
    refine x_ifb_ne (tgt := 25) dX8_person_16 (by decide) (fun c16 => ?_) (fun c16 => ?_)
    · try (exfalso; first | (simp (disch := omega) [inS_ix, inS_N, ixL_N, ix_nI, hx, hy, ixL_i] at c16 <;> omega) | (simp (disch := omega) only [h0, h1, h3, Int32.le_iff_toInt_le, Int32.lt_iff_toInt_lt, ← Int32.toInt_inj, nI_toInt, Int32.toInt_zero, m1_toInt, Int64.le_iff_toInt_le, Int64.lt_iff_toInt_lt, ← Int64.toInt_inj, pk_lT, i64_toInt, Int64.toInt_zero, eq_self, not_true_eq_false, not_false_eq_true] at c16 <;> omega) | omega)
      all_goals
        skip
        refine x_iload_n dX8_person_25 rfl ?_
        refine x_i2lN (by omega) dX8_person_26 ?_
        refine x_lconst (v := lN 0) rfl dX8_person_27 ?_
        refine x_ldc2 (v := lN 4) ho q1942 dX8_person_28 ?_
        refine x_callS3 lk_X8_105 (m_isIn _ _ _) ho dX8_person_31 (Nat.le_of_ble_eq_true rfl) (by omega) (by decide) (by omega) (by omega) ?_
        refine x_ifb_ne (tgt := 43) dX8_person_34 (by decide) (fun c34 => ?_) (fun c34 => ?_)
        · try (exfalso; first | (simp (disch := omega) [inS_ix, inS_N, ixL_N, ix_nI, hx, hy, ixL_i] at c34 <;> omega) | (simp (disch := omega) only [h0, h1, h3, Int32.le_iff_toInt_le, Int32.lt_iff_toInt_lt, ← Int32.toInt_inj, nI_toInt, Int32.toInt_zero, m1_toInt, Int64.le_iff_toInt_le, Int64.lt_iff_toInt_lt, ← Int64.toInt_inj, pk_lT, i64_toInt, Int64.toInt_zero, eq_self, not_true_eq_false, not_false_eq_true] at c16 c34 <;> omega) | omega)
          all_goals
            skip
            refine x_iload_n dX8_person_43 rfl ?_
            refine x_iconst (v := nI 2) rfl dX8_person_44 ?_
            refine x_icmp_ne (tgt := 54) dX8_person_45 (by decide) (fun c45 => ?_) (fun c45 => ?_)
            · try (exfalso; first | (simp (disch := omega) [inS_ix, inS_N, ixL_N, ix_nI, hx, hy, ixL_i] at c45 <;> omega) | (simp (disch := omega) only [h0, h1, h3, Int32.le_iff_toInt_le, Int32.lt_iff_toInt_lt, ← Int32.toInt_inj, nI_toInt, Int32.toInt_zero, m1_toInt, Int64.le_iff_toInt_le, Int64.lt_iff_toInt_lt, ← Int64.toInt_inj, pk_lT, i64_toInt, Int64.toInt_zero, eq_self, not_true_eq_false, not_false_eq_true] at c16 c34 c45 <;> omega) | omega)
              all_goals
                skip
                refine x_iload_n dX8_person_54 rfl ?_
                refine x_iconst (v := nI 4) rfl dX8_person_55 ?_
                refine x_icmp_ne (tgt := 69) dX8_person_56 (by decide) (fun c56 => ?_) (fun c56 => ?_)
                · try (exfalso; first | (simp (disch := omega) [inS_ix, inS_N, ixL_N, ix_nI, hx, hy, ixL_i] at c56 <;> omega) | (simp (disch := omega) only [h0, h1, h3, Int32.le_iff_toInt_le, Int32.lt_iff_toInt_lt, ← Int32.toInt_inj, nI_toInt, Int32.toInt_zero, m1_toInt, Int64.le_iff_toInt_le, Int64.lt_iff_toInt_lt, ← Int64.toInt_inj, pk_lT, i64_toInt, Int64.toInt_zero, eq_self, not_true_eq_false, not_false_eq_true] at c16 c34 c45 c56 <;> omega) | omega)
                  all_goals
                    skip
                    refine x_aload_n dX8_person_69 rfl ?_
                    refine x_getf gf_X8_35 ho dX8_person_70 rfl rfl ?_
                    refine x_iload_n dX8_person_73 rfl ?_
                    refine x_if_ne (tgt := 82) dX8_person_74 (by decide) (fun c74 => ?_) (fun c74 => ?_)
                    · try (exfalso; first | (simp (disch := omega) [inS_ix, inS_N, ixL_N, ix_nI, hx, hy, ixL_i] at c74 <;> omega) | (simp (disch := omega) only [h0, h1, h3, Int32.le_iff_toInt_le, Int32.lt_iff_toInt_lt, ← Int32.toInt_inj, nI_toInt, Int32.toInt_zero, m1_toInt, Int64.le_iff_toInt_le, Int64.lt_iff_toInt_lt, ← Int64.toInt_inj, pk_lT, i64_toInt, Int64.toInt_zero, eq_self, not_true_eq_false, not_false_eq_true] at c16 c34 c45 c56 c74 <;> omega) | omega)
                      all_goals
                        skip
                        refine x_iload_n dX8_person_82 rfl ?_
                        refine x_iconst (v := nI 1) rfl dX8_person_83 ?_
                        refine x_icmp_ne (tgt := 92) dX8_person_84 (by decide) (fun c84 => ?_) (fun c84 => ?_)
                        · try (exfalso; first | (simp (disch := omega) [inS_ix, inS_N, ixL_N, ix_nI, hx, hy, ixL_i] at c84 <;> omega) | (simp (disch := omega) only [h0, h1, h3, Int32.le_iff_toInt_le, Int32.lt_iff_toInt_lt, ← Int32.toInt_inj, nI_toInt, Int32.toInt_zero, m1_toInt, Int64.le_iff_toInt_le, Int64.lt_iff_toInt_lt, ← Int64.toInt_inj, pk_lT, i64_toInt, Int64.toInt_zero, eq_self, not_true_eq_false, not_false_eq_true] at c16 c34 c45 c56 c74 c84 <;> omega) | omega)
                          all_goals
                            skip
                            refine x_bipush (v := nI 26) rfl dX8_person_92 ?_
                            refine x_iload_n dX8_person_94 rfl ?_
                            refine x_iaddN dX8_person_95 ?_
                            refine x_iald dX8_person_96 rfl (by first | rfl | exact nI_add _ _ | (simp only [nI_add, pk_mul]; rfl)) (by omega) (by decide) ?_
                            refine x_iret hr rfl dX8_person_97 (by omega) (by omega) (hQ _ _ ?_)
                            try dsimp only [mI, mSA] at c16 c34 c45 c56 c74 c84
                            exact ⟨by simp [spPerson, hx, hy], by simp [spPerson, hx, hy, mI_mI, mSA_id]⟩
                        · try (exfalso; first | (simp (disch := omega) [inS_ix, inS_N, ixL_N, ix_nI, hx, hy, ixL_i] at c84 <;> omega) | (simp (disch := omega) only [h0, h1, h3, Int32.le_iff_toInt_le, Int32.lt_iff_toInt_lt, ← Int32.toInt_inj, nI_toInt, Int32.toInt_zero, m1_toInt, Int64.le_iff_toInt_le, Int64.lt_iff_toInt_lt, ← Int64.toInt_inj, pk_lT, i64_toInt, Int64.toInt_zero, eq_self, not_true_eq_false, not_false_eq_true] at c16 c34 c45 c56 c74 c84 <;> omega) | omega)
                          all_goals
                            skip
                            refine x_bipush (v := nI 19) rfl dX8_person_87 ?_
                            refine x_goto (tgt := 94) dX8_person_89 (by decide) ?_
                            refine x_iload_n dX8_person_94 rfl ?_
                            refine x_iaddN dX8_person_95 ?_
                            refine x_iald dX8_person_96 rfl (by first | rfl | exact nI_add _ _ | (simp only [nI_add, pk_mul]; rfl)) (by omega) (by decide) ?_
                            refine x_iret hr rfl dX8_person_97 (by omega) (by omega) (hQ _ _ ?_)
                            try dsimp only [mI, mSA] at c16 c34 c45 c56 c74 c84
                            exact ⟨by simp [spPerson, hx, hy], by simp [spPerson, hx, hy, mI_mI, mSA_id]⟩
                    · try (exfalso; first | (simp (disch := omega) [inS_ix, inS_N, ixL_N, ix_nI, hx, hy, ixL_i] at c74 <;> omega) | (simp (disch := omega) only [h0, h1, h3, Int32.le_iff_toInt_le, Int32.lt_iff_toInt_lt, ← Int32.toInt_inj, nI_toInt, Int32.toInt_zero, m1_toInt, Int64.le_iff_toInt_le, Int64.lt_iff_toInt_lt, ← Int64.toInt_inj, pk_lT, i64_toInt, Int64.toInt_zero, eq_self, not_true_eq_false, not_false_eq_true] at c16 c34 c45 c56 c74 <;> omega) | omega)
                      all_goals
                        skip
                        refine x_bipush (v := nI 12) rfl dX8_person_77 ?_
                        refine x_goto (tgt := 94) dX8_person_79 (by decide) ?_
                        refine x_iload_n dX8_person_94 rfl ?_
                        refine x_iaddN dX8_person_95 ?_
                        refine x_iald dX8_person_96 rfl (by first | rfl | exact nI_add _ _ | (simp only [nI_add, pk_mul]; rfl)) (by omega) (by decide) ?_
                        refine x_iret hr rfl dX8_person_97 (by omega) (by omega) (hQ _ _ ?_)
                        try dsimp only [mI, mSA] at c16 c34 c45 c56 c74
                        exact ⟨by simp [spPerson, hx, hy], by simp [spPerson, hx, hy, mI_mI, mSA_id]⟩
                · try (exfalso; first | (simp (disch := omega) [inS_ix, inS_N, ixL_N, ix_nI, hx, hy, ixL_i] at c56 <;> omega) | (simp (disch := omega) only [h0, h1, h3, Int32.le_iff_toInt_le, Int32.lt_iff_toInt_lt, ← Int32.toInt_inj, nI_toInt, Int32.toInt_zero, m1_toInt, Int64.le_iff_toInt_le, Int64.lt_iff_toInt_lt, ← Int64.toInt_inj, pk_lT, i64_toInt, Int64.toInt_zero, eq_self, not_true_eq_false, not_false_eq_true] at c16 c34 c45 c56 <;> omega) | omega)
                  all_goals
                    skip
                    refine x_aload_n dX8_person_59 rfl ?_
                    refine x_aload_n dX8_person_60 rfl ?_
                    refine x_iload_n dX8_person_61 rfl ?_
                    refine x_callV1 lk_X8_341 (m_tinsOn (M := (mI (mI M 1 (nI 0)) 0 (nI 0))) hF _) ho dX8_person_62 rfl (Nat.le_of_ble_eq_true rfl) (by omega) (by decide) (by omega) (by omega) ?_
                    refine x_callV1 lk_X8_322 (m_worthAll (M := (mI (mI M 1 (nI 0)) 0 (nI 0))) hF _) ho dX8_person_65 rfl (Nat.le_of_ble_eq_true rfl) (by omega) (by decide) (by omega) (by omega) ?_
                    refine x_iret hr rfl dX8_person_68 (by omega) (by omega) (hQ _ _ ?_)
                    try dsimp only [mI, mSA] at c16 c34 c45 c56
                    exact ⟨by simp [spPerson, hx, hy], by simp [spPerson, hx, hy, mI_mI, mSA_id]⟩
            · try (exfalso; first | (simp (disch := omega) [inS_ix, inS_N, ixL_N, ix_nI, hx, hy, ixL_i] at c45 <;> omega) | (simp (disch := omega) only [h0, h1, h3, Int32.le_iff_toInt_le, Int32.lt_iff_toInt_lt, ← Int32.toInt_inj, nI_toInt, Int32.toInt_zero, m1_toInt, Int64.le_iff_toInt_le, Int64.lt_iff_toInt_lt, ← Int64.toInt_inj, pk_lT, i64_toInt, Int64.toInt_zero, eq_self, not_true_eq_false, not_false_eq_true] at c16 c34 c45 <;> omega) | omega)
              all_goals
                skip
                refine x_aload_n dX8_person_48 rfl ?_
                refine x_iload_n dX8_person_49 rfl ?_
                refine x_callV1 lk_X8_341 (m_tinsOn (M := (mI (mI M 1 (nI 0)) 0 (nI 0))) hF _) ho dX8_person_50 rfl (Nat.le_of_ble_eq_true rfl) (by omega) (by decide) (by omega) (by omega) ?_
                refine x_iret hr rfl dX8_person_53 (by omega) (by omega) (hQ _ _ ?_)
                try dsimp only [mI, mSA] at c16 c34 c45
                exact ⟨by simp [spPerson, hx, hy], by simp [spPerson, hx, hy, mI_mI, mSA_id]⟩
        · try (exfalso; first | (simp (disch := omega) [inS_ix, inS_N, ixL_N, ix_nI, hx, hy, ixL_i] at c34 <;> omega) | (simp (disch := omega) only [h0, h1, h3, Int32.le_iff_toInt_le, Int32.lt_iff_toInt_lt, ← Int32.toInt_inj, nI_toInt, Int32.toInt_zero, m1_toInt, Int64.le_iff_toInt_le, Int64.lt_iff_toInt_lt, ← Int64.toInt_inj, pk_lT, i64_toInt, Int64.toInt_zero, eq_self, not_true_eq_false, not_false_eq_true] at c16 c34 <;> omega) | omega)
          all_goals
            skip
            refine x_aload_n dX8_person_37 rfl ?_
            refine x_iconst (v := nI 5) rfl dX8_person_38 ?_
            refine x_callV1 lk_X8_327 (m_refuse _) ho dX8_person_39 rfl (Nat.le_of_ble_eq_true rfl) (by omega) (by decide) (by omega) (by omega) ?_
            refine x_iret hr rfl dX8_person_42 (by omega) (by omega) (hQ _ _ ?_)
            try dsimp only [mI, mSA] at c16 c34
            exact ⟨by simp [spPerson, hx, hy], by simp [spPerson, hx, hy, mI_mI, mSA_id]⟩
    · try (exfalso; first | (simp (disch := omega) [inS_ix, inS_N, ixL_N, ix_nI, hx, hy, ixL_i] at c16 <;> omega) | (simp (disch := omega) only [h0, h1, h3, Int32.le_iff_toInt_le, Int32.lt_iff_toInt_lt, ← Int32.toInt_inj, nI_toInt, Int32.toInt_zero, m1_toInt, Int64.le_iff_toInt_le, Int64.lt_iff_toInt_lt, ← Int64.toInt_inj, pk_lT, i64_toInt, Int64.toInt_zero, eq_self, not_true_eq_false, not_false_eq_true] at c16 <;> omega) | omega)
      all_goals
        skip
        refine x_aload_n dX8_person_19 rfl ?_
        refine x_iconst (v := nI 2) rfl dX8_person_20 ?_
        refine x_callV1 lk_X8_327 (m_refuse _) ho dX8_person_21 rfl (Nat.le_of_ble_eq_true rfl) (by omega) (by decide) (by omega) (by omega) ?_
        refine x_iret hr rfl dX8_person_24 (by omega) (by omega) (hQ _ _ ?_)
        try dsimp only [mI, mSA] at c16
        exact ⟨by simp [spPerson, hx, hy], by simp [spPerson, hx, hy, mI_mI, mSA_id]⟩
  · skip
    refine CT.of (ini := false) (by decide +kernel) q1937 q164 (Nat.le_of_ble_eq_true rfl) (by decide) ?_
    intro Γ hw ho hL hr hh hini hal hd hmc hms hQ
    subst hw
    show AW Γ cX8_person 0 0 0 [some (.ref 32), some (.int (nI t)), some (.int (nI 1))] [] (hM M R)
    have h0 := hF.c0
    have h1 := hF.c1
    have h3 := hF.c3
    have l0 := hF.l0
    have l1 := hF.l1
    have l3 := hF.l3
    refine x_aload_n dX8_person_0 rfl ?_
    refine x_iconst (v := nI 0) rfl dX8_person_1 ?_
    refine m_puti (k := 1) (pf_X8_70 (ini := false)) ho hini dX8_person_2 rfl rfl (by decide) (ms_1 _ _) ?_
    refine x_aload_n dX8_person_5 rfl ?_
    refine x_iconst (v := nI 0) rfl dX8_person_6 ?_
    refine m_puti (k := 0) (pf_X8_73 (ini := false)) ho hini dX8_person_7 rfl rfl (by decide) (ms_0 _ _) ?_
    refine x_aload_n dX8_person_10 rfl ?_
    refine x_iload_n dX8_person_11 rfl ?_
    refine x_i2lN (by omega) dX8_person_12 ?_
    refine x_callV1 lk_X8_336 (m_isPersonAt (M := (mI (mI M 1 (nI 0)) 0 (nI 0))) hF _) ho dX8_person_13 rfl (Nat.le_of_ble_eq_true rfl) (by omega) (by decide) (by omega) (by omega) ?_
    refine x_ifb_ne (tgt := 25) dX8_person_16 (by decide) (fun c16 => ?_) (fun c16 => ?_)
    · try (exfalso; first | (simp (disch := omega) [inS_ix, inS_N, ixL_N, ix_nI, hx, hy, ixL_i] at c16 <;> omega) | (simp (disch := omega) only [h0, h1, h3, Int32.le_iff_toInt_le, Int32.lt_iff_toInt_lt, ← Int32.toInt_inj, nI_toInt, Int32.toInt_zero, m1_toInt, Int64.le_iff_toInt_le, Int64.lt_iff_toInt_lt, ← Int64.toInt_inj, pk_lT, i64_toInt, Int64.toInt_zero, eq_self, not_true_eq_false, not_false_eq_true] at c16 <;> omega) | omega)
      all_goals
        skip
        refine x_iload_n dX8_person_25 rfl ?_
        refine x_i2lN (by omega) dX8_person_26 ?_
        refine x_lconst (v := lN 0) rfl dX8_person_27 ?_
        refine x_ldc2 (v := lN 4) ho q1942 dX8_person_28 ?_
        refine x_callS3 lk_X8_105 (m_isIn _ _ _) ho dX8_person_31 (Nat.le_of_ble_eq_true rfl) (by omega) (by decide) (by omega) (by omega) ?_
        refine x_ifb_ne (tgt := 43) dX8_person_34 (by decide) (fun c34 => ?_) (fun c34 => ?_)
        · try (exfalso; first | (simp (disch := omega) [inS_ix, inS_N, ixL_N, ix_nI, hx, hy, ixL_i] at c34 <;> omega) | (simp (disch := omega) only [h0, h1, h3, Int32.le_iff_toInt_le, Int32.lt_iff_toInt_lt, ← Int32.toInt_inj, nI_toInt, Int32.toInt_zero, m1_toInt, Int64.le_iff_toInt_le, Int64.lt_iff_toInt_lt, ← Int64.toInt_inj, pk_lT, i64_toInt, Int64.toInt_zero, eq_self, not_true_eq_false, not_false_eq_true] at c16 c34 <;> omega) | omega)
          all_goals
            skip
            refine x_iload_n dX8_person_43 rfl ?_
            refine x_iconst (v := nI 2) rfl dX8_person_44 ?_
            refine x_icmp_ne (tgt := 54) dX8_person_45 (by decide) (fun c45 => ?_) (fun c45 => ?_)
            · try (exfalso; first | (simp (disch := omega) [inS_ix, inS_N, ixL_N, ix_nI, hx, hy, ixL_i] at c45 <;> omega) | (simp (disch := omega) only [h0, h1, h3, Int32.le_iff_toInt_le, Int32.lt_iff_toInt_lt, ← Int32.toInt_inj, nI_toInt, Int32.toInt_zero, m1_toInt, Int64.le_iff_toInt_le, Int64.lt_iff_toInt_lt, ← Int64.toInt_inj, pk_lT, i64_toInt, Int64.toInt_zero, eq_self, not_true_eq_false, not_false_eq_true] at c16 c34 c45 <;> omega) | omega)
              all_goals
                skip
                refine x_iload_n dX8_person_54 rfl ?_
                refine x_iconst (v := nI 4) rfl dX8_person_55 ?_
                refine x_icmp_ne (tgt := 69) dX8_person_56 (by decide) (fun c56 => ?_) (fun c56 => ?_)
                · try (exfalso; first | (simp (disch := omega) [inS_ix, inS_N, ixL_N, ix_nI, hx, hy, ixL_i] at c56 <;> omega) | (simp (disch := omega) only [h0, h1, h3, Int32.le_iff_toInt_le, Int32.lt_iff_toInt_lt, ← Int32.toInt_inj, nI_toInt, Int32.toInt_zero, m1_toInt, Int64.le_iff_toInt_le, Int64.lt_iff_toInt_lt, ← Int64.toInt_inj, pk_lT, i64_toInt, Int64.toInt_zero, eq_self, not_true_eq_false, not_false_eq_true] at c16 c34 c45 c56 <;> omega) | omega)
                  all_goals
                    skip
                    refine x_aload_n dX8_person_69 rfl ?_
                    refine x_getf gf_X8_35 ho dX8_person_70 rfl rfl ?_
                    refine x_iload_n dX8_person_73 rfl ?_
                    refine x_if_ne (tgt := 82) dX8_person_74 (by decide) (fun c74 => ?_) (fun c74 => ?_)
                    · try (exfalso; first | (simp (disch := omega) [inS_ix, inS_N, ixL_N, ix_nI, hx, hy, ixL_i] at c74 <;> omega) | (simp (disch := omega) only [h0, h1, h3, Int32.le_iff_toInt_le, Int32.lt_iff_toInt_lt, ← Int32.toInt_inj, nI_toInt, Int32.toInt_zero, m1_toInt, Int64.le_iff_toInt_le, Int64.lt_iff_toInt_lt, ← Int64.toInt_inj, pk_lT, i64_toInt, Int64.toInt_zero, eq_self, not_true_eq_false, not_false_eq_true] at c16 c34 c45 c56 c74 <;> omega) | omega)
                      all_goals
                        skip
                        refine x_iload_n dX8_person_82 rfl ?_
                        refine x_iconst (v := nI 1) rfl dX8_person_83 ?_
                        refine x_icmp_ne (tgt := 92) dX8_person_84 (by decide) (fun c84 => ?_) (fun c84 => ?_)
                        · try (exfalso; first | (simp (disch := omega) [inS_ix, inS_N, ixL_N, ix_nI, hx, hy, ixL_i] at c84 <;> omega) | (simp (disch := omega) only [h0, h1, h3, Int32.le_iff_toInt_le, Int32.lt_iff_toInt_lt, ← Int32.toInt_inj, nI_toInt, Int32.toInt_zero, m1_toInt, Int64.le_iff_toInt_le, Int64.lt_iff_toInt_lt, ← Int64.toInt_inj, pk_lT, i64_toInt, Int64.toInt_zero, eq_self, not_true_eq_false, not_false_eq_true] at c16 c34 c45 c56 c74 c84 <;> omega) | omega)
                          all_goals
                            skip
                            refine x_bipush (v := nI 26) rfl dX8_person_92 ?_
                            refine x_iload_n dX8_person_94 rfl ?_
                            refine x_iaddN dX8_person_95 ?_
                            refine x_iald dX8_person_96 rfl (by first | rfl | exact nI_add _ _ | (simp only [nI_add, pk_mul]; rfl)) (by omega) (by decide) ?_
                            refine x_iret hr rfl dX8_person_97 (by omega) (by omega) (hQ _ _ ?_)
                            try dsimp only [mI, mSA] at c16 c34 c45 c56 c74 c84
                            exact ⟨by simp [spPerson, hx, hy], by simp [spPerson, hx, hy, mI_mI, mSA_id]⟩
                        · try (exfalso; first | (simp (disch := omega) [inS_ix, inS_N, ixL_N, ix_nI, hx, hy, ixL_i] at c84 <;> omega) | (simp (disch := omega) only [h0, h1, h3, Int32.le_iff_toInt_le, Int32.lt_iff_toInt_lt, ← Int32.toInt_inj, nI_toInt, Int32.toInt_zero, m1_toInt, Int64.le_iff_toInt_le, Int64.lt_iff_toInt_lt, ← Int64.toInt_inj, pk_lT, i64_toInt, Int64.toInt_zero, eq_self, not_true_eq_false, not_false_eq_true] at c16 c34 c45 c56 c74 c84 <;> omega) | omega)
                          all_goals
                            skip
                            refine x_bipush (v := nI 19) rfl dX8_person_87 ?_
                            refine x_goto (tgt := 94) dX8_person_89 (by decide) ?_
                            refine x_iload_n dX8_person_94 rfl ?_
                            refine x_iaddN dX8_person_95 ?_
                            refine x_iald dX8_person_96 rfl (by first | rfl | exact nI_add _ _ | (simp only [nI_add, pk_mul]; rfl)) (by omega) (by decide) ?_
                            refine x_iret hr rfl dX8_person_97 (by omega) (by omega) (hQ _ _ ?_)
                            try dsimp only [mI, mSA] at c16 c34 c45 c56 c74 c84
                            exact ⟨by simp [spPerson, hx, hy], by simp [spPerson, hx, hy, mI_mI, mSA_id]⟩
                    · try (exfalso; first | (simp (disch := omega) [inS_ix, inS_N, ixL_N, ix_nI, hx, hy, ixL_i] at c74 <;> omega) | (simp (disch := omega) only [h0, h1, h3, Int32.le_iff_toInt_le, Int32.lt_iff_toInt_lt, ← Int32.toInt_inj, nI_toInt, Int32.toInt_zero, m1_toInt, Int64.le_iff_toInt_le, Int64.lt_iff_toInt_lt, ← Int64.toInt_inj, pk_lT, i64_toInt, Int64.toInt_zero, eq_self, not_true_eq_false, not_false_eq_true] at c16 c34 c45 c56 c74 <;> omega) | omega)
                      all_goals
                        skip
                        refine x_bipush (v := nI 12) rfl dX8_person_77 ?_
                        refine x_goto (tgt := 94) dX8_person_79 (by decide) ?_
                        refine x_iload_n dX8_person_94 rfl ?_
                        refine x_iaddN dX8_person_95 ?_
                        refine x_iald dX8_person_96 rfl (by first | rfl | exact nI_add _ _ | (simp only [nI_add, pk_mul]; rfl)) (by omega) (by decide) ?_
                        refine x_iret hr rfl dX8_person_97 (by omega) (by omega) (hQ _ _ ?_)
                        try dsimp only [mI, mSA] at c16 c34 c45 c56 c74
                        exact ⟨by simp [spPerson, hx, hy], by simp [spPerson, hx, hy, mI_mI, mSA_id]⟩
                · try (exfalso; first | (simp (disch := omega) [inS_ix, inS_N, ixL_N, ix_nI, hx, hy, ixL_i] at c56 <;> omega) | (simp (disch := omega) only [h0, h1, h3, Int32.le_iff_toInt_le, Int32.lt_iff_toInt_lt, ← Int32.toInt_inj, nI_toInt, Int32.toInt_zero, m1_toInt, Int64.le_iff_toInt_le, Int64.lt_iff_toInt_lt, ← Int64.toInt_inj, pk_lT, i64_toInt, Int64.toInt_zero, eq_self, not_true_eq_false, not_false_eq_true] at c16 c34 c45 c56 <;> omega) | omega)
                  all_goals
                    skip
                    refine x_aload_n dX8_person_59 rfl ?_
                    refine x_aload_n dX8_person_60 rfl ?_
                    refine x_iload_n dX8_person_61 rfl ?_
                    refine x_callV1 lk_X8_341 (m_tinsOn (M := (mI (mI M 1 (nI 0)) 0 (nI 0))) hF _) ho dX8_person_62 rfl (Nat.le_of_ble_eq_true rfl) (by omega) (by decide) (by omega) (by omega) ?_
                    refine x_callV1 lk_X8_322 (m_worthAll (M := (mI (mI M 1 (nI 0)) 0 (nI 0))) hF _) ho dX8_person_65 rfl (Nat.le_of_ble_eq_true rfl) (by omega) (by decide) (by omega) (by omega) ?_
                    refine x_iret hr rfl dX8_person_68 (by omega) (by omega) (hQ _ _ ?_)
                    try dsimp only [mI, mSA] at c16 c34 c45 c56
                    exact ⟨by simp [spPerson, hx, hy], by simp [spPerson, hx, hy, mI_mI, mSA_id]⟩
            · try (exfalso; first | (simp (disch := omega) [inS_ix, inS_N, ixL_N, ix_nI, hx, hy, ixL_i] at c45 <;> omega) | (simp (disch := omega) only [h0, h1, h3, Int32.le_iff_toInt_le, Int32.lt_iff_toInt_lt, ← Int32.toInt_inj, nI_toInt, Int32.toInt_zero, m1_toInt, Int64.le_iff_toInt_le, Int64.lt_iff_toInt_lt, ← Int64.toInt_inj, pk_lT, i64_toInt, Int64.toInt_zero, eq_self, not_true_eq_false, not_false_eq_true] at c16 c34 c45 <;> omega) | omega)
              all_goals
                skip
                refine x_aload_n dX8_person_48 rfl ?_
                refine x_iload_n dX8_person_49 rfl ?_
                refine x_callV1 lk_X8_341 (m_tinsOn (M := (mI (mI M 1 (nI 0)) 0 (nI 0))) hF _) ho dX8_person_50 rfl (Nat.le_of_ble_eq_true rfl) (by omega) (by decide) (by omega) (by omega) ?_
                refine x_iret hr rfl dX8_person_53 (by omega) (by omega) (hQ _ _ ?_)
                try dsimp only [mI, mSA] at c16 c34 c45
                exact ⟨by simp [spPerson, hx, hy], by simp [spPerson, hx, hy, mI_mI, mSA_id]⟩
        · try (exfalso; first | (simp (disch := omega) [inS_ix, inS_N, ixL_N, ix_nI, hx, hy, ixL_i] at c34 <;> omega) | (simp (disch := omega) only [h0, h1, h3, Int32.le_iff_toInt_le, Int32.lt_iff_toInt_lt, ← Int32.toInt_inj, nI_toInt, Int32.toInt_zero, m1_toInt, Int64.le_iff_toInt_le, Int64.lt_iff_toInt_lt, ← Int64.toInt_inj, pk_lT, i64_toInt, Int64.toInt_zero, eq_self, not_true_eq_false, not_false_eq_true] at c16 c34 <;> omega) | omega)
          all_goals
            skip
            refine x_aload_n dX8_person_37 rfl ?_
            refine x_iconst (v := nI 5) rfl dX8_person_38 ?_
            refine x_callV1 lk_X8_327 (m_refuse _) ho dX8_person_39 rfl (Nat.le_of_ble_eq_true rfl) (by omega) (by decide) (by omega) (by omega) ?_
            refine x_iret hr rfl dX8_person_42 (by omega) (by omega) (hQ _ _ ?_)
            try dsimp only [mI, mSA] at c16 c34
            exact ⟨by simp [spPerson, hx, hy], by simp [spPerson, hx, hy, mI_mI, mSA_id]⟩
    · try (exfalso; first | (simp (disch := omega) [inS_ix, inS_N, ixL_N, ix_nI, hx, hy, ixL_i] at c16 <;> omega) | (simp (disch := omega) only [h0, h1, h3, Int32.le_iff_toInt_le, Int32.lt_iff_toInt_lt, ← Int32.toInt_inj, nI_toInt, Int32.toInt_zero, m1_toInt, Int64.le_iff_toInt_le, Int64.lt_iff_toInt_lt, ← Int64.toInt_inj, pk_lT, i64_toInt, Int64.toInt_zero, eq_self, not_true_eq_false, not_false_eq_true] at c16 <;> omega) | omega)
      all_goals
        skip
        refine x_aload_n dX8_person_19 rfl ?_
        refine x_iconst (v := nI 2) rfl dX8_person_20 ?_
        refine x_callV1 lk_X8_327 (m_refuse _) ho dX8_person_21 rfl (Nat.le_of_ble_eq_true rfl) (by omega) (by decide) (by omega) (by omega) ?_
        refine x_iret hr rfl dX8_person_24 (by omega) (by omega) (hQ _ _ ?_)
        try dsimp only [mI, mSA] at c16
        exact ⟨by simp [spPerson, hx, hy], by simp [spPerson, hx, hy, mI_mI, mSA_id]⟩
  · skip
    refine CT.of (ini := false) (by decide +kernel) q1937 q164 (Nat.le_of_ble_eq_true rfl) (by decide) ?_
    intro Γ hw ho hL hr hh hini hal hd hmc hms hQ
    subst hw
    show AW Γ cX8_person 0 0 0 [some (.ref 32), some (.int (nI t)), some (.int (nI 2))] [] (hM M R)
    have h0 := hF.c0
    have h1 := hF.c1
    have h3 := hF.c3
    have l0 := hF.l0
    have l1 := hF.l1
    have l3 := hF.l3
    refine x_aload_n dX8_person_0 rfl ?_
    refine x_iconst (v := nI 0) rfl dX8_person_1 ?_
    refine m_puti (k := 1) (pf_X8_70 (ini := false)) ho hini dX8_person_2 rfl rfl (by decide) (ms_1 _ _) ?_
    refine x_aload_n dX8_person_5 rfl ?_
    refine x_iconst (v := nI 0) rfl dX8_person_6 ?_
    refine m_puti (k := 0) (pf_X8_73 (ini := false)) ho hini dX8_person_7 rfl rfl (by decide) (ms_0 _ _) ?_
    refine x_aload_n dX8_person_10 rfl ?_
    refine x_iload_n dX8_person_11 rfl ?_
    refine x_i2lN (by omega) dX8_person_12 ?_
    refine x_callV1 lk_X8_336 (m_isPersonAt (M := (mI (mI M 1 (nI 0)) 0 (nI 0))) hF _) ho dX8_person_13 rfl (Nat.le_of_ble_eq_true rfl) (by omega) (by decide) (by omega) (by omega) ?_
    refine x_ifb_ne (tgt := 25) dX8_person_16 (by decide) (fun c16 => ?_) (fun c16 => ?_)
    · try (exfalso; first | (simp (disch := omega) [inS_ix, inS_N, ixL_N, ix_nI, hx, hy, ixL_i] at c16 <;> omega) | (simp (disch := omega) only [h0, h1, h3, Int32.le_iff_toInt_le, Int32.lt_iff_toInt_lt, ← Int32.toInt_inj, nI_toInt, Int32.toInt_zero, m1_toInt, Int64.le_iff_toInt_le, Int64.lt_iff_toInt_lt, ← Int64.toInt_inj, pk_lT, i64_toInt, Int64.toInt_zero, eq_self, not_true_eq_false, not_false_eq_true] at c16 <;> omega) | omega)
      all_goals
        skip
        refine x_iload_n dX8_person_25 rfl ?_
        refine x_i2lN (by omega) dX8_person_26 ?_
        refine x_lconst (v := lN 0) rfl dX8_person_27 ?_
        refine x_ldc2 (v := lN 4) ho q1942 dX8_person_28 ?_
        refine x_callS3 lk_X8_105 (m_isIn _ _ _) ho dX8_person_31 (Nat.le_of_ble_eq_true rfl) (by omega) (by decide) (by omega) (by omega) ?_
        refine x_ifb_ne (tgt := 43) dX8_person_34 (by decide) (fun c34 => ?_) (fun c34 => ?_)
        · try (exfalso; first | (simp (disch := omega) [inS_ix, inS_N, ixL_N, ix_nI, hx, hy, ixL_i] at c34 <;> omega) | (simp (disch := omega) only [h0, h1, h3, Int32.le_iff_toInt_le, Int32.lt_iff_toInt_lt, ← Int32.toInt_inj, nI_toInt, Int32.toInt_zero, m1_toInt, Int64.le_iff_toInt_le, Int64.lt_iff_toInt_lt, ← Int64.toInt_inj, pk_lT, i64_toInt, Int64.toInt_zero, eq_self, not_true_eq_false, not_false_eq_true] at c16 c34 <;> omega) | omega)
          all_goals
            skip
            refine x_iload_n dX8_person_43 rfl ?_
            refine x_iconst (v := nI 2) rfl dX8_person_44 ?_
            refine x_icmp_ne (tgt := 54) dX8_person_45 (by decide) (fun c45 => ?_) (fun c45 => ?_)
            · try (exfalso; first | (simp (disch := omega) [inS_ix, inS_N, ixL_N, ix_nI, hx, hy, ixL_i] at c45 <;> omega) | (simp (disch := omega) only [h0, h1, h3, Int32.le_iff_toInt_le, Int32.lt_iff_toInt_lt, ← Int32.toInt_inj, nI_toInt, Int32.toInt_zero, m1_toInt, Int64.le_iff_toInt_le, Int64.lt_iff_toInt_lt, ← Int64.toInt_inj, pk_lT, i64_toInt, Int64.toInt_zero, eq_self, not_true_eq_false, not_false_eq_true] at c16 c34 c45 <;> omega) | omega)
              all_goals
                skip
                refine x_iload_n dX8_person_54 rfl ?_
                refine x_iconst (v := nI 4) rfl dX8_person_55 ?_
                refine x_icmp_ne (tgt := 69) dX8_person_56 (by decide) (fun c56 => ?_) (fun c56 => ?_)
                · try (exfalso; first | (simp (disch := omega) [inS_ix, inS_N, ixL_N, ix_nI, hx, hy, ixL_i] at c56 <;> omega) | (simp (disch := omega) only [h0, h1, h3, Int32.le_iff_toInt_le, Int32.lt_iff_toInt_lt, ← Int32.toInt_inj, nI_toInt, Int32.toInt_zero, m1_toInt, Int64.le_iff_toInt_le, Int64.lt_iff_toInt_lt, ← Int64.toInt_inj, pk_lT, i64_toInt, Int64.toInt_zero, eq_self, not_true_eq_false, not_false_eq_true] at c16 c34 c45 c56 <;> omega) | omega)
                  all_goals
                    skip
                    refine x_aload_n dX8_person_69 rfl ?_
                    refine x_getf gf_X8_35 ho dX8_person_70 rfl rfl ?_
                    refine x_iload_n dX8_person_73 rfl ?_
                    refine x_if_ne (tgt := 82) dX8_person_74 (by decide) (fun c74 => ?_) (fun c74 => ?_)
                    · try (exfalso; first | (simp (disch := omega) [inS_ix, inS_N, ixL_N, ix_nI, hx, hy, ixL_i] at c74 <;> omega) | (simp (disch := omega) only [h0, h1, h3, Int32.le_iff_toInt_le, Int32.lt_iff_toInt_lt, ← Int32.toInt_inj, nI_toInt, Int32.toInt_zero, m1_toInt, Int64.le_iff_toInt_le, Int64.lt_iff_toInt_lt, ← Int64.toInt_inj, pk_lT, i64_toInt, Int64.toInt_zero, eq_self, not_true_eq_false, not_false_eq_true] at c16 c34 c45 c56 c74 <;> omega) | omega)
                      all_goals
                        skip
                        refine x_iload_n dX8_person_82 rfl ?_
                        refine x_iconst (v := nI 1) rfl dX8_person_83 ?_
                        refine x_icmp_ne (tgt := 92) dX8_person_84 (by decide) (fun c84 => ?_) (fun c84 => ?_)
                        · try (exfalso; first | (simp (disch := omega) [inS_ix, inS_N, ixL_N, ix_nI, hx, hy, ixL_i] at c84 <;> omega) | (simp (disch := omega) only [h0, h1, h3, Int32.le_iff_toInt_le, Int32.lt_iff_toInt_lt, ← Int32.toInt_inj, nI_toInt, Int32.toInt_zero, m1_toInt, Int64.le_iff_toInt_le, Int64.lt_iff_toInt_lt, ← Int64.toInt_inj, pk_lT, i64_toInt, Int64.toInt_zero, eq_self, not_true_eq_false, not_false_eq_true] at c16 c34 c45 c56 c74 c84 <;> omega) | omega)
                          all_goals
                            skip
                            refine x_bipush (v := nI 26) rfl dX8_person_92 ?_
                            refine x_iload_n dX8_person_94 rfl ?_
                            refine x_iaddN dX8_person_95 ?_
                            refine x_iald dX8_person_96 rfl (by first | rfl | exact nI_add _ _ | (simp only [nI_add, pk_mul]; rfl)) (by omega) (by decide) ?_
                            refine x_iret hr rfl dX8_person_97 (by omega) (by omega) (hQ _ _ ?_)
                            try dsimp only [mI, mSA] at c16 c34 c45 c56 c74 c84
                            exact ⟨by simp [spPerson, hx, hy], by simp [spPerson, hx, hy, mI_mI, mSA_id]⟩
                        · try (exfalso; first | (simp (disch := omega) [inS_ix, inS_N, ixL_N, ix_nI, hx, hy, ixL_i] at c84 <;> omega) | (simp (disch := omega) only [h0, h1, h3, Int32.le_iff_toInt_le, Int32.lt_iff_toInt_lt, ← Int32.toInt_inj, nI_toInt, Int32.toInt_zero, m1_toInt, Int64.le_iff_toInt_le, Int64.lt_iff_toInt_lt, ← Int64.toInt_inj, pk_lT, i64_toInt, Int64.toInt_zero, eq_self, not_true_eq_false, not_false_eq_true] at c16 c34 c45 c56 c74 c84 <;> omega) | omega)
                          all_goals
                            skip
                            refine x_bipush (v := nI 19) rfl dX8_person_87 ?_
                            refine x_goto (tgt := 94) dX8_person_89 (by decide) ?_
                            refine x_iload_n dX8_person_94 rfl ?_
                            refine x_iaddN dX8_person_95 ?_
                            refine x_iald dX8_person_96 rfl (by first | rfl | exact nI_add _ _ | (simp only [nI_add, pk_mul]; rfl)) (by omega) (by decide) ?_
                            refine x_iret hr rfl dX8_person_97 (by omega) (by omega) (hQ _ _ ?_)
                            try dsimp only [mI, mSA] at c16 c34 c45 c56 c74 c84
                            exact ⟨by simp [spPerson, hx, hy], by simp [spPerson, hx, hy, mI_mI, mSA_id]⟩
                    · try (exfalso; first | (simp (disch := omega) [inS_ix, inS_N, ixL_N, ix_nI, hx, hy, ixL_i] at c74 <;> omega) | (simp (disch := omega) only [h0, h1, h3, Int32.le_iff_toInt_le, Int32.lt_iff_toInt_lt, ← Int32.toInt_inj, nI_toInt, Int32.toInt_zero, m1_toInt, Int64.le_iff_toInt_le, Int64.lt_iff_toInt_lt, ← Int64.toInt_inj, pk_lT, i64_toInt, Int64.toInt_zero, eq_self, not_true_eq_false, not_false_eq_true] at c16 c34 c45 c56 c74 <;> omega) | omega)
                      all_goals
                        skip
                        refine x_bipush (v := nI 12) rfl dX8_person_77 ?_
                        refine x_goto (tgt := 94) dX8_person_79 (by decide) ?_
                        refine x_iload_n dX8_person_94 rfl ?_
                        refine x_iaddN dX8_person_95 ?_
                        refine x_iald dX8_person_96 rfl (by first | rfl | exact nI_add _ _ | (simp only [nI_add, pk_mul]; rfl)) (by omega) (by decide) ?_
                        refine x_iret hr rfl dX8_person_97 (by omega) (by omega) (hQ _ _ ?_)
                        try dsimp only [mI, mSA] at c16 c34 c45 c56 c74
                        exact ⟨by simp [spPerson, hx, hy], by simp [spPerson, hx, hy, mI_mI, mSA_id]⟩
                · try (exfalso; first | (simp (disch := omega) [inS_ix, inS_N, ixL_N, ix_nI, hx, hy, ixL_i] at c56 <;> omega) | (simp (disch := omega) only [h0, h1, h3, Int32.le_iff_toInt_le, Int32.lt_iff_toInt_lt, ← Int32.toInt_inj, nI_toInt, Int32.toInt_zero, m1_toInt, Int64.le_iff_toInt_le, Int64.lt_iff_toInt_lt, ← Int64.toInt_inj, pk_lT, i64_toInt, Int64.toInt_zero, eq_self, not_true_eq_false, not_false_eq_true] at c16 c34 c45 c56 <;> omega) | omega)
                  all_goals
                    skip
                    refine x_aload_n dX8_person_59 rfl ?_
                    refine x_aload_n dX8_person_60 rfl ?_
                    refine x_iload_n dX8_person_61 rfl ?_
                    refine x_callV1 lk_X8_341 (m_tinsOn (M := (mI (mI M 1 (nI 0)) 0 (nI 0))) hF _) ho dX8_person_62 rfl (Nat.le_of_ble_eq_true rfl) (by omega) (by decide) (by omega) (by omega) ?_
                    refine x_callV1 lk_X8_322 (m_worthAll (M := (mI (mI M 1 (nI 0)) 0 (nI 0))) hF _) ho dX8_person_65 rfl (Nat.le_of_ble_eq_true rfl) (by omega) (by decide) (by omega) (by omega) ?_
                    refine x_iret hr rfl dX8_person_68 (by omega) (by omega) (hQ _ _ ?_)
                    try dsimp only [mI, mSA] at c16 c34 c45 c56
                    exact ⟨by simp [spPerson, hx, hy], by simp [spPerson, hx, hy, mI_mI, mSA_id]⟩
            · try (exfalso; first | (simp (disch := omega) [inS_ix, inS_N, ixL_N, ix_nI, hx, hy, ixL_i] at c45 <;> omega) | (simp (disch := omega) only [h0, h1, h3, Int32.le_iff_toInt_le, Int32.lt_iff_toInt_lt, ← Int32.toInt_inj, nI_toInt, Int32.toInt_zero, m1_toInt, Int64.le_iff_toInt_le, Int64.lt_iff_toInt_lt, ← Int64.toInt_inj, pk_lT, i64_toInt, Int64.toInt_zero, eq_self, not_true_eq_false, not_false_eq_true] at c16 c34 c45 <;> omega) | omega)
              all_goals
                skip
                refine x_aload_n dX8_person_48 rfl ?_
                refine x_iload_n dX8_person_49 rfl ?_
                refine x_callV1 lk_X8_341 (m_tinsOn (M := (mI (mI M 1 (nI 0)) 0 (nI 0))) hF _) ho dX8_person_50 rfl (Nat.le_of_ble_eq_true rfl) (by omega) (by decide) (by omega) (by omega) ?_
                refine x_iret hr rfl dX8_person_53 (by omega) (by omega) (hQ _ _ ?_)
                try dsimp only [mI, mSA] at c16 c34 c45
                exact ⟨by simp [spPerson, hx, hy], by simp [spPerson, hx, hy, mI_mI, mSA_id]⟩
        · try (exfalso; first | (simp (disch := omega) [inS_ix, inS_N, ixL_N, ix_nI, hx, hy, ixL_i] at c34 <;> omega) | (simp (disch := omega) only [h0, h1, h3, Int32.le_iff_toInt_le, Int32.lt_iff_toInt_lt, ← Int32.toInt_inj, nI_toInt, Int32.toInt_zero, m1_toInt, Int64.le_iff_toInt_le, Int64.lt_iff_toInt_lt, ← Int64.toInt_inj, pk_lT, i64_toInt, Int64.toInt_zero, eq_self, not_true_eq_false, not_false_eq_true] at c16 c34 <;> omega) | omega)
          all_goals
            skip
            refine x_aload_n dX8_person_37 rfl ?_
            refine x_iconst (v := nI 5) rfl dX8_person_38 ?_
            refine x_callV1 lk_X8_327 (m_refuse _) ho dX8_person_39 rfl (Nat.le_of_ble_eq_true rfl) (by omega) (by decide) (by omega) (by omega) ?_
            refine x_iret hr rfl dX8_person_42 (by omega) (by omega) (hQ _ _ ?_)
            try dsimp only [mI, mSA] at c16 c34
            exact ⟨by simp [spPerson, hx, hy], by simp [spPerson, hx, hy, mI_mI, mSA_id]⟩
    · try (exfalso; first | (simp (disch := omega) [inS_ix, inS_N, ixL_N, ix_nI, hx, hy, ixL_i] at c16 <;> omega) | (simp (disch := omega) only [h0, h1, h3, Int32.le_iff_toInt_le, Int32.lt_iff_toInt_lt, ← Int32.toInt_inj, nI_toInt, Int32.toInt_zero, m1_toInt, Int64.le_iff_toInt_le, Int64.lt_iff_toInt_lt, ← Int64.toInt_inj, pk_lT, i64_toInt, Int64.toInt_zero, eq_self, not_true_eq_false, not_false_eq_true] at c16 <;> omega) | omega)
      all_goals
        skip
        refine x_aload_n dX8_person_19 rfl ?_
        refine x_iconst (v := nI 2) rfl dX8_person_20 ?_
        refine x_callV1 lk_X8_327 (m_refuse _) ho dX8_person_21 rfl (Nat.le_of_ble_eq_true rfl) (by omega) (by decide) (by omega) (by omega) ?_
        refine x_iret hr rfl dX8_person_24 (by omega) (by omega) (hQ _ _ ?_)
        try dsimp only [mI, mSA] at c16
        exact ⟨by simp [spPerson, hx, hy], by simp [spPerson, hx, hy, mI_mI, mSA_id]⟩
  · skip
    refine CT.of (ini := false) (by decide +kernel) q1937 q164 (Nat.le_of_ble_eq_true rfl) (by decide) ?_
    intro Γ hw ho hL hr hh hini hal hd hmc hms hQ
    subst hw
    show AW Γ cX8_person 0 0 0 [some (.ref 32), some (.int (nI t)), some (.int (nI 3))] [] (hM M R)
    have h0 := hF.c0
    have h1 := hF.c1
    have h3 := hF.c3
    have l0 := hF.l0
    have l1 := hF.l1
    have l3 := hF.l3
    refine x_aload_n dX8_person_0 rfl ?_
    refine x_iconst (v := nI 0) rfl dX8_person_1 ?_
    refine m_puti (k := 1) (pf_X8_70 (ini := false)) ho hini dX8_person_2 rfl rfl (by decide) (ms_1 _ _) ?_
    refine x_aload_n dX8_person_5 rfl ?_
    refine x_iconst (v := nI 0) rfl dX8_person_6 ?_
    refine m_puti (k := 0) (pf_X8_73 (ini := false)) ho hini dX8_person_7 rfl rfl (by decide) (ms_0 _ _) ?_
    refine x_aload_n dX8_person_10 rfl ?_
    refine x_iload_n dX8_person_11 rfl ?_
    refine x_i2lN (by omega) dX8_person_12 ?_
    refine x_callV1 lk_X8_336 (m_isPersonAt (M := (mI (mI M 1 (nI 0)) 0 (nI 0))) hF _) ho dX8_person_13 rfl (Nat.le_of_ble_eq_true rfl) (by omega) (by decide) (by omega) (by omega) ?_
    refine x_ifb_ne (tgt := 25) dX8_person_16 (by decide) (fun c16 => ?_) (fun c16 => ?_)
    · try (exfalso; first | (simp (disch := omega) [inS_ix, inS_N, ixL_N, ix_nI, hx, hy, ixL_i] at c16 <;> omega) | (simp (disch := omega) only [h0, h1, h3, Int32.le_iff_toInt_le, Int32.lt_iff_toInt_lt, ← Int32.toInt_inj, nI_toInt, Int32.toInt_zero, m1_toInt, Int64.le_iff_toInt_le, Int64.lt_iff_toInt_lt, ← Int64.toInt_inj, pk_lT, i64_toInt, Int64.toInt_zero, eq_self, not_true_eq_false, not_false_eq_true] at c16 <;> omega) | omega)
      all_goals
        skip
        refine x_iload_n dX8_person_25 rfl ?_
        refine x_i2lN (by omega) dX8_person_26 ?_
        refine x_lconst (v := lN 0) rfl dX8_person_27 ?_
        refine x_ldc2 (v := lN 4) ho q1942 dX8_person_28 ?_
        refine x_callS3 lk_X8_105 (m_isIn _ _ _) ho dX8_person_31 (Nat.le_of_ble_eq_true rfl) (by omega) (by decide) (by omega) (by omega) ?_
        refine x_ifb_ne (tgt := 43) dX8_person_34 (by decide) (fun c34 => ?_) (fun c34 => ?_)
        · try (exfalso; first | (simp (disch := omega) [inS_ix, inS_N, ixL_N, ix_nI, hx, hy, ixL_i] at c34 <;> omega) | (simp (disch := omega) only [h0, h1, h3, Int32.le_iff_toInt_le, Int32.lt_iff_toInt_lt, ← Int32.toInt_inj, nI_toInt, Int32.toInt_zero, m1_toInt, Int64.le_iff_toInt_le, Int64.lt_iff_toInt_lt, ← Int64.toInt_inj, pk_lT, i64_toInt, Int64.toInt_zero, eq_self, not_true_eq_false, not_false_eq_true] at c16 c34 <;> omega) | omega)
          all_goals
            skip
            refine x_iload_n dX8_person_43 rfl ?_
            refine x_iconst (v := nI 2) rfl dX8_person_44 ?_
            refine x_icmp_ne (tgt := 54) dX8_person_45 (by decide) (fun c45 => ?_) (fun c45 => ?_)
            · try (exfalso; first | (simp (disch := omega) [inS_ix, inS_N, ixL_N, ix_nI, hx, hy, ixL_i] at c45 <;> omega) | (simp (disch := omega) only [h0, h1, h3, Int32.le_iff_toInt_le, Int32.lt_iff_toInt_lt, ← Int32.toInt_inj, nI_toInt, Int32.toInt_zero, m1_toInt, Int64.le_iff_toInt_le, Int64.lt_iff_toInt_lt, ← Int64.toInt_inj, pk_lT, i64_toInt, Int64.toInt_zero, eq_self, not_true_eq_false, not_false_eq_true] at c16 c34 c45 <;> omega) | omega)
              all_goals
                skip
                refine x_iload_n dX8_person_54 rfl ?_
                refine x_iconst (v := nI 4) rfl dX8_person_55 ?_
                refine x_icmp_ne (tgt := 69) dX8_person_56 (by decide) (fun c56 => ?_) (fun c56 => ?_)
                · try (exfalso; first | (simp (disch := omega) [inS_ix, inS_N, ixL_N, ix_nI, hx, hy, ixL_i] at c56 <;> omega) | (simp (disch := omega) only [h0, h1, h3, Int32.le_iff_toInt_le, Int32.lt_iff_toInt_lt, ← Int32.toInt_inj, nI_toInt, Int32.toInt_zero, m1_toInt, Int64.le_iff_toInt_le, Int64.lt_iff_toInt_lt, ← Int64.toInt_inj, pk_lT, i64_toInt, Int64.toInt_zero, eq_self, not_true_eq_false, not_false_eq_true] at c16 c34 c45 c56 <;> omega) | omega)
                  all_goals
                    skip
                    refine x_aload_n dX8_person_69 rfl ?_
                    refine x_getf gf_X8_35 ho dX8_person_70 rfl rfl ?_
                    refine x_iload_n dX8_person_73 rfl ?_
                    refine x_if_ne (tgt := 82) dX8_person_74 (by decide) (fun c74 => ?_) (fun c74 => ?_)
                    · try (exfalso; first | (simp (disch := omega) [inS_ix, inS_N, ixL_N, ix_nI, hx, hy, ixL_i] at c74 <;> omega) | (simp (disch := omega) only [h0, h1, h3, Int32.le_iff_toInt_le, Int32.lt_iff_toInt_lt, ← Int32.toInt_inj, nI_toInt, Int32.toInt_zero, m1_toInt, Int64.le_iff_toInt_le, Int64.lt_iff_toInt_lt, ← Int64.toInt_inj, pk_lT, i64_toInt, Int64.toInt_zero, eq_self, not_true_eq_false, not_false_eq_true] at c16 c34 c45 c56 c74 <;> omega) | omega)
                      all_goals
                        skip
                        refine x_iload_n dX8_person_82 rfl ?_
                        refine x_iconst (v := nI 1) rfl dX8_person_83 ?_
                        refine x_icmp_ne (tgt := 92) dX8_person_84 (by decide) (fun c84 => ?_) (fun c84 => ?_)
                        · try (exfalso; first | (simp (disch := omega) [inS_ix, inS_N, ixL_N, ix_nI, hx, hy, ixL_i] at c84 <;> omega) | (simp (disch := omega) only [h0, h1, h3, Int32.le_iff_toInt_le, Int32.lt_iff_toInt_lt, ← Int32.toInt_inj, nI_toInt, Int32.toInt_zero, m1_toInt, Int64.le_iff_toInt_le, Int64.lt_iff_toInt_lt, ← Int64.toInt_inj, pk_lT, i64_toInt, Int64.toInt_zero, eq_self, not_true_eq_false, not_false_eq_true] at c16 c34 c45 c56 c74 c84 <;> omega) | omega)
                          all_goals
                            skip
                            refine x_bipush (v := nI 26) rfl dX8_person_92 ?_
                            refine x_iload_n dX8_person_94 rfl ?_
                            refine x_iaddN dX8_person_95 ?_
                            refine x_iald dX8_person_96 rfl (by first | rfl | exact nI_add _ _ | (simp only [nI_add, pk_mul]; rfl)) (by omega) (by decide) ?_
                            refine x_iret hr rfl dX8_person_97 (by omega) (by omega) (hQ _ _ ?_)
                            try dsimp only [mI, mSA] at c16 c34 c45 c56 c74 c84
                            exact ⟨by simp [spPerson, hx, hy], by simp [spPerson, hx, hy, mI_mI, mSA_id]⟩
                        · try (exfalso; first | (simp (disch := omega) [inS_ix, inS_N, ixL_N, ix_nI, hx, hy, ixL_i] at c84 <;> omega) | (simp (disch := omega) only [h0, h1, h3, Int32.le_iff_toInt_le, Int32.lt_iff_toInt_lt, ← Int32.toInt_inj, nI_toInt, Int32.toInt_zero, m1_toInt, Int64.le_iff_toInt_le, Int64.lt_iff_toInt_lt, ← Int64.toInt_inj, pk_lT, i64_toInt, Int64.toInt_zero, eq_self, not_true_eq_false, not_false_eq_true] at c16 c34 c45 c56 c74 c84 <;> omega) | omega)
                          all_goals
                            skip
                            refine x_bipush (v := nI 19) rfl dX8_person_87 ?_
                            refine x_goto (tgt := 94) dX8_person_89 (by decide) ?_
                            refine x_iload_n dX8_person_94 rfl ?_
                            refine x_iaddN dX8_person_95 ?_
                            refine x_iald dX8_person_96 rfl (by first | rfl | exact nI_add _ _ | (simp only [nI_add, pk_mul]; rfl)) (by omega) (by decide) ?_
                            refine x_iret hr rfl dX8_person_97 (by omega) (by omega) (hQ _ _ ?_)
                            try dsimp only [mI, mSA] at c16 c34 c45 c56 c74 c84
                            exact ⟨by simp [spPerson, hx, hy], by simp [spPerson, hx, hy, mI_mI, mSA_id]⟩
                    · try (exfalso; first | (simp (disch := omega) [inS_ix, inS_N, ixL_N, ix_nI, hx, hy, ixL_i] at c74 <;> omega) | (simp (disch := omega) only [h0, h1, h3, Int32.le_iff_toInt_le, Int32.lt_iff_toInt_lt, ← Int32.toInt_inj, nI_toInt, Int32.toInt_zero, m1_toInt, Int64.le_iff_toInt_le, Int64.lt_iff_toInt_lt, ← Int64.toInt_inj, pk_lT, i64_toInt, Int64.toInt_zero, eq_self, not_true_eq_false, not_false_eq_true] at c16 c34 c45 c56 c74 <;> omega) | omega)
                      all_goals
                        skip
                        refine x_bipush (v := nI 12) rfl dX8_person_77 ?_
                        refine x_goto (tgt := 94) dX8_person_79 (by decide) ?_
                        refine x_iload_n dX8_person_94 rfl ?_
                        refine x_iaddN dX8_person_95 ?_
                        refine x_iald dX8_person_96 rfl (by first | rfl | exact nI_add _ _ | (simp only [nI_add, pk_mul]; rfl)) (by omega) (by decide) ?_
                        refine x_iret hr rfl dX8_person_97 (by omega) (by omega) (hQ _ _ ?_)
                        try dsimp only [mI, mSA] at c16 c34 c45 c56 c74
                        exact ⟨by simp [spPerson, hx, hy], by simp [spPerson, hx, hy, mI_mI, mSA_id]⟩
                · try (exfalso; first | (simp (disch := omega) [inS_ix, inS_N, ixL_N, ix_nI, hx, hy, ixL_i] at c56 <;> omega) | (simp (disch := omega) only [h0, h1, h3, Int32.le_iff_toInt_le, Int32.lt_iff_toInt_lt, ← Int32.toInt_inj, nI_toInt, Int32.toInt_zero, m1_toInt, Int64.le_iff_toInt_le, Int64.lt_iff_toInt_lt, ← Int64.toInt_inj, pk_lT, i64_toInt, Int64.toInt_zero, eq_self, not_true_eq_false, not_false_eq_true] at c16 c34 c45 c56 <;> omega) | omega)
                  all_goals
                    skip
                    refine x_aload_n dX8_person_59 rfl ?_
                    refine x_aload_n dX8_person_60 rfl ?_
                    refine x_iload_n dX8_person_61 rfl ?_
                    refine x_callV1 lk_X8_341 (m_tinsOn (M := (mI (mI M 1 (nI 0)) 0 (nI 0))) hF _) ho dX8_person_62 rfl (Nat.le_of_ble_eq_true rfl) (by omega) (by decide) (by omega) (by omega) ?_
                    refine x_callV1 lk_X8_322 (m_worthAll (M := (mI (mI M 1 (nI 0)) 0 (nI 0))) hF _) ho dX8_person_65 rfl (Nat.le_of_ble_eq_true rfl) (by omega) (by decide) (by omega) (by omega) ?_
                    refine x_iret hr rfl dX8_person_68 (by omega) (by omega) (hQ _ _ ?_)
                    try dsimp only [mI, mSA] at c16 c34 c45 c56
                    exact ⟨by simp [spPerson, hx, hy], by simp [spPerson, hx, hy, mI_mI, mSA_id]⟩
            · try (exfalso; first | (simp (disch := omega) [inS_ix, inS_N, ixL_N, ix_nI, hx, hy, ixL_i] at c45 <;> omega) | (simp (disch := omega) only [h0, h1, h3, Int32.le_iff_toInt_le, Int32.lt_iff_toInt_lt, ← Int32.toInt_inj, nI_toInt, Int32.toInt_zero, m1_toInt, Int64.le_iff_toInt_le, Int64.lt_iff_toInt_lt, ← Int64.toInt_inj, pk_lT, i64_toInt, Int64.toInt_zero, eq_self, not_true_eq_false, not_false_eq_true] at c16 c34 c45 <;> omega) | omega)
              all_goals
                skip
                refine x_aload_n dX8_person_48 rfl ?_
                refine x_iload_n dX8_person_49 rfl ?_
                refine x_callV1 lk_X8_341 (m_tinsOn (M := (mI (mI M 1 (nI 0)) 0 (nI 0))) hF _) ho dX8_person_50 rfl (Nat.le_of_ble_eq_true rfl) (by omega) (by decide) (by omega) (by omega) ?_
                refine x_iret hr rfl dX8_person_53 (by omega) (by omega) (hQ _ _ ?_)
                try dsimp only [mI, mSA] at c16 c34 c45
                exact ⟨by simp [spPerson, hx, hy], by simp [spPerson, hx, hy, mI_mI, mSA_id]⟩
        · try (exfalso; first | (simp (disch := omega) [inS_ix, inS_N, ixL_N, ix_nI, hx, hy, ixL_i] at c34 <;> omega) | (simp (disch := omega) only [h0, h1, h3, Int32.le_iff_toInt_le, Int32.lt_iff_toInt_lt, ← Int32.toInt_inj, nI_toInt, Int32.toInt_zero, m1_toInt, Int64.le_iff_toInt_le, Int64.lt_iff_toInt_lt, ← Int64.toInt_inj, pk_lT, i64_toInt, Int64.toInt_zero, eq_self, not_true_eq_false, not_false_eq_true] at c16 c34 <;> omega) | omega)
          all_goals
            skip
            refine x_aload_n dX8_person_37 rfl ?_
            refine x_iconst (v := nI 5) rfl dX8_person_38 ?_
            refine x_callV1 lk_X8_327 (m_refuse _) ho dX8_person_39 rfl (Nat.le_of_ble_eq_true rfl) (by omega) (by decide) (by omega) (by omega) ?_
            refine x_iret hr rfl dX8_person_42 (by omega) (by omega) (hQ _ _ ?_)
            try dsimp only [mI, mSA] at c16 c34
            exact ⟨by simp [spPerson, hx, hy], by simp [spPerson, hx, hy, mI_mI, mSA_id]⟩
    · try (exfalso; first | (simp (disch := omega) [inS_ix, inS_N, ixL_N, ix_nI, hx, hy, ixL_i] at c16 <;> omega) | (simp (disch := omega) only [h0, h1, h3, Int32.le_iff_toInt_le, Int32.lt_iff_toInt_lt, ← Int32.toInt_inj, nI_toInt, Int32.toInt_zero, m1_toInt, Int64.le_iff_toInt_le, Int64.lt_iff_toInt_lt, ← Int64.toInt_inj, pk_lT, i64_toInt, Int64.toInt_zero, eq_self, not_true_eq_false, not_false_eq_true] at c16 <;> omega) | omega)
      all_goals
        skip
        refine x_aload_n dX8_person_19 rfl ?_
        refine x_iconst (v := nI 2) rfl dX8_person_20 ?_
        refine x_callV1 lk_X8_327 (m_refuse _) ho dX8_person_21 rfl (Nat.le_of_ble_eq_true rfl) (by omega) (by decide) (by omega) (by omega) ?_
        refine x_iret hr rfl dX8_person_24 (by omega) (by omega) (hQ _ _ ?_)
        try dsimp only [mI, mSA] at c16
        exact ⟨by simp [spPerson, hx, hy], by simp [spPerson, hx, hy, mI_mI, mSA_id]⟩
  · skip
    refine CT.of (ini := false) (by decide +kernel) q1937 q164 (Nat.le_of_ble_eq_true rfl) (by decide) ?_
    intro Γ hw ho hL hr hh hini hal hd hmc hms hQ
    subst hw
    show AW Γ cX8_person 0 0 0 [some (.ref 32), some (.int (nI t)), some (.int (nI 4))] [] (hM M R)
    have h0 := hF.c0
    have h1 := hF.c1
    have h3 := hF.c3
    have l0 := hF.l0
    have l1 := hF.l1
    have l3 := hF.l3
    refine x_aload_n dX8_person_0 rfl ?_
    refine x_iconst (v := nI 0) rfl dX8_person_1 ?_
    refine m_puti (k := 1) (pf_X8_70 (ini := false)) ho hini dX8_person_2 rfl rfl (by decide) (ms_1 _ _) ?_
    refine x_aload_n dX8_person_5 rfl ?_
    refine x_iconst (v := nI 0) rfl dX8_person_6 ?_
    refine m_puti (k := 0) (pf_X8_73 (ini := false)) ho hini dX8_person_7 rfl rfl (by decide) (ms_0 _ _) ?_
    refine x_aload_n dX8_person_10 rfl ?_
    refine x_iload_n dX8_person_11 rfl ?_
    refine x_i2lN (by omega) dX8_person_12 ?_
    refine x_callV1 lk_X8_336 (m_isPersonAt (M := (mI (mI M 1 (nI 0)) 0 (nI 0))) hF _) ho dX8_person_13 rfl (Nat.le_of_ble_eq_true rfl) (by omega) (by decide) (by omega) (by omega) ?_
    refine x_ifb_ne (tgt := 25) dX8_person_16 (by decide) (fun c16 => ?_) (fun c16 => ?_)
    · try (exfalso; first | (simp (disch := omega) [inS_ix, inS_N, ixL_N, ix_nI, hx, hy, ixL_i] at c16 <;> omega) | (simp (disch := omega) only [h0, h1, h3, Int32.le_iff_toInt_le, Int32.lt_iff_toInt_lt, ← Int32.toInt_inj, nI_toInt, Int32.toInt_zero, m1_toInt, Int64.le_iff_toInt_le, Int64.lt_iff_toInt_lt, ← Int64.toInt_inj, pk_lT, i64_toInt, Int64.toInt_zero, eq_self, not_true_eq_false, not_false_eq_true] at c16 <;> omega) | omega)
      all_goals
        skip
        refine x_iload_n dX8_person_25 rfl ?_
        refine x_i2lN (by omega) dX8_person_26 ?_
        refine x_lconst (v := lN 0) rfl dX8_person_27 ?_
        refine x_ldc2 (v := lN 4) ho q1942 dX8_person_28 ?_
        refine x_callS3 lk_X8_105 (m_isIn _ _ _) ho dX8_person_31 (Nat.le_of_ble_eq_true rfl) (by omega) (by decide) (by omega) (by omega) ?_
        refine x_ifb_ne (tgt := 43) dX8_person_34 (by decide) (fun c34 => ?_) (fun c34 => ?_)
        · try (exfalso; first | (simp (disch := omega) [inS_ix, inS_N, ixL_N, ix_nI, hx, hy, ixL_i] at c34 <;> omega) | (simp (disch := omega) only [h0, h1, h3, Int32.le_iff_toInt_le, Int32.lt_iff_toInt_lt, ← Int32.toInt_inj, nI_toInt, Int32.toInt_zero, m1_toInt, Int64.le_iff_toInt_le, Int64.lt_iff_toInt_lt, ← Int64.toInt_inj, pk_lT, i64_toInt, Int64.toInt_zero, eq_self, not_true_eq_false, not_false_eq_true] at c16 c34 <;> omega) | omega)
          all_goals
            skip
            refine x_iload_n dX8_person_43 rfl ?_
            refine x_iconst (v := nI 2) rfl dX8_person_44 ?_
            refine x_icmp_ne (tgt := 54) dX8_person_45 (by decide) (fun c45 => ?_) (fun c45 => ?_)
            · try (exfalso; first | (simp (disch := omega) [inS_ix, inS_N, ixL_N, ix_nI, hx, hy, ixL_i] at c45 <;> omega) | (simp (disch := omega) only [h0, h1, h3, Int32.le_iff_toInt_le, Int32.lt_iff_toInt_lt, ← Int32.toInt_inj, nI_toInt, Int32.toInt_zero, m1_toInt, Int64.le_iff_toInt_le, Int64.lt_iff_toInt_lt, ← Int64.toInt_inj, pk_lT, i64_toInt, Int64.toInt_zero, eq_self, not_true_eq_false, not_false_eq_true] at c16 c34 c45 <;> omega) | omega)
              all_goals
                skip
                refine x_iload_n dX8_person_54 rfl ?_
                refine x_iconst (v := nI 4) rfl dX8_person_55 ?_
                refine x_icmp_ne (tgt := 69) dX8_person_56 (by decide) (fun c56 => ?_) (fun c56 => ?_)
                · try (exfalso; first | (simp (disch := omega) [inS_ix, inS_N, ixL_N, ix_nI, hx, hy, ixL_i] at c56 <;> omega) | (simp (disch := omega) only [h0, h1, h3, Int32.le_iff_toInt_le, Int32.lt_iff_toInt_lt, ← Int32.toInt_inj, nI_toInt, Int32.toInt_zero, m1_toInt, Int64.le_iff_toInt_le, Int64.lt_iff_toInt_lt, ← Int64.toInt_inj, pk_lT, i64_toInt, Int64.toInt_zero, eq_self, not_true_eq_false, not_false_eq_true] at c16 c34 c45 c56 <;> omega) | omega)
                  all_goals
                    skip
                    refine x_aload_n dX8_person_69 rfl ?_
                    refine x_getf gf_X8_35 ho dX8_person_70 rfl rfl ?_
                    refine x_iload_n dX8_person_73 rfl ?_
                    refine x_if_ne (tgt := 82) dX8_person_74 (by decide) (fun c74 => ?_) (fun c74 => ?_)
                    · try (exfalso; first | (simp (disch := omega) [inS_ix, inS_N, ixL_N, ix_nI, hx, hy, ixL_i] at c74 <;> omega) | (simp (disch := omega) only [h0, h1, h3, Int32.le_iff_toInt_le, Int32.lt_iff_toInt_lt, ← Int32.toInt_inj, nI_toInt, Int32.toInt_zero, m1_toInt, Int64.le_iff_toInt_le, Int64.lt_iff_toInt_lt, ← Int64.toInt_inj, pk_lT, i64_toInt, Int64.toInt_zero, eq_self, not_true_eq_false, not_false_eq_true] at c16 c34 c45 c56 c74 <;> omega) | omega)
                      all_goals
                        skip
                        refine x_iload_n dX8_person_82 rfl ?_
                        refine x_iconst (v := nI 1) rfl dX8_person_83 ?_
                        refine x_icmp_ne (tgt := 92) dX8_person_84 (by decide) (fun c84 => ?_) (fun c84 => ?_)
                        · try (exfalso; first | (simp (disch := omega) [inS_ix, inS_N, ixL_N, ix_nI, hx, hy, ixL_i] at c84 <;> omega) | (simp (disch := omega) only [h0, h1, h3, Int32.le_iff_toInt_le, Int32.lt_iff_toInt_lt, ← Int32.toInt_inj, nI_toInt, Int32.toInt_zero, m1_toInt, Int64.le_iff_toInt_le, Int64.lt_iff_toInt_lt, ← Int64.toInt_inj, pk_lT, i64_toInt, Int64.toInt_zero, eq_self, not_true_eq_false, not_false_eq_true] at c16 c34 c45 c56 c74 c84 <;> omega) | omega)
                          all_goals
                            skip
                            refine x_bipush (v := nI 26) rfl dX8_person_92 ?_
                            refine x_iload_n dX8_person_94 rfl ?_
                            refine x_iaddN dX8_person_95 ?_
                            refine x_iald dX8_person_96 rfl (by first | rfl | exact nI_add _ _ | (simp only [nI_add, pk_mul]; rfl)) (by omega) (by decide) ?_
                            refine x_iret hr rfl dX8_person_97 (by omega) (by omega) (hQ _ _ ?_)
                            try dsimp only [mI, mSA] at c16 c34 c45 c56 c74 c84
                            exact ⟨by simp [spPerson, hx, hy], by simp [spPerson, hx, hy, mI_mI, mSA_id]⟩
                        · try (exfalso; first | (simp (disch := omega) [inS_ix, inS_N, ixL_N, ix_nI, hx, hy, ixL_i] at c84 <;> omega) | (simp (disch := omega) only [h0, h1, h3, Int32.le_iff_toInt_le, Int32.lt_iff_toInt_lt, ← Int32.toInt_inj, nI_toInt, Int32.toInt_zero, m1_toInt, Int64.le_iff_toInt_le, Int64.lt_iff_toInt_lt, ← Int64.toInt_inj, pk_lT, i64_toInt, Int64.toInt_zero, eq_self, not_true_eq_false, not_false_eq_true] at c16 c34 c45 c56 c74 c84 <;> omega) | omega)
                          all_goals
                            skip
                            refine x_bipush (v := nI 19) rfl dX8_person_87 ?_
                            refine x_goto (tgt := 94) dX8_person_89 (by decide) ?_
                            refine x_iload_n dX8_person_94 rfl ?_
                            refine x_iaddN dX8_person_95 ?_
                            refine x_iald dX8_person_96 rfl (by first | rfl | exact nI_add _ _ | (simp only [nI_add, pk_mul]; rfl)) (by omega) (by decide) ?_
                            refine x_iret hr rfl dX8_person_97 (by omega) (by omega) (hQ _ _ ?_)
                            try dsimp only [mI, mSA] at c16 c34 c45 c56 c74 c84
                            exact ⟨by simp [spPerson, hx, hy], by simp [spPerson, hx, hy, mI_mI, mSA_id]⟩
                    · try (exfalso; first | (simp (disch := omega) [inS_ix, inS_N, ixL_N, ix_nI, hx, hy, ixL_i] at c74 <;> omega) | (simp (disch := omega) only [h0, h1, h3, Int32.le_iff_toInt_le, Int32.lt_iff_toInt_lt, ← Int32.toInt_inj, nI_toInt, Int32.toInt_zero, m1_toInt, Int64.le_iff_toInt_le, Int64.lt_iff_toInt_lt, ← Int64.toInt_inj, pk_lT, i64_toInt, Int64.toInt_zero, eq_self, not_true_eq_false, not_false_eq_true] at c16 c34 c45 c56 c74 <;> omega) | omega)
                      all_goals
                        skip
                        refine x_bipush (v := nI 12) rfl dX8_person_77 ?_
                        refine x_goto (tgt := 94) dX8_person_79 (by decide) ?_
                        refine x_iload_n dX8_person_94 rfl ?_
                        refine x_iaddN dX8_person_95 ?_
                        refine x_iald dX8_person_96 rfl (by first | rfl | exact nI_add _ _ | (simp only [nI_add, pk_mul]; rfl)) (by omega) (by decide) ?_
                        refine x_iret hr rfl dX8_person_97 (by omega) (by omega) (hQ _ _ ?_)
                        try dsimp only [mI, mSA] at c16 c34 c45 c56 c74
                        exact ⟨by simp [spPerson, hx, hy], by simp [spPerson, hx, hy, mI_mI, mSA_id]⟩
                · try (exfalso; first | (simp (disch := omega) [inS_ix, inS_N, ixL_N, ix_nI, hx, hy, ixL_i] at c56 <;> omega) | (simp (disch := omega) only [h0, h1, h3, Int32.le_iff_toInt_le, Int32.lt_iff_toInt_lt, ← Int32.toInt_inj, nI_toInt, Int32.toInt_zero, m1_toInt, Int64.le_iff_toInt_le, Int64.lt_iff_toInt_lt, ← Int64.toInt_inj, pk_lT, i64_toInt, Int64.toInt_zero, eq_self, not_true_eq_false, not_false_eq_true] at c16 c34 c45 c56 <;> omega) | omega)
                  all_goals
                    skip
                    refine x_aload_n dX8_person_59 rfl ?_
                    refine x_aload_n dX8_person_60 rfl ?_
                    refine x_iload_n dX8_person_61 rfl ?_
                    refine x_callV1 lk_X8_341 (m_tinsOn (M := (mI (mI M 1 (nI 0)) 0 (nI 0))) hF _) ho dX8_person_62 rfl (Nat.le_of_ble_eq_true rfl) (by omega) (by decide) (by omega) (by omega) ?_
                    refine x_callV1 lk_X8_322 (m_worthAll (M := (mI (mI M 1 (nI 0)) 0 (nI 0))) hF _) ho dX8_person_65 rfl (Nat.le_of_ble_eq_true rfl) (by omega) (by decide) (by omega) (by omega) ?_
                    refine x_iret hr rfl dX8_person_68 (by omega) (by omega) (hQ _ _ ?_)
                    try dsimp only [mI, mSA] at c16 c34 c45 c56
                    exact ⟨by simp [spPerson, hx, hy], by simp [spPerson, hx, hy, mI_mI, mSA_id]⟩
            · try (exfalso; first | (simp (disch := omega) [inS_ix, inS_N, ixL_N, ix_nI, hx, hy, ixL_i] at c45 <;> omega) | (simp (disch := omega) only [h0, h1, h3, Int32.le_iff_toInt_le, Int32.lt_iff_toInt_lt, ← Int32.toInt_inj, nI_toInt, Int32.toInt_zero, m1_toInt, Int64.le_iff_toInt_le, Int64.lt_iff_toInt_lt, ← Int64.toInt_inj, pk_lT, i64_toInt, Int64.toInt_zero, eq_self, not_true_eq_false, not_false_eq_true] at c16 c34 c45 <;> omega) | omega)
              all_goals
                skip
                refine x_aload_n dX8_person_48 rfl ?_
                refine x_iload_n dX8_person_49 rfl ?_
                refine x_callV1 lk_X8_341 (m_tinsOn (M := (mI (mI M 1 (nI 0)) 0 (nI 0))) hF _) ho dX8_person_50 rfl (Nat.le_of_ble_eq_true rfl) (by omega) (by decide) (by omega) (by omega) ?_
                refine x_iret hr rfl dX8_person_53 (by omega) (by omega) (hQ _ _ ?_)
                try dsimp only [mI, mSA] at c16 c34 c45
                exact ⟨by simp [spPerson, hx, hy], by simp [spPerson, hx, hy, mI_mI, mSA_id]⟩
        · try (exfalso; first | (simp (disch := omega) [inS_ix, inS_N, ixL_N, ix_nI, hx, hy, ixL_i] at c34 <;> omega) | (simp (disch := omega) only [h0, h1, h3, Int32.le_iff_toInt_le, Int32.lt_iff_toInt_lt, ← Int32.toInt_inj, nI_toInt, Int32.toInt_zero, m1_toInt, Int64.le_iff_toInt_le, Int64.lt_iff_toInt_lt, ← Int64.toInt_inj, pk_lT, i64_toInt, Int64.toInt_zero, eq_self, not_true_eq_false, not_false_eq_true] at c16 c34 <;> omega) | omega)
          all_goals
            skip
            refine x_aload_n dX8_person_37 rfl ?_
            refine x_iconst (v := nI 5) rfl dX8_person_38 ?_
            refine x_callV1 lk_X8_327 (m_refuse _) ho dX8_person_39 rfl (Nat.le_of_ble_eq_true rfl) (by omega) (by decide) (by omega) (by omega) ?_
            refine x_iret hr rfl dX8_person_42 (by omega) (by omega) (hQ _ _ ?_)
            try dsimp only [mI, mSA] at c16 c34
            exact ⟨by simp [spPerson, hx, hy], by simp [spPerson, hx, hy, mI_mI, mSA_id]⟩
    · try (exfalso; first | (simp (disch := omega) [inS_ix, inS_N, ixL_N, ix_nI, hx, hy, ixL_i] at c16 <;> omega) | (simp (disch := omega) only [h0, h1, h3, Int32.le_iff_toInt_le, Int32.lt_iff_toInt_lt, ← Int32.toInt_inj, nI_toInt, Int32.toInt_zero, m1_toInt, Int64.le_iff_toInt_le, Int64.lt_iff_toInt_lt, ← Int64.toInt_inj, pk_lT, i64_toInt, Int64.toInt_zero, eq_self, not_true_eq_false, not_false_eq_true] at c16 <;> omega) | omega)
      all_goals
        skip
        refine x_aload_n dX8_person_19 rfl ?_
        refine x_iconst (v := nI 2) rfl dX8_person_20 ?_
        refine x_callV1 lk_X8_327 (m_refuse _) ho dX8_person_21 rfl (Nat.le_of_ble_eq_true rfl) (by omega) (by decide) (by omega) (by omega) ?_
        refine x_iret hr rfl dX8_person_24 (by omega) (by omega) (hQ _ _ ?_)
        try dsimp only [mI, mSA] at c16
        exact ⟨by simp [spPerson, hx, hy], by simp [spPerson, hx, hy, mI_mI, mSA_id]⟩
  · skip
    refine CT.of (ini := false) (by decide +kernel) q1937 q164 (Nat.le_of_ble_eq_true rfl) (by decide) ?_
    intro Γ hw ho hL hr hh hini hal hd hmc hms hQ
    subst hw
    show AW Γ cX8_person 0 0 0 [some (.ref 32), some (.int p9), some (.int w9)] [] (hM M R)
    have h0 := hF.c0
    have h1 := hF.c1
    have h3 := hF.c3
    have l0 := hF.l0
    have l1 := hF.l1
    have l3 := hF.l3
    refine x_aload_n dX8_person_0 rfl ?_
    refine x_iconst (v := nI 0) rfl dX8_person_1 ?_
    refine m_puti (k := 1) (pf_X8_70 (ini := false)) ho hini dX8_person_2 rfl rfl (by decide) (ms_1 _ _) ?_
    refine x_aload_n dX8_person_5 rfl ?_
    refine x_iconst (v := nI 0) rfl dX8_person_6 ?_
    refine m_puti (k := 0) (pf_X8_73 (ini := false)) ho hini dX8_person_7 rfl rfl (by decide) (ms_0 _ _) ?_
    refine x_aload_n dX8_person_10 rfl ?_
    refine x_iload_n dX8_person_11 rfl ?_
    refine x_i2l dX8_person_12 ?_
    refine x_callV1 lk_X8_336 (m_isPersonAt (M := (mI (mI M 1 (nI 0)) 0 (nI 0))) hF _) ho dX8_person_13 rfl (Nat.le_of_ble_eq_true rfl) (by omega) (by decide) (by omega) (by omega) ?_
    refine x_ifb_ne (tgt := 25) dX8_person_16 (by decide) (fun c16 => ?_) (fun c16 => ?_)
    · try (exfalso; first | (simp (disch := omega) [inS_ix, inS_N, ixL_N, ix_nI, hx, ixL_i] at c16 <;> omega) | (simp (disch := omega) only [h0, h1, h3, Int32.le_iff_toInt_le, Int32.lt_iff_toInt_lt, ← Int32.toInt_inj, nI_toInt, Int32.toInt_zero, m1_toInt, Int64.le_iff_toInt_le, Int64.lt_iff_toInt_lt, ← Int64.toInt_inj, pk_lT, i64_toInt, Int64.toInt_zero, eq_self, not_true_eq_false, not_false_eq_true] at c16 <;> omega) | omega)
      all_goals
        skip
        refine x_iload_n dX8_person_25 rfl ?_
        refine x_i2l dX8_person_26 ?_
        refine x_lconst (v := lN 0) rfl dX8_person_27 ?_
        refine x_ldc2 (v := lN 4) ho q1942 dX8_person_28 ?_
        refine x_callS3 lk_X8_105 (m_isIn _ _ _) ho dX8_person_31 (Nat.le_of_ble_eq_true rfl) (by omega) (by decide) (by omega) (by omega) ?_
        refine x_ifb_ne (tgt := 43) dX8_person_34 (by decide) (fun c34 => ?_) (fun c34 => ?_)
        · try (exfalso; first | (simp (disch := omega) [inS_ix, inS_N, ixL_N, ix_nI, hx, ixL_i] at c34 <;> omega) | (simp (disch := omega) only [h0, h1, h3, Int32.le_iff_toInt_le, Int32.lt_iff_toInt_lt, ← Int32.toInt_inj, nI_toInt, Int32.toInt_zero, m1_toInt, Int64.le_iff_toInt_le, Int64.lt_iff_toInt_lt, ← Int64.toInt_inj, pk_lT, i64_toInt, Int64.toInt_zero, eq_self, not_true_eq_false, not_false_eq_true] at c16 c34 <;> omega) | omega)
          all_goals
            skip
            refine x_iload_n dX8_person_43 rfl ?_
            refine x_iconst (v := nI 2) rfl dX8_person_44 ?_
            refine x_icmp_ne (tgt := 54) dX8_person_45 (by decide) (fun c45 => ?_) (fun c45 => ?_)
            · try (exfalso; first | (simp (disch := omega) [inS_ix, inS_N, ixL_N, ix_nI, hx, ixL_i] at c45 <;> omega) | (simp (disch := omega) only [h0, h1, h3, Int32.le_iff_toInt_le, Int32.lt_iff_toInt_lt, ← Int32.toInt_inj, nI_toInt, Int32.toInt_zero, m1_toInt, Int64.le_iff_toInt_le, Int64.lt_iff_toInt_lt, ← Int64.toInt_inj, pk_lT, i64_toInt, Int64.toInt_zero, eq_self, not_true_eq_false, not_false_eq_true] at c16 c34 c45 <;> omega) | omega)
              all_goals
                skip
                refine x_iload_n dX8_person_54 rfl ?_
                refine x_iconst (v := nI 4) rfl dX8_person_55 ?_
                refine x_icmp_ne (tgt := 69) dX8_person_56 (by decide) (fun c56 => ?_) (fun c56 => ?_)
                · try (exfalso; first | (simp (disch := omega) [inS_ix, inS_N, ixL_N, ix_nI, hx, ixL_i] at c56 <;> omega) | (simp (disch := omega) only [h0, h1, h3, Int32.le_iff_toInt_le, Int32.lt_iff_toInt_lt, ← Int32.toInt_inj, nI_toInt, Int32.toInt_zero, m1_toInt, Int64.le_iff_toInt_le, Int64.lt_iff_toInt_lt, ← Int64.toInt_inj, pk_lT, i64_toInt, Int64.toInt_zero, eq_self, not_true_eq_false, not_false_eq_true] at c16 c34 c45 c56 <;> omega) | omega)
                  all_goals
                    skip
                    refine x_aload_n dX8_person_69 rfl ?_
                    refine x_getf gf_X8_35 ho dX8_person_70 rfl rfl ?_
                    refine x_iload_n dX8_person_73 rfl ?_
                    refine x_if_ne (tgt := 82) dX8_person_74 (by decide) (fun c74 => ?_) (fun c74 => ?_)
                    · try (exfalso; first | (simp (disch := omega) [inS_ix, inS_N, ixL_N, ix_nI, hx, ixL_i] at c74 <;> omega) | (simp (disch := omega) only [h0, h1, h3, Int32.le_iff_toInt_le, Int32.lt_iff_toInt_lt, ← Int32.toInt_inj, nI_toInt, Int32.toInt_zero, m1_toInt, Int64.le_iff_toInt_le, Int64.lt_iff_toInt_lt, ← Int64.toInt_inj, pk_lT, i64_toInt, Int64.toInt_zero, eq_self, not_true_eq_false, not_false_eq_true] at c16 c34 c45 c56 c74 <;> omega) | omega)
                      all_goals
                        skip
                        refine x_iload_n dX8_person_82 rfl ?_
                        refine x_iconst (v := nI 1) rfl dX8_person_83 ?_
                        refine x_icmp_ne (tgt := 92) dX8_person_84 (by decide) (fun c84 => ?_) (fun c84 => ?_)
                        · try (exfalso; first | (simp (disch := omega) [inS_ix, inS_N, ixL_N, ix_nI, hx, ixL_i] at c84 <;> omega) | (simp (disch := omega) only [h0, h1, h3, Int32.le_iff_toInt_le, Int32.lt_iff_toInt_lt, ← Int32.toInt_inj, nI_toInt, Int32.toInt_zero, m1_toInt, Int64.le_iff_toInt_le, Int64.lt_iff_toInt_lt, ← Int64.toInt_inj, pk_lT, i64_toInt, Int64.toInt_zero, eq_self, not_true_eq_false, not_false_eq_true] at c16 c34 c45 c56 c74 c84 <;> omega) | omega)
                          all_goals
                            skip
                            refine x_bipush (v := nI 26) rfl dX8_person_92 ?_
                            refine x_iload_n dX8_person_94 rfl ?_
                            refine x_iadd dX8_person_95 ?_
                            refine x_iald dX8_person_96 rfl (by first | rfl | exact nI_add _ _ | (simp only [nI_add, pk_mul]; rfl)) (by omega) (by decide) ?_
                            refine x_iret hr rfl dX8_person_97 (by omega) (by omega) (hQ _ _ ?_)
                            try dsimp only [mI, mSA] at c16 c34 c45 c56 c74 c84
                            exact ⟨by simp [spPerson, hx], by simp [spPerson, hx, mI_mI, mSA_id]⟩
                        · try (exfalso; first | (simp (disch := omega) [inS_ix, inS_N, ixL_N, ix_nI, hx, ixL_i] at c84 <;> omega) | (simp (disch := omega) only [h0, h1, h3, Int32.le_iff_toInt_le, Int32.lt_iff_toInt_lt, ← Int32.toInt_inj, nI_toInt, Int32.toInt_zero, m1_toInt, Int64.le_iff_toInt_le, Int64.lt_iff_toInt_lt, ← Int64.toInt_inj, pk_lT, i64_toInt, Int64.toInt_zero, eq_self, not_true_eq_false, not_false_eq_true] at c16 c34 c45 c56 c74 c84 <;> omega) | omega)
                          all_goals
                            skip
                            refine x_bipush (v := nI 19) rfl dX8_person_87 ?_
                            refine x_goto (tgt := 94) dX8_person_89 (by decide) ?_
                            refine x_iload_n dX8_person_94 rfl ?_
                            refine x_iadd dX8_person_95 ?_
                            refine x_iald dX8_person_96 rfl (by first | rfl | exact nI_add _ _ | (simp only [nI_add, pk_mul]; rfl)) (by omega) (by decide) ?_
                            refine x_iret hr rfl dX8_person_97 (by omega) (by omega) (hQ _ _ ?_)
                            try dsimp only [mI, mSA] at c16 c34 c45 c56 c74 c84
                            exact ⟨by simp [spPerson, hx], by simp [spPerson, hx, mI_mI, mSA_id]⟩
                    · try (exfalso; first | (simp (disch := omega) [inS_ix, inS_N, ixL_N, ix_nI, hx, ixL_i] at c74 <;> omega) | (simp (disch := omega) only [h0, h1, h3, Int32.le_iff_toInt_le, Int32.lt_iff_toInt_lt, ← Int32.toInt_inj, nI_toInt, Int32.toInt_zero, m1_toInt, Int64.le_iff_toInt_le, Int64.lt_iff_toInt_lt, ← Int64.toInt_inj, pk_lT, i64_toInt, Int64.toInt_zero, eq_self, not_true_eq_false, not_false_eq_true] at c16 c34 c45 c56 c74 <;> omega) | omega)
                      all_goals
                        skip
                        refine x_bipush (v := nI 12) rfl dX8_person_77 ?_
                        refine x_goto (tgt := 94) dX8_person_79 (by decide) ?_
                        refine x_iload_n dX8_person_94 rfl ?_
                        refine x_iadd dX8_person_95 ?_
                        refine x_iald dX8_person_96 rfl (by first | rfl | exact nI_add _ _ | (simp only [nI_add, pk_mul]; rfl)) (by omega) (by decide) ?_
                        refine x_iret hr rfl dX8_person_97 (by omega) (by omega) (hQ _ _ ?_)
                        try dsimp only [mI, mSA] at c16 c34 c45 c56 c74
                        exact ⟨by simp [spPerson, hx], by simp [spPerson, hx, mI_mI, mSA_id]⟩
                · try (exfalso; first | (simp (disch := omega) [inS_ix, inS_N, ixL_N, ix_nI, hx, ixL_i] at c56 <;> omega) | (simp (disch := omega) only [h0, h1, h3, Int32.le_iff_toInt_le, Int32.lt_iff_toInt_lt, ← Int32.toInt_inj, nI_toInt, Int32.toInt_zero, m1_toInt, Int64.le_iff_toInt_le, Int64.lt_iff_toInt_lt, ← Int64.toInt_inj, pk_lT, i64_toInt, Int64.toInt_zero, eq_self, not_true_eq_false, not_false_eq_true] at c16 c34 c45 c56 <;> omega) | omega)
                  all_goals
                    skip
                    refine x_aload_n dX8_person_59 rfl ?_
                    refine x_aload_n dX8_person_60 rfl ?_
                    refine x_iload_n dX8_person_61 rfl ?_
                    refine x_callV1 lk_X8_341 (m_tinsOn (M := (mI (mI M 1 (nI 0)) 0 (nI 0))) hF _) ho dX8_person_62 rfl (Nat.le_of_ble_eq_true rfl) (by omega) (by decide) (by omega) (by omega) ?_
                    refine x_callV1 lk_X8_322 (m_worthAll (M := (mI (mI M 1 (nI 0)) 0 (nI 0))) hF _) ho dX8_person_65 rfl (Nat.le_of_ble_eq_true rfl) (by omega) (by decide) (by omega) (by omega) ?_
                    refine x_iret hr rfl dX8_person_68 (by omega) (by omega) (hQ _ _ ?_)
                    try dsimp only [mI, mSA] at c16 c34 c45 c56
                    exact ⟨by simp [spPerson, hx], by simp [spPerson, hx, mI_mI, mSA_id]⟩
            · try (exfalso; first | (simp (disch := omega) [inS_ix, inS_N, ixL_N, ix_nI, hx, ixL_i] at c45 <;> omega) | (simp (disch := omega) only [h0, h1, h3, Int32.le_iff_toInt_le, Int32.lt_iff_toInt_lt, ← Int32.toInt_inj, nI_toInt, Int32.toInt_zero, m1_toInt, Int64.le_iff_toInt_le, Int64.lt_iff_toInt_lt, ← Int64.toInt_inj, pk_lT, i64_toInt, Int64.toInt_zero, eq_self, not_true_eq_false, not_false_eq_true] at c16 c34 c45 <;> omega) | omega)
              all_goals
                skip
                refine x_aload_n dX8_person_48 rfl ?_
                refine x_iload_n dX8_person_49 rfl ?_
                refine x_callV1 lk_X8_341 (m_tinsOn (M := (mI (mI M 1 (nI 0)) 0 (nI 0))) hF _) ho dX8_person_50 rfl (Nat.le_of_ble_eq_true rfl) (by omega) (by decide) (by omega) (by omega) ?_
                refine x_iret hr rfl dX8_person_53 (by omega) (by omega) (hQ _ _ ?_)
                try dsimp only [mI, mSA] at c16 c34 c45
                exact ⟨by simp [spPerson, hx], by simp [spPerson, hx, mI_mI, mSA_id]⟩
        · try (exfalso; first | (simp (disch := omega) [inS_ix, inS_N, ixL_N, ix_nI, hx, ixL_i] at c34 <;> omega) | (simp (disch := omega) only [h0, h1, h3, Int32.le_iff_toInt_le, Int32.lt_iff_toInt_lt, ← Int32.toInt_inj, nI_toInt, Int32.toInt_zero, m1_toInt, Int64.le_iff_toInt_le, Int64.lt_iff_toInt_lt, ← Int64.toInt_inj, pk_lT, i64_toInt, Int64.toInt_zero, eq_self, not_true_eq_false, not_false_eq_true] at c16 c34 <;> omega) | omega)
          all_goals
            skip
            refine x_aload_n dX8_person_37 rfl ?_
            refine x_iconst (v := nI 5) rfl dX8_person_38 ?_
            refine x_callV1 lk_X8_327 (m_refuse _) ho dX8_person_39 rfl (Nat.le_of_ble_eq_true rfl) (by omega) (by decide) (by omega) (by omega) ?_
            refine x_iret hr rfl dX8_person_42 (by omega) (by omega) (hQ _ _ ?_)
            try dsimp only [mI, mSA] at c16 c34
            exact ⟨by simp [spPerson, hx], by simp [spPerson, hx, mI_mI, mSA_id]⟩
    · try (exfalso; first | (simp (disch := omega) [inS_ix, inS_N, ixL_N, ix_nI, hx, ixL_i] at c16 <;> omega) | (simp (disch := omega) only [h0, h1, h3, Int32.le_iff_toInt_le, Int32.lt_iff_toInt_lt, ← Int32.toInt_inj, nI_toInt, Int32.toInt_zero, m1_toInt, Int64.le_iff_toInt_le, Int64.lt_iff_toInt_lt, ← Int64.toInt_inj, pk_lT, i64_toInt, Int64.toInt_zero, eq_self, not_true_eq_false, not_false_eq_true] at c16 <;> omega) | omega)
      all_goals
        skip
        refine x_aload_n dX8_person_19 rfl ?_
        refine x_iconst (v := nI 2) rfl dX8_person_20 ?_
        refine x_callV1 lk_X8_327 (m_refuse _) ho dX8_person_21 rfl (Nat.le_of_ble_eq_true rfl) (by omega) (by decide) (by omega) (by omega) ?_
        refine x_iret hr rfl dX8_person_24 (by omega) (by omega) (hQ _ _ ?_)
        try dsimp only [mI, mSA] at c16
        exact ⟨by simp [spPerson, hx], by simp [spPerson, hx, mI_mI, mSA_id]⟩
  · skip
    refine CT.of (ini := false) (by decide +kernel) q1937 q164 (Nat.le_of_ble_eq_true rfl) (by decide) ?_
    intro Γ hw ho hL hr hh hini hal hd hmc hms hQ
    subst hw
    show AW Γ cX8_person 0 0 0 [some (.ref 32), some (.int (nI t)), some (.int w9)] [] (hM M R)
    have h0 := hF.c0
    have h1 := hF.c1
    have h3 := hF.c3
    have l0 := hF.l0
    have l1 := hF.l1
    have l3 := hF.l3
    refine x_aload_n dX8_person_0 rfl ?_
    refine x_iconst (v := nI 0) rfl dX8_person_1 ?_
    refine m_puti (k := 1) (pf_X8_70 (ini := false)) ho hini dX8_person_2 rfl rfl (by decide) (ms_1 _ _) ?_
    refine x_aload_n dX8_person_5 rfl ?_
    refine x_iconst (v := nI 0) rfl dX8_person_6 ?_
    refine m_puti (k := 0) (pf_X8_73 (ini := false)) ho hini dX8_person_7 rfl rfl (by decide) (ms_0 _ _) ?_
    refine x_aload_n dX8_person_10 rfl ?_
    refine x_iload_n dX8_person_11 rfl ?_
    refine x_i2lN (by omega) dX8_person_12 ?_
    refine x_callV1 lk_X8_336 (m_isPersonAt (M := (mI (mI M 1 (nI 0)) 0 (nI 0))) hF _) ho dX8_person_13 rfl (Nat.le_of_ble_eq_true rfl) (by omega) (by decide) (by omega) (by omega) ?_
    refine x_ifb_ne (tgt := 25) dX8_person_16 (by decide) (fun c16 => ?_) (fun c16 => ?_)
    · try (exfalso; first | (simp (disch := omega) [inS_ix, inS_N, ixL_N, ix_nI, hx, hy, ixL_i] at c16 <;> omega) | (simp (disch := omega) only [h0, h1, h3, Int32.le_iff_toInt_le, Int32.lt_iff_toInt_lt, ← Int32.toInt_inj, nI_toInt, Int32.toInt_zero, m1_toInt, Int64.le_iff_toInt_le, Int64.lt_iff_toInt_lt, ← Int64.toInt_inj, pk_lT, i64_toInt, Int64.toInt_zero, eq_self, not_true_eq_false, not_false_eq_true] at c16 <;> omega) | omega)
      all_goals
        skip
        refine x_iload_n dX8_person_25 rfl ?_
        refine x_i2l dX8_person_26 ?_
        refine x_lconst (v := lN 0) rfl dX8_person_27 ?_
        refine x_ldc2 (v := lN 4) ho q1942 dX8_person_28 ?_
        refine x_callS3 lk_X8_105 (m_isIn _ _ _) ho dX8_person_31 (Nat.le_of_ble_eq_true rfl) (by omega) (by decide) (by omega) (by omega) ?_
        refine x_ifb_ne (tgt := 43) dX8_person_34 (by decide) (fun c34 => ?_) (fun c34 => ?_)
        · try (exfalso; first | (simp (disch := omega) [inS_ix, inS_N, ixL_N, ix_nI, hx, hy, ixL_i] at c34 <;> omega) | (simp (disch := omega) only [h0, h1, h3, Int32.le_iff_toInt_le, Int32.lt_iff_toInt_lt, ← Int32.toInt_inj, nI_toInt, Int32.toInt_zero, m1_toInt, Int64.le_iff_toInt_le, Int64.lt_iff_toInt_lt, ← Int64.toInt_inj, pk_lT, i64_toInt, Int64.toInt_zero, eq_self, not_true_eq_false, not_false_eq_true] at c16 c34 <;> omega) | omega)
          all_goals
            skip
            refine x_iload_n dX8_person_43 rfl ?_
            refine x_iconst (v := nI 2) rfl dX8_person_44 ?_
            refine x_icmp_ne (tgt := 54) dX8_person_45 (by decide) (fun c45 => ?_) (fun c45 => ?_)
            · try (exfalso; first | (simp (disch := omega) [inS_ix, inS_N, ixL_N, ix_nI, hx, hy, ixL_i] at c45 <;> omega) | (simp (disch := omega) only [h0, h1, h3, Int32.le_iff_toInt_le, Int32.lt_iff_toInt_lt, ← Int32.toInt_inj, nI_toInt, Int32.toInt_zero, m1_toInt, Int64.le_iff_toInt_le, Int64.lt_iff_toInt_lt, ← Int64.toInt_inj, pk_lT, i64_toInt, Int64.toInt_zero, eq_self, not_true_eq_false, not_false_eq_true] at c16 c34 c45 <;> omega) | omega)
              all_goals
                skip
                refine x_iload_n dX8_person_54 rfl ?_
                refine x_iconst (v := nI 4) rfl dX8_person_55 ?_
                refine x_icmp_ne (tgt := 69) dX8_person_56 (by decide) (fun c56 => ?_) (fun c56 => ?_)
                · try (exfalso; first | (simp (disch := omega) [inS_ix, inS_N, ixL_N, ix_nI, hx, hy, ixL_i] at c56 <;> omega) | (simp (disch := omega) only [h0, h1, h3, Int32.le_iff_toInt_le, Int32.lt_iff_toInt_lt, ← Int32.toInt_inj, nI_toInt, Int32.toInt_zero, m1_toInt, Int64.le_iff_toInt_le, Int64.lt_iff_toInt_lt, ← Int64.toInt_inj, pk_lT, i64_toInt, Int64.toInt_zero, eq_self, not_true_eq_false, not_false_eq_true] at c16 c34 c45 c56 <;> omega) | omega)
                  all_goals
                    skip
                    refine x_aload_n dX8_person_69 rfl ?_
                    refine x_getf gf_X8_35 ho dX8_person_70 rfl rfl ?_
                    refine x_iload_n dX8_person_73 rfl ?_
                    refine x_if_ne (tgt := 82) dX8_person_74 (by decide) (fun c74 => ?_) (fun c74 => ?_)
                    · try (exfalso; first | (simp (disch := omega) [inS_ix, inS_N, ixL_N, ix_nI, hx, hy, ixL_i] at c74 <;> omega) | (simp (disch := omega) only [h0, h1, h3, Int32.le_iff_toInt_le, Int32.lt_iff_toInt_lt, ← Int32.toInt_inj, nI_toInt, Int32.toInt_zero, m1_toInt, Int64.le_iff_toInt_le, Int64.lt_iff_toInt_lt, ← Int64.toInt_inj, pk_lT, i64_toInt, Int64.toInt_zero, eq_self, not_true_eq_false, not_false_eq_true] at c16 c34 c45 c56 c74 <;> omega) | omega)
                      all_goals
                        skip
                        refine x_iload_n dX8_person_82 rfl ?_
                        refine x_iconst (v := nI 1) rfl dX8_person_83 ?_
                        refine x_icmp_ne (tgt := 92) dX8_person_84 (by decide) (fun c84 => ?_) (fun c84 => ?_)
                        · try (exfalso; first | (simp (disch := omega) [inS_ix, inS_N, ixL_N, ix_nI, hx, hy, ixL_i] at c84 <;> omega) | (simp (disch := omega) only [h0, h1, h3, Int32.le_iff_toInt_le, Int32.lt_iff_toInt_lt, ← Int32.toInt_inj, nI_toInt, Int32.toInt_zero, m1_toInt, Int64.le_iff_toInt_le, Int64.lt_iff_toInt_lt, ← Int64.toInt_inj, pk_lT, i64_toInt, Int64.toInt_zero, eq_self, not_true_eq_false, not_false_eq_true] at c16 c34 c45 c56 c74 c84 <;> omega) | omega)
                          all_goals
                            skip
                            refine x_bipush (v := nI 26) rfl dX8_person_92 ?_
                            refine x_iload_n dX8_person_94 rfl ?_
                            refine x_iaddN dX8_person_95 ?_
                            refine x_iald dX8_person_96 rfl (by first | rfl | exact nI_add _ _ | (simp only [nI_add, pk_mul]; rfl)) (by omega) (by decide) ?_
                            refine x_iret hr rfl dX8_person_97 (by omega) (by omega) (hQ _ _ ?_)
                            try dsimp only [mI, mSA] at c16 c34 c45 c56 c74 c84
                            exact ⟨by simp [spPerson, hx, hy], by simp [spPerson, hx, hy, mI_mI, mSA_id]⟩
                        · try (exfalso; first | (simp (disch := omega) [inS_ix, inS_N, ixL_N, ix_nI, hx, hy, ixL_i] at c84 <;> omega) | (simp (disch := omega) only [h0, h1, h3, Int32.le_iff_toInt_le, Int32.lt_iff_toInt_lt, ← Int32.toInt_inj, nI_toInt, Int32.toInt_zero, m1_toInt, Int64.le_iff_toInt_le, Int64.lt_iff_toInt_lt, ← Int64.toInt_inj, pk_lT, i64_toInt, Int64.toInt_zero, eq_self, not_true_eq_false, not_false_eq_true] at c16 c34 c45 c56 c74 c84 <;> omega) | omega)
                          all_goals
                            skip
                            refine x_bipush (v := nI 19) rfl dX8_person_87 ?_
                            refine x_goto (tgt := 94) dX8_person_89 (by decide) ?_
                            refine x_iload_n dX8_person_94 rfl ?_
                            refine x_iaddN dX8_person_95 ?_
                            refine x_iald dX8_person_96 rfl (by first | rfl | exact nI_add _ _ | (simp only [nI_add, pk_mul]; rfl)) (by omega) (by decide) ?_
                            refine x_iret hr rfl dX8_person_97 (by omega) (by omega) (hQ _ _ ?_)
                            try dsimp only [mI, mSA] at c16 c34 c45 c56 c74 c84
                            exact ⟨by simp [spPerson, hx, hy], by simp [spPerson, hx, hy, mI_mI, mSA_id]⟩
                    · try (exfalso; first | (simp (disch := omega) [inS_ix, inS_N, ixL_N, ix_nI, hx, hy, ixL_i] at c74 <;> omega) | (simp (disch := omega) only [h0, h1, h3, Int32.le_iff_toInt_le, Int32.lt_iff_toInt_lt, ← Int32.toInt_inj, nI_toInt, Int32.toInt_zero, m1_toInt, Int64.le_iff_toInt_le, Int64.lt_iff_toInt_lt, ← Int64.toInt_inj, pk_lT, i64_toInt, Int64.toInt_zero, eq_self, not_true_eq_false, not_false_eq_true] at c16 c34 c45 c56 c74 <;> omega) | omega)
                      all_goals
                        skip
                        refine x_bipush (v := nI 12) rfl dX8_person_77 ?_
                        refine x_goto (tgt := 94) dX8_person_79 (by decide) ?_
                        refine x_iload_n dX8_person_94 rfl ?_
                        refine x_iaddN dX8_person_95 ?_
                        refine x_iald dX8_person_96 rfl (by first | rfl | exact nI_add _ _ | (simp only [nI_add, pk_mul]; rfl)) (by omega) (by decide) ?_
                        refine x_iret hr rfl dX8_person_97 (by omega) (by omega) (hQ _ _ ?_)
                        try dsimp only [mI, mSA] at c16 c34 c45 c56 c74
                        exact ⟨by simp [spPerson, hx, hy], by simp [spPerson, hx, hy, mI_mI, mSA_id]⟩
                · try (exfalso; first | (simp (disch := omega) [inS_ix, inS_N, ixL_N, ix_nI, hx, hy, ixL_i] at c56 <;> omega) | (simp (disch := omega) only [h0, h1, h3, Int32.le_iff_toInt_le, Int32.lt_iff_toInt_lt, ← Int32.toInt_inj, nI_toInt, Int32.toInt_zero, m1_toInt, Int64.le_iff_toInt_le, Int64.lt_iff_toInt_lt, ← Int64.toInt_inj, pk_lT, i64_toInt, Int64.toInt_zero, eq_self, not_true_eq_false, not_false_eq_true] at c16 c34 c45 c56 <;> omega) | omega)
                  all_goals
                    skip
                    refine x_aload_n dX8_person_59 rfl ?_
                    refine x_aload_n dX8_person_60 rfl ?_
                    refine x_iload_n dX8_person_61 rfl ?_
                    refine x_callV1 lk_X8_341 (m_tinsOn (M := (mI (mI M 1 (nI 0)) 0 (nI 0))) hF _) ho dX8_person_62 rfl (Nat.le_of_ble_eq_true rfl) (by omega) (by decide) (by omega) (by omega) ?_
                    refine x_callV1 lk_X8_322 (m_worthAll (M := (mI (mI M 1 (nI 0)) 0 (nI 0))) hF _) ho dX8_person_65 rfl (Nat.le_of_ble_eq_true rfl) (by omega) (by decide) (by omega) (by omega) ?_
                    refine x_iret hr rfl dX8_person_68 (by omega) (by omega) (hQ _ _ ?_)
                    try dsimp only [mI, mSA] at c16 c34 c45 c56
                    exact ⟨by simp [spPerson, hx, hy], by simp [spPerson, hx, hy, mI_mI, mSA_id]⟩
            · try (exfalso; first | (simp (disch := omega) [inS_ix, inS_N, ixL_N, ix_nI, hx, hy, ixL_i] at c45 <;> omega) | (simp (disch := omega) only [h0, h1, h3, Int32.le_iff_toInt_le, Int32.lt_iff_toInt_lt, ← Int32.toInt_inj, nI_toInt, Int32.toInt_zero, m1_toInt, Int64.le_iff_toInt_le, Int64.lt_iff_toInt_lt, ← Int64.toInt_inj, pk_lT, i64_toInt, Int64.toInt_zero, eq_self, not_true_eq_false, not_false_eq_true] at c16 c34 c45 <;> omega) | omega)
              all_goals
                skip
                refine x_aload_n dX8_person_48 rfl ?_
                refine x_iload_n dX8_person_49 rfl ?_
                refine x_callV1 lk_X8_341 (m_tinsOn (M := (mI (mI M 1 (nI 0)) 0 (nI 0))) hF _) ho dX8_person_50 rfl (Nat.le_of_ble_eq_true rfl) (by omega) (by decide) (by omega) (by omega) ?_
                refine x_iret hr rfl dX8_person_53 (by omega) (by omega) (hQ _ _ ?_)
                try dsimp only [mI, mSA] at c16 c34 c45
                exact ⟨by simp [spPerson, hx, hy], by simp [spPerson, hx, hy, mI_mI, mSA_id]⟩
        · try (exfalso; first | (simp (disch := omega) [inS_ix, inS_N, ixL_N, ix_nI, hx, hy, ixL_i] at c34 <;> omega) | (simp (disch := omega) only [h0, h1, h3, Int32.le_iff_toInt_le, Int32.lt_iff_toInt_lt, ← Int32.toInt_inj, nI_toInt, Int32.toInt_zero, m1_toInt, Int64.le_iff_toInt_le, Int64.lt_iff_toInt_lt, ← Int64.toInt_inj, pk_lT, i64_toInt, Int64.toInt_zero, eq_self, not_true_eq_false, not_false_eq_true] at c16 c34 <;> omega) | omega)
          all_goals
            skip
            refine x_aload_n dX8_person_37 rfl ?_
            refine x_iconst (v := nI 5) rfl dX8_person_38 ?_
            refine x_callV1 lk_X8_327 (m_refuse _) ho dX8_person_39 rfl (Nat.le_of_ble_eq_true rfl) (by omega) (by decide) (by omega) (by omega) ?_
            refine x_iret hr rfl dX8_person_42 (by omega) (by omega) (hQ _ _ ?_)
            try dsimp only [mI, mSA] at c16 c34
            exact ⟨by simp [spPerson, hx, hy], by simp [spPerson, hx, hy, mI_mI, mSA_id]⟩
    · try (exfalso; first | (simp (disch := omega) [inS_ix, inS_N, ixL_N, ix_nI, hx, hy, ixL_i] at c16 <;> omega) | (simp (disch := omega) only [h0, h1, h3, Int32.le_iff_toInt_le, Int32.lt_iff_toInt_lt, ← Int32.toInt_inj, nI_toInt, Int32.toInt_zero, m1_toInt, Int64.le_iff_toInt_le, Int64.lt_iff_toInt_lt, ← Int64.toInt_inj, pk_lT, i64_toInt, Int64.toInt_zero, eq_self, not_true_eq_false, not_false_eq_true] at c16 <;> omega) | omega)
      all_goals
        skip
        refine x_aload_n dX8_person_19 rfl ?_
        refine x_iconst (v := nI 2) rfl dX8_person_20 ?_
        refine x_callV1 lk_X8_327 (m_refuse _) ho dX8_person_21 rfl (Nat.le_of_ble_eq_true rfl) (by omega) (by decide) (by omega) (by omega) ?_
        refine x_iret hr rfl dX8_person_24 (by omega) (by omega) (hQ _ _ ?_)
        try dsimp only [mI, mSA] at c16
        exact ⟨by simp [spPerson, hx, hy], by simp [spPerson, hx, hy, mI_mI, mSA_id]⟩
set_option maxHeartbeats 4000000 in
theorem m_tin {w : xW} {M : mS} {R : xH} {tm pm tn G : Nat} (hF : wF (M.2.2.1 5) tm pm tn G) (p9 w9 : Int32) : CT w yX8_tin cX8_tin 3 (some (.int)) [] false (3) 0 0 [.ref 32, .int p9, .int w9] (hM M R) (xret (some (.int (spTin (M.2.2.1 5) tn p9 w9).1)) (hM (mI (mI M 1 (nI 0)) 0 (nI (spTin (M.2.2.1 5) tn p9 w9).2)) R)) := by
  have l0 := hF.l0
  have l1 := hF.l1
  have l3 := hF.l3
  rcases ix_or p9 (n := tn) (by omega) with ⟨hx, hx2⟩ | ⟨t, ht, rfl, hx⟩
  rotate_left 1
  rcases ix_or w9 (n := 5) (by omega) with ⟨hy, hy2⟩ | ⟨j, hj, rfl, hy⟩
  rotate_left 1
  rcases (show j = 0 ∨ j = 1 ∨ j = 2 ∨ j = 3 ∨ j = 4 by omega) with rfl | rfl | rfl | rfl | rfl
  · skip
    refine CT.of (ini := false) (by decide +kernel) q1950 q164 (Nat.le_of_ble_eq_true rfl) (by decide) ?_
    intro Γ hw ho hL hr hh hini hal hd hmc hms hQ
    subst hw
    show AW Γ cX8_tin 0 0 0 [some (.ref 32), some (.int (nI t)), some (.int (nI 0))] [] (hM M R)
    have h0 := hF.c0
    have h1 := hF.c1
    have h3 := hF.c3
    have l0 := hF.l0
    have l1 := hF.l1
    have l3 := hF.l3
    refine x_aload_n dX8_tin_0 rfl ?_
    refine x_iconst (v := nI 0) rfl dX8_tin_1 ?_
    refine m_puti (k := 1) (pf_X8_70 (ini := false)) ho hini dX8_tin_2 rfl rfl (by decide) (ms_1 _ _) ?_
    refine x_aload_n dX8_tin_5 rfl ?_
    refine x_iconst (v := nI 0) rfl dX8_tin_6 ?_
    refine m_puti (k := 0) (pf_X8_73 (ini := false)) ho hini dX8_tin_7 rfl rfl (by decide) (ms_0 _ _) ?_
    refine x_aload_n dX8_tin_10 rfl ?_
    refine x_iload_n dX8_tin_11 rfl ?_
    refine x_callV1 lk_X8_344 (m_isTinAt (M := (mI (mI M 1 (nI 0)) 0 (nI 0))) hF _) ho dX8_tin_12 rfl (Nat.le_of_ble_eq_true rfl) (by omega) (by decide) (by omega) (by omega) ?_
    refine x_ifb_ne (tgt := 24) dX8_tin_15 (by decide) (fun c15 => ?_) (fun c15 => ?_)
    · try (exfalso; first | (simp (disch := omega) [inS_ix, inS_N, ixL_N, ix_nI, hx, hy] at c15 <;> omega) | (simp (disch := omega) only [h0, h1, h3, Int32.le_iff_toInt_le, Int32.lt_iff_toInt_lt, ← Int32.toInt_inj, nI_toInt, Int32.toInt_zero, m1_toInt, Int64.le_iff_toInt_le, Int64.lt_iff_toInt_lt, ← Int64.toInt_inj, pk_lT, i64_toInt, Int64.toInt_zero, eq_self, not_true_eq_false, not_false_eq_true] at c15 <;> omega) | omega)
      all_goals
        skip
        refine x_iload_n dX8_tin_24 rfl ?_
        refine x_i2lN (by omega) dX8_tin_25 ?_
        refine x_lconst (v := lN 0) rfl dX8_tin_26 ?_
        refine x_ldc2 (v := lN 4) ho q1942 dX8_tin_27 ?_
        refine x_callS3 lk_X8_105 (m_isIn _ _ _) ho dX8_tin_30 (Nat.le_of_ble_eq_true rfl) (by omega) (by decide) (by omega) (by omega) ?_
        refine x_ifb_ne (tgt := 42) dX8_tin_33 (by decide) (fun c33 => ?_) (fun c33 => ?_)
        · try (exfalso; first | (simp (disch := omega) [inS_ix, inS_N, ixL_N, ix_nI, hx, hy] at c33 <;> omega) | (simp (disch := omega) only [h0, h1, h3, Int32.le_iff_toInt_le, Int32.lt_iff_toInt_lt, ← Int32.toInt_inj, nI_toInt, Int32.toInt_zero, m1_toInt, Int64.le_iff_toInt_le, Int64.lt_iff_toInt_lt, ← Int64.toInt_inj, pk_lT, i64_toInt, Int64.toInt_zero, eq_self, not_true_eq_false, not_false_eq_true] at c15 c33 <;> omega) | omega)
          all_goals
            skip
            refine x_iload_n dX8_tin_42 rfl ?_
            refine x_iconst (v := nI 1) rfl dX8_tin_43 ?_
            refine x_icmp_ne (tgt := 74) dX8_tin_44 (by decide) (fun c44 => ?_) (fun c44 => ?_)
            · try (exfalso; first | (simp (disch := omega) [inS_ix, inS_N, ixL_N, ix_nI, hx, hy] at c44 <;> omega) | (simp (disch := omega) only [h0, h1, h3, Int32.le_iff_toInt_le, Int32.lt_iff_toInt_lt, ← Int32.toInt_inj, nI_toInt, Int32.toInt_zero, m1_toInt, Int64.le_iff_toInt_le, Int64.lt_iff_toInt_lt, ← Int64.toInt_inj, pk_lT, i64_toInt, Int64.toInt_zero, eq_self, not_true_eq_false, not_false_eq_true] at c15 c33 c44 <;> omega) | omega)
              all_goals
                skip
                refine x_aload_n dX8_tin_74 rfl ?_
                refine x_getf gf_X8_35 ho dX8_tin_75 rfl rfl ?_
                refine x_iload_n dX8_tin_78 rfl ?_
                refine x_if_ne (tgt := 87) dX8_tin_79 (by decide) (fun c79 => ?_) (fun c79 => ?_)
                · try (exfalso; first | (simp (disch := omega) [inS_ix, inS_N, ixL_N, ix_nI, hx, hy] at c79 <;> omega) | (simp (disch := omega) only [h0, h1, h3, Int32.le_iff_toInt_le, Int32.lt_iff_toInt_lt, ← Int32.toInt_inj, nI_toInt, Int32.toInt_zero, m1_toInt, Int64.le_iff_toInt_le, Int64.lt_iff_toInt_lt, ← Int64.toInt_inj, pk_lT, i64_toInt, Int64.toInt_zero, eq_self, not_true_eq_false, not_false_eq_true] at c15 c33 c44 c79 <;> omega) | omega)
                  all_goals
                    skip
                    refine x_iload_n dX8_tin_87 rfl ?_
                    refine x_iconst (v := nI 2) rfl dX8_tin_88 ?_
                    refine x_icmp_ne (tgt := 97) dX8_tin_89 (by decide) (fun c89 => ?_) (fun c89 => ?_)
                    · try (exfalso; first | (simp (disch := omega) [inS_ix, inS_N, ixL_N, ix_nI, hx, hy] at c89 <;> omega) | (simp (disch := omega) only [h0, h1, h3, Int32.le_iff_toInt_le, Int32.lt_iff_toInt_lt, ← Int32.toInt_inj, nI_toInt, Int32.toInt_zero, m1_toInt, Int64.le_iff_toInt_le, Int64.lt_iff_toInt_lt, ← Int64.toInt_inj, pk_lT, i64_toInt, Int64.toInt_zero, eq_self, not_true_eq_false, not_false_eq_true] at c15 c33 c44 c79 c89 <;> omega) | omega)
                      all_goals
                        skip
                        refine x_iload_n dX8_tin_97 rfl ?_
                        refine x_iconst (v := nI 3) rfl dX8_tin_98 ?_
                        refine x_icmp_ne (tgt := 107) dX8_tin_99 (by decide) (fun c99 => ?_) (fun c99 => ?_)
                        · try (exfalso; first | (simp (disch := omega) [inS_ix, inS_N, ixL_N, ix_nI, hx, hy] at c99 <;> omega) | (simp (disch := omega) only [h0, h1, h3, Int32.le_iff_toInt_le, Int32.lt_iff_toInt_lt, ← Int32.toInt_inj, nI_toInt, Int32.toInt_zero, m1_toInt, Int64.le_iff_toInt_le, Int64.lt_iff_toInt_lt, ← Int64.toInt_inj, pk_lT, i64_toInt, Int64.toInt_zero, eq_self, not_true_eq_false, not_false_eq_true] at c15 c33 c44 c79 c89 c99 <;> omega) | omega)
                          all_goals
                            skip
                            refine x_bipush (v := nI 78) rfl dX8_tin_107 ?_
                            refine x_iload_n dX8_tin_109 rfl ?_
                            refine x_iaddN dX8_tin_110 ?_
                            refine x_iald dX8_tin_111 rfl (by first | rfl | exact nI_add _ _ | (simp only [nI_add, pk_mul]; rfl)) (by omega) (by decide) ?_
                            refine x_iret hr rfl dX8_tin_112 (by omega) (by omega) (hQ _ _ ?_)
                            try dsimp only [mI, mSA] at c15 c33 c44 c79 c89 c99
                            exact ⟨by simp [spTin, hx, hy], by simp [spTin, hx, hy, mI_mI, mSA_id]⟩
                        · try (exfalso; first | (simp (disch := omega) [inS_ix, inS_N, ixL_N, ix_nI, hx, hy] at c99 <;> omega) | (simp (disch := omega) only [h0, h1, h3, Int32.le_iff_toInt_le, Int32.lt_iff_toInt_lt, ← Int32.toInt_inj, nI_toInt, Int32.toInt_zero, m1_toInt, Int64.le_iff_toInt_le, Int64.lt_iff_toInt_lt, ← Int64.toInt_inj, pk_lT, i64_toInt, Int64.toInt_zero, eq_self, not_true_eq_false, not_false_eq_true] at c15 c33 c44 c79 c89 c99 <;> omega) | omega)
                          all_goals
                            skip
                            refine x_bipush (v := nI 69) rfl dX8_tin_102 ?_
                            refine x_goto (tgt := 109) dX8_tin_104 (by decide) ?_
                            refine x_iload_n dX8_tin_109 rfl ?_
                            refine x_iaddN dX8_tin_110 ?_
                            refine x_iald dX8_tin_111 rfl (by first | rfl | exact nI_add _ _ | (simp only [nI_add, pk_mul]; rfl)) (by omega) (by decide) ?_
                            refine x_iret hr rfl dX8_tin_112 (by omega) (by omega) (hQ _ _ ?_)
                            try dsimp only [mI, mSA] at c15 c33 c44 c79 c89 c99
                            exact ⟨by simp [spTin, hx, hy], by simp [spTin, hx, hy, mI_mI, mSA_id]⟩
                    · try (exfalso; first | (simp (disch := omega) [inS_ix, inS_N, ixL_N, ix_nI, hx, hy] at c89 <;> omega) | (simp (disch := omega) only [h0, h1, h3, Int32.le_iff_toInt_le, Int32.lt_iff_toInt_lt, ← Int32.toInt_inj, nI_toInt, Int32.toInt_zero, m1_toInt, Int64.le_iff_toInt_le, Int64.lt_iff_toInt_lt, ← Int64.toInt_inj, pk_lT, i64_toInt, Int64.toInt_zero, eq_self, not_true_eq_false, not_false_eq_true] at c15 c33 c44 c79 c89 <;> omega) | omega)
                      all_goals
                        skip
                        refine x_bipush (v := nI 51) rfl dX8_tin_92 ?_
                        refine x_goto (tgt := 109) dX8_tin_94 (by decide) ?_
                        refine x_iload_n dX8_tin_109 rfl ?_
                        refine x_iaddN dX8_tin_110 ?_
                        refine x_iald dX8_tin_111 rfl (by first | rfl | exact nI_add _ _ | (simp only [nI_add, pk_mul]; rfl)) (by omega) (by decide) ?_
                        refine x_iret hr rfl dX8_tin_112 (by omega) (by omega) (hQ _ _ ?_)
                        try dsimp only [mI, mSA] at c15 c33 c44 c79 c89
                        exact ⟨by simp [spTin, hx, hy], by simp [spTin, hx, hy, mI_mI, mSA_id]⟩
                · try (exfalso; first | (simp (disch := omega) [inS_ix, inS_N, ixL_N, ix_nI, hx, hy] at c79 <;> omega) | (simp (disch := omega) only [h0, h1, h3, Int32.le_iff_toInt_le, Int32.lt_iff_toInt_lt, ← Int32.toInt_inj, nI_toInt, Int32.toInt_zero, m1_toInt, Int64.le_iff_toInt_le, Int64.lt_iff_toInt_lt, ← Int64.toInt_inj, pk_lT, i64_toInt, Int64.toInt_zero, eq_self, not_true_eq_false, not_false_eq_true] at c15 c33 c44 c79 <;> omega) | omega)
                  all_goals
                    skip
                    refine x_bipush (v := nI 33) rfl dX8_tin_82 ?_
                    refine x_goto (tgt := 109) dX8_tin_84 (by decide) ?_
                    refine x_iload_n dX8_tin_109 rfl ?_
                    refine x_iaddN dX8_tin_110 ?_
                    refine x_iald dX8_tin_111 rfl (by first | rfl | exact nI_add _ _ | (simp only [nI_add, pk_mul]; rfl)) (by omega) (by decide) ?_
                    refine x_iret hr rfl dX8_tin_112 (by omega) (by omega) (hQ _ _ ?_)
                    try dsimp only [mI, mSA] at c15 c33 c44 c79
                    exact ⟨by simp [spTin, hx, hy], by simp [spTin, hx, hy, mI_mI, mSA_id]⟩
            · try (exfalso; first | (simp (disch := omega) [inS_ix, inS_N, ixL_N, ix_nI, hx, hy] at c44 <;> omega) | (simp (disch := omega) only [h0, h1, h3, Int32.le_iff_toInt_le, Int32.lt_iff_toInt_lt, ← Int32.toInt_inj, nI_toInt, Int32.toInt_zero, m1_toInt, Int64.le_iff_toInt_le, Int64.lt_iff_toInt_lt, ← Int64.toInt_inj, pk_lT, i64_toInt, Int64.toInt_zero, eq_self, not_true_eq_false, not_false_eq_true] at c15 c33 c44 <;> omega) | omega)
              all_goals
                skip
                refine x_aload_n dX8_tin_47 rfl ?_
                refine x_iload_n dX8_tin_48 rfl ?_
                refine x_callV1 lk_X8_310 (m_isGone (M := (mI (mI M 1 (nI 0)) 0 (nI 0))) hF _ (by omega)) ho dX8_tin_49 rfl (Nat.le_of_ble_eq_true rfl) (by omega) (by decide) (by omega) (by omega) ?_
                refine x_ifb_eq (tgt := 64) dX8_tin_52 (by decide) (fun c52 => ?_) (fun c52 => ?_)
                · try (exfalso; first | (simp (disch := omega) [inS_ix, inS_N, ixL_N, ix_nI, hx, hy] at c52 <;> omega) | (simp (disch := omega) only [h0, h1, h3, Int32.le_iff_toInt_le, Int32.lt_iff_toInt_lt, ← Int32.toInt_inj, nI_toInt, Int32.toInt_zero, m1_toInt, Int64.le_iff_toInt_le, Int64.lt_iff_toInt_lt, ← Int64.toInt_inj, pk_lT, i64_toInt, Int64.toInt_zero, eq_self, not_true_eq_false, not_false_eq_true] at c15 c33 c44 c52 <;> omega) | omega)
                  all_goals
                    skip
                    refine x_aload_n dX8_tin_64 rfl ?_
                    refine x_getf gf_X8_35 ho dX8_tin_65 rfl rfl ?_
                    refine x_bipush (v := nI 42) rfl dX8_tin_68 ?_
                    refine x_iload_n dX8_tin_70 rfl ?_
                    refine x_iaddN dX8_tin_71 ?_
                    refine x_iald dX8_tin_72 rfl (by first | rfl | exact nI_add _ _ | (simp only [nI_add, pk_mul]; rfl)) (by omega) (by decide) ?_
                    refine x_iret hr rfl dX8_tin_73 (by omega) (by omega) (hQ _ _ ?_)
                    try dsimp only [mI, mSA] at c15 c33 c44 c52
                    exact ⟨by simp [spTin, hx, hy, c52], by simp [spTin, hx, hy, c52, mI_mI, mSA_id]⟩
                · try (exfalso; first | (simp (disch := omega) [inS_ix, inS_N, ixL_N, ix_nI, hx, hy] at c52 <;> omega) | (simp (disch := omega) only [h0, h1, h3, Int32.le_iff_toInt_le, Int32.lt_iff_toInt_lt, ← Int32.toInt_inj, nI_toInt, Int32.toInt_zero, m1_toInt, Int64.le_iff_toInt_le, Int64.lt_iff_toInt_lt, ← Int64.toInt_inj, pk_lT, i64_toInt, Int64.toInt_zero, eq_self, not_true_eq_false, not_false_eq_true] at c15 c33 c44 c52 <;> omega) | omega)
                  all_goals
                    skip
                    refine x_aload_n dX8_tin_55 rfl ?_
                    refine x_bipush (v := nI 8) rfl dX8_tin_56 ?_
                    refine x_callV1 lk_X8_327 (m_refuse _) ho dX8_tin_58 rfl (Nat.le_of_ble_eq_true rfl) (by omega) (by decide) (by omega) (by omega) ?_
                    refine x_goto (tgt := 73) dX8_tin_61 (by decide) ?_
                    refine x_iret hr rfl dX8_tin_73 (by omega) (by omega) (hQ _ _ ?_)
                    try dsimp only [mI, mSA] at c15 c33 c44 c52
                    exact ⟨by simp [spTin, hx, hy, c52], by simp [spTin, hx, hy, c52, mI_mI, mSA_id]⟩
        · try (exfalso; first | (simp (disch := omega) [inS_ix, inS_N, ixL_N, ix_nI, hx, hy] at c33 <;> omega) | (simp (disch := omega) only [h0, h1, h3, Int32.le_iff_toInt_le, Int32.lt_iff_toInt_lt, ← Int32.toInt_inj, nI_toInt, Int32.toInt_zero, m1_toInt, Int64.le_iff_toInt_le, Int64.lt_iff_toInt_lt, ← Int64.toInt_inj, pk_lT, i64_toInt, Int64.toInt_zero, eq_self, not_true_eq_false, not_false_eq_true] at c15 c33 <;> omega) | omega)
          all_goals
            skip
            refine x_aload_n dX8_tin_36 rfl ?_
            refine x_iconst (v := nI 5) rfl dX8_tin_37 ?_
            refine x_callV1 lk_X8_327 (m_refuse _) ho dX8_tin_38 rfl (Nat.le_of_ble_eq_true rfl) (by omega) (by decide) (by omega) (by omega) ?_
            refine x_iret hr rfl dX8_tin_41 (by omega) (by omega) (hQ _ _ ?_)
            try dsimp only [mI, mSA] at c15 c33
            exact ⟨by simp [spTin, hx, hy], by simp [spTin, hx, hy, mI_mI, mSA_id]⟩
    · try (exfalso; first | (simp (disch := omega) [inS_ix, inS_N, ixL_N, ix_nI, hx, hy] at c15 <;> omega) | (simp (disch := omega) only [h0, h1, h3, Int32.le_iff_toInt_le, Int32.lt_iff_toInt_lt, ← Int32.toInt_inj, nI_toInt, Int32.toInt_zero, m1_toInt, Int64.le_iff_toInt_le, Int64.lt_iff_toInt_lt, ← Int64.toInt_inj, pk_lT, i64_toInt, Int64.toInt_zero, eq_self, not_true_eq_false, not_false_eq_true] at c15 <;> omega) | omega)
      all_goals
        skip
        refine x_aload_n dX8_tin_18 rfl ?_
        refine x_iconst (v := nI 2) rfl dX8_tin_19 ?_
        refine x_callV1 lk_X8_327 (m_refuse _) ho dX8_tin_20 rfl (Nat.le_of_ble_eq_true rfl) (by omega) (by decide) (by omega) (by omega) ?_
        refine x_iret hr rfl dX8_tin_23 (by omega) (by omega) (hQ _ _ ?_)
        try dsimp only [mI, mSA] at c15
        exact ⟨by simp [spTin, hx, hy], by simp [spTin, hx, hy, mI_mI, mSA_id]⟩
  · skip
    refine CT.of (ini := false) (by decide +kernel) q1950 q164 (Nat.le_of_ble_eq_true rfl) (by decide) ?_
    intro Γ hw ho hL hr hh hini hal hd hmc hms hQ
    subst hw
    show AW Γ cX8_tin 0 0 0 [some (.ref 32), some (.int (nI t)), some (.int (nI 1))] [] (hM M R)
    have h0 := hF.c0
    have h1 := hF.c1
    have h3 := hF.c3
    have l0 := hF.l0
    have l1 := hF.l1
    have l3 := hF.l3
    refine x_aload_n dX8_tin_0 rfl ?_
    refine x_iconst (v := nI 0) rfl dX8_tin_1 ?_
    refine m_puti (k := 1) (pf_X8_70 (ini := false)) ho hini dX8_tin_2 rfl rfl (by decide) (ms_1 _ _) ?_
    refine x_aload_n dX8_tin_5 rfl ?_
    refine x_iconst (v := nI 0) rfl dX8_tin_6 ?_
    refine m_puti (k := 0) (pf_X8_73 (ini := false)) ho hini dX8_tin_7 rfl rfl (by decide) (ms_0 _ _) ?_
    refine x_aload_n dX8_tin_10 rfl ?_
    refine x_iload_n dX8_tin_11 rfl ?_
    refine x_callV1 lk_X8_344 (m_isTinAt (M := (mI (mI M 1 (nI 0)) 0 (nI 0))) hF _) ho dX8_tin_12 rfl (Nat.le_of_ble_eq_true rfl) (by omega) (by decide) (by omega) (by omega) ?_
    refine x_ifb_ne (tgt := 24) dX8_tin_15 (by decide) (fun c15 => ?_) (fun c15 => ?_)
    · try (exfalso; first | (simp (disch := omega) [inS_ix, inS_N, ixL_N, ix_nI, hx, hy] at c15 <;> omega) | (simp (disch := omega) only [h0, h1, h3, Int32.le_iff_toInt_le, Int32.lt_iff_toInt_lt, ← Int32.toInt_inj, nI_toInt, Int32.toInt_zero, m1_toInt, Int64.le_iff_toInt_le, Int64.lt_iff_toInt_lt, ← Int64.toInt_inj, pk_lT, i64_toInt, Int64.toInt_zero, eq_self, not_true_eq_false, not_false_eq_true] at c15 <;> omega) | omega)
      all_goals
        skip
        refine x_iload_n dX8_tin_24 rfl ?_
        refine x_i2lN (by omega) dX8_tin_25 ?_
        refine x_lconst (v := lN 0) rfl dX8_tin_26 ?_
        refine x_ldc2 (v := lN 4) ho q1942 dX8_tin_27 ?_
        refine x_callS3 lk_X8_105 (m_isIn _ _ _) ho dX8_tin_30 (Nat.le_of_ble_eq_true rfl) (by omega) (by decide) (by omega) (by omega) ?_
        refine x_ifb_ne (tgt := 42) dX8_tin_33 (by decide) (fun c33 => ?_) (fun c33 => ?_)
        · try (exfalso; first | (simp (disch := omega) [inS_ix, inS_N, ixL_N, ix_nI, hx, hy] at c33 <;> omega) | (simp (disch := omega) only [h0, h1, h3, Int32.le_iff_toInt_le, Int32.lt_iff_toInt_lt, ← Int32.toInt_inj, nI_toInt, Int32.toInt_zero, m1_toInt, Int64.le_iff_toInt_le, Int64.lt_iff_toInt_lt, ← Int64.toInt_inj, pk_lT, i64_toInt, Int64.toInt_zero, eq_self, not_true_eq_false, not_false_eq_true] at c15 c33 <;> omega) | omega)
          all_goals
            skip
            refine x_iload_n dX8_tin_42 rfl ?_
            refine x_iconst (v := nI 1) rfl dX8_tin_43 ?_
            refine x_icmp_ne (tgt := 74) dX8_tin_44 (by decide) (fun c44 => ?_) (fun c44 => ?_)
            · try (exfalso; first | (simp (disch := omega) [inS_ix, inS_N, ixL_N, ix_nI, hx, hy] at c44 <;> omega) | (simp (disch := omega) only [h0, h1, h3, Int32.le_iff_toInt_le, Int32.lt_iff_toInt_lt, ← Int32.toInt_inj, nI_toInt, Int32.toInt_zero, m1_toInt, Int64.le_iff_toInt_le, Int64.lt_iff_toInt_lt, ← Int64.toInt_inj, pk_lT, i64_toInt, Int64.toInt_zero, eq_self, not_true_eq_false, not_false_eq_true] at c15 c33 c44 <;> omega) | omega)
              all_goals
                skip
                refine x_aload_n dX8_tin_74 rfl ?_
                refine x_getf gf_X8_35 ho dX8_tin_75 rfl rfl ?_
                refine x_iload_n dX8_tin_78 rfl ?_
                refine x_if_ne (tgt := 87) dX8_tin_79 (by decide) (fun c79 => ?_) (fun c79 => ?_)
                · try (exfalso; first | (simp (disch := omega) [inS_ix, inS_N, ixL_N, ix_nI, hx, hy] at c79 <;> omega) | (simp (disch := omega) only [h0, h1, h3, Int32.le_iff_toInt_le, Int32.lt_iff_toInt_lt, ← Int32.toInt_inj, nI_toInt, Int32.toInt_zero, m1_toInt, Int64.le_iff_toInt_le, Int64.lt_iff_toInt_lt, ← Int64.toInt_inj, pk_lT, i64_toInt, Int64.toInt_zero, eq_self, not_true_eq_false, not_false_eq_true] at c15 c33 c44 c79 <;> omega) | omega)
                  all_goals
                    skip
                    refine x_iload_n dX8_tin_87 rfl ?_
                    refine x_iconst (v := nI 2) rfl dX8_tin_88 ?_
                    refine x_icmp_ne (tgt := 97) dX8_tin_89 (by decide) (fun c89 => ?_) (fun c89 => ?_)
                    · try (exfalso; first | (simp (disch := omega) [inS_ix, inS_N, ixL_N, ix_nI, hx, hy] at c89 <;> omega) | (simp (disch := omega) only [h0, h1, h3, Int32.le_iff_toInt_le, Int32.lt_iff_toInt_lt, ← Int32.toInt_inj, nI_toInt, Int32.toInt_zero, m1_toInt, Int64.le_iff_toInt_le, Int64.lt_iff_toInt_lt, ← Int64.toInt_inj, pk_lT, i64_toInt, Int64.toInt_zero, eq_self, not_true_eq_false, not_false_eq_true] at c15 c33 c44 c79 c89 <;> omega) | omega)
                      all_goals
                        skip
                        refine x_iload_n dX8_tin_97 rfl ?_
                        refine x_iconst (v := nI 3) rfl dX8_tin_98 ?_
                        refine x_icmp_ne (tgt := 107) dX8_tin_99 (by decide) (fun c99 => ?_) (fun c99 => ?_)
                        · try (exfalso; first | (simp (disch := omega) [inS_ix, inS_N, ixL_N, ix_nI, hx, hy] at c99 <;> omega) | (simp (disch := omega) only [h0, h1, h3, Int32.le_iff_toInt_le, Int32.lt_iff_toInt_lt, ← Int32.toInt_inj, nI_toInt, Int32.toInt_zero, m1_toInt, Int64.le_iff_toInt_le, Int64.lt_iff_toInt_lt, ← Int64.toInt_inj, pk_lT, i64_toInt, Int64.toInt_zero, eq_self, not_true_eq_false, not_false_eq_true] at c15 c33 c44 c79 c89 c99 <;> omega) | omega)
                          all_goals
                            skip
                            refine x_bipush (v := nI 78) rfl dX8_tin_107 ?_
                            refine x_iload_n dX8_tin_109 rfl ?_
                            refine x_iaddN dX8_tin_110 ?_
                            refine x_iald dX8_tin_111 rfl (by first | rfl | exact nI_add _ _ | (simp only [nI_add, pk_mul]; rfl)) (by omega) (by decide) ?_
                            refine x_iret hr rfl dX8_tin_112 (by omega) (by omega) (hQ _ _ ?_)
                            try dsimp only [mI, mSA] at c15 c33 c44 c79 c89 c99
                            exact ⟨by simp [spTin, hx, hy], by simp [spTin, hx, hy, mI_mI, mSA_id]⟩
                        · try (exfalso; first | (simp (disch := omega) [inS_ix, inS_N, ixL_N, ix_nI, hx, hy] at c99 <;> omega) | (simp (disch := omega) only [h0, h1, h3, Int32.le_iff_toInt_le, Int32.lt_iff_toInt_lt, ← Int32.toInt_inj, nI_toInt, Int32.toInt_zero, m1_toInt, Int64.le_iff_toInt_le, Int64.lt_iff_toInt_lt, ← Int64.toInt_inj, pk_lT, i64_toInt, Int64.toInt_zero, eq_self, not_true_eq_false, not_false_eq_true] at c15 c33 c44 c79 c89 c99 <;> omega) | omega)
                          all_goals
                            skip
                            refine x_bipush (v := nI 69) rfl dX8_tin_102 ?_
                            refine x_goto (tgt := 109) dX8_tin_104 (by decide) ?_
                            refine x_iload_n dX8_tin_109 rfl ?_
                            refine x_iaddN dX8_tin_110 ?_
                            refine x_iald dX8_tin_111 rfl (by first | rfl | exact nI_add _ _ | (simp only [nI_add, pk_mul]; rfl)) (by omega) (by decide) ?_
                            refine x_iret hr rfl dX8_tin_112 (by omega) (by omega) (hQ _ _ ?_)
                            try dsimp only [mI, mSA] at c15 c33 c44 c79 c89 c99
                            exact ⟨by simp [spTin, hx, hy], by simp [spTin, hx, hy, mI_mI, mSA_id]⟩
                    · try (exfalso; first | (simp (disch := omega) [inS_ix, inS_N, ixL_N, ix_nI, hx, hy] at c89 <;> omega) | (simp (disch := omega) only [h0, h1, h3, Int32.le_iff_toInt_le, Int32.lt_iff_toInt_lt, ← Int32.toInt_inj, nI_toInt, Int32.toInt_zero, m1_toInt, Int64.le_iff_toInt_le, Int64.lt_iff_toInt_lt, ← Int64.toInt_inj, pk_lT, i64_toInt, Int64.toInt_zero, eq_self, not_true_eq_false, not_false_eq_true] at c15 c33 c44 c79 c89 <;> omega) | omega)
                      all_goals
                        skip
                        refine x_bipush (v := nI 51) rfl dX8_tin_92 ?_
                        refine x_goto (tgt := 109) dX8_tin_94 (by decide) ?_
                        refine x_iload_n dX8_tin_109 rfl ?_
                        refine x_iaddN dX8_tin_110 ?_
                        refine x_iald dX8_tin_111 rfl (by first | rfl | exact nI_add _ _ | (simp only [nI_add, pk_mul]; rfl)) (by omega) (by decide) ?_
                        refine x_iret hr rfl dX8_tin_112 (by omega) (by omega) (hQ _ _ ?_)
                        try dsimp only [mI, mSA] at c15 c33 c44 c79 c89
                        exact ⟨by simp [spTin, hx, hy], by simp [spTin, hx, hy, mI_mI, mSA_id]⟩
                · try (exfalso; first | (simp (disch := omega) [inS_ix, inS_N, ixL_N, ix_nI, hx, hy] at c79 <;> omega) | (simp (disch := omega) only [h0, h1, h3, Int32.le_iff_toInt_le, Int32.lt_iff_toInt_lt, ← Int32.toInt_inj, nI_toInt, Int32.toInt_zero, m1_toInt, Int64.le_iff_toInt_le, Int64.lt_iff_toInt_lt, ← Int64.toInt_inj, pk_lT, i64_toInt, Int64.toInt_zero, eq_self, not_true_eq_false, not_false_eq_true] at c15 c33 c44 c79 <;> omega) | omega)
                  all_goals
                    skip
                    refine x_bipush (v := nI 33) rfl dX8_tin_82 ?_
                    refine x_goto (tgt := 109) dX8_tin_84 (by decide) ?_
                    refine x_iload_n dX8_tin_109 rfl ?_
                    refine x_iaddN dX8_tin_110 ?_
                    refine x_iald dX8_tin_111 rfl (by first | rfl | exact nI_add _ _ | (simp only [nI_add, pk_mul]; rfl)) (by omega) (by decide) ?_
                    refine x_iret hr rfl dX8_tin_112 (by omega) (by omega) (hQ _ _ ?_)
                    try dsimp only [mI, mSA] at c15 c33 c44 c79
                    exact ⟨by simp [spTin, hx, hy], by simp [spTin, hx, hy, mI_mI, mSA_id]⟩
            · try (exfalso; first | (simp (disch := omega) [inS_ix, inS_N, ixL_N, ix_nI, hx, hy] at c44 <;> omega) | (simp (disch := omega) only [h0, h1, h3, Int32.le_iff_toInt_le, Int32.lt_iff_toInt_lt, ← Int32.toInt_inj, nI_toInt, Int32.toInt_zero, m1_toInt, Int64.le_iff_toInt_le, Int64.lt_iff_toInt_lt, ← Int64.toInt_inj, pk_lT, i64_toInt, Int64.toInt_zero, eq_self, not_true_eq_false, not_false_eq_true] at c15 c33 c44 <;> omega) | omega)
              all_goals
                skip
                refine x_aload_n dX8_tin_47 rfl ?_
                refine x_iload_n dX8_tin_48 rfl ?_
                refine x_callV1 lk_X8_310 (m_isGone (M := (mI (mI M 1 (nI 0)) 0 (nI 0))) hF _ (by omega)) ho dX8_tin_49 rfl (Nat.le_of_ble_eq_true rfl) (by omega) (by decide) (by omega) (by omega) ?_
                refine x_ifb_eq (tgt := 64) dX8_tin_52 (by decide) (fun c52 => ?_) (fun c52 => ?_)
                · try (exfalso; first | (simp (disch := omega) [inS_ix, inS_N, ixL_N, ix_nI, hx, hy] at c52 <;> omega) | (simp (disch := omega) only [h0, h1, h3, Int32.le_iff_toInt_le, Int32.lt_iff_toInt_lt, ← Int32.toInt_inj, nI_toInt, Int32.toInt_zero, m1_toInt, Int64.le_iff_toInt_le, Int64.lt_iff_toInt_lt, ← Int64.toInt_inj, pk_lT, i64_toInt, Int64.toInt_zero, eq_self, not_true_eq_false, not_false_eq_true] at c15 c33 c44 c52 <;> omega) | omega)
                  all_goals
                    skip
                    refine x_aload_n dX8_tin_64 rfl ?_
                    refine x_getf gf_X8_35 ho dX8_tin_65 rfl rfl ?_
                    refine x_bipush (v := nI 42) rfl dX8_tin_68 ?_
                    refine x_iload_n dX8_tin_70 rfl ?_
                    refine x_iaddN dX8_tin_71 ?_
                    refine x_iald dX8_tin_72 rfl (by first | rfl | exact nI_add _ _ | (simp only [nI_add, pk_mul]; rfl)) (by omega) (by decide) ?_
                    refine x_iret hr rfl dX8_tin_73 (by omega) (by omega) (hQ _ _ ?_)
                    try dsimp only [mI, mSA] at c15 c33 c44 c52
                    exact ⟨by simp [spTin, hx, hy, c52], by simp [spTin, hx, hy, c52, mI_mI, mSA_id]⟩
                · try (exfalso; first | (simp (disch := omega) [inS_ix, inS_N, ixL_N, ix_nI, hx, hy] at c52 <;> omega) | (simp (disch := omega) only [h0, h1, h3, Int32.le_iff_toInt_le, Int32.lt_iff_toInt_lt, ← Int32.toInt_inj, nI_toInt, Int32.toInt_zero, m1_toInt, Int64.le_iff_toInt_le, Int64.lt_iff_toInt_lt, ← Int64.toInt_inj, pk_lT, i64_toInt, Int64.toInt_zero, eq_self, not_true_eq_false, not_false_eq_true] at c15 c33 c44 c52 <;> omega) | omega)
                  all_goals
                    skip
                    refine x_aload_n dX8_tin_55 rfl ?_
                    refine x_bipush (v := nI 8) rfl dX8_tin_56 ?_
                    refine x_callV1 lk_X8_327 (m_refuse _) ho dX8_tin_58 rfl (Nat.le_of_ble_eq_true rfl) (by omega) (by decide) (by omega) (by omega) ?_
                    refine x_goto (tgt := 73) dX8_tin_61 (by decide) ?_
                    refine x_iret hr rfl dX8_tin_73 (by omega) (by omega) (hQ _ _ ?_)
                    try dsimp only [mI, mSA] at c15 c33 c44 c52
                    exact ⟨by simp [spTin, hx, hy, c52], by simp [spTin, hx, hy, c52, mI_mI, mSA_id]⟩
        · try (exfalso; first | (simp (disch := omega) [inS_ix, inS_N, ixL_N, ix_nI, hx, hy] at c33 <;> omega) | (simp (disch := omega) only [h0, h1, h3, Int32.le_iff_toInt_le, Int32.lt_iff_toInt_lt, ← Int32.toInt_inj, nI_toInt, Int32.toInt_zero, m1_toInt, Int64.le_iff_toInt_le, Int64.lt_iff_toInt_lt, ← Int64.toInt_inj, pk_lT, i64_toInt, Int64.toInt_zero, eq_self, not_true_eq_false, not_false_eq_true] at c15 c33 <;> omega) | omega)
          all_goals
            skip
            refine x_aload_n dX8_tin_36 rfl ?_
            refine x_iconst (v := nI 5) rfl dX8_tin_37 ?_
            refine x_callV1 lk_X8_327 (m_refuse _) ho dX8_tin_38 rfl (Nat.le_of_ble_eq_true rfl) (by omega) (by decide) (by omega) (by omega) ?_
            refine x_iret hr rfl dX8_tin_41 (by omega) (by omega) (hQ _ _ ?_)
            try dsimp only [mI, mSA] at c15 c33
            exact ⟨by simp [spTin, hx, hy], by simp [spTin, hx, hy, mI_mI, mSA_id]⟩
    · try (exfalso; first | (simp (disch := omega) [inS_ix, inS_N, ixL_N, ix_nI, hx, hy] at c15 <;> omega) | (simp (disch := omega) only [h0, h1, h3, Int32.le_iff_toInt_le, Int32.lt_iff_toInt_lt, ← Int32.toInt_inj, nI_toInt, Int32.toInt_zero, m1_toInt, Int64.le_iff_toInt_le, Int64.lt_iff_toInt_lt, ← Int64.toInt_inj, pk_lT, i64_toInt, Int64.toInt_zero, eq_self, not_true_eq_false, not_false_eq_true] at c15 <;> omega) | omega)
      all_goals
        skip
        refine x_aload_n dX8_tin_18 rfl ?_
        refine x_iconst (v := nI 2) rfl dX8_tin_19 ?_
        refine x_callV1 lk_X8_327 (m_refuse _) ho dX8_tin_20 rfl (Nat.le_of_ble_eq_true rfl) (by omega) (by decide) (by omega) (by omega) ?_
        refine x_iret hr rfl dX8_tin_23 (by omega) (by omega) (hQ _ _ ?_)
        try dsimp only [mI, mSA] at c15
        exact ⟨by simp [spTin, hx, hy], by simp [spTin, hx, hy, mI_mI, mSA_id]⟩
  · skip
    refine CT.of (ini := false) (by decide +kernel) q1950 q164 (Nat.le_of_ble_eq_true rfl) (by decide) ?_
    intro Γ hw ho hL hr hh hini hal hd hmc hms hQ
    subst hw
    show AW Γ cX8_tin 0 0 0 [some (.ref 32), some (.int (nI t)), some (.int (nI 2))] [] (hM M R)
    have h0 := hF.c0
    have h1 := hF.c1
    have h3 := hF.c3
    have l0 := hF.l0
    have l1 := hF.l1
    have l3 := hF.l3
    refine x_aload_n dX8_tin_0 rfl ?_
    refine x_iconst (v := nI 0) rfl dX8_tin_1 ?_
    refine m_puti (k := 1) (pf_X8_70 (ini := false)) ho hini dX8_tin_2 rfl rfl (by decide) (ms_1 _ _) ?_
    refine x_aload_n dX8_tin_5 rfl ?_
    refine x_iconst (v := nI 0) rfl dX8_tin_6 ?_
    refine m_puti (k := 0) (pf_X8_73 (ini := false)) ho hini dX8_tin_7 rfl rfl (by decide) (ms_0 _ _) ?_
    refine x_aload_n dX8_tin_10 rfl ?_
    refine x_iload_n dX8_tin_11 rfl ?_
    refine x_callV1 lk_X8_344 (m_isTinAt (M := (mI (mI M 1 (nI 0)) 0 (nI 0))) hF _) ho dX8_tin_12 rfl (Nat.le_of_ble_eq_true rfl) (by omega) (by decide) (by omega) (by omega) ?_
    refine x_ifb_ne (tgt := 24) dX8_tin_15 (by decide) (fun c15 => ?_) (fun c15 => ?_)
    · try (exfalso; first | (simp (disch := omega) [inS_ix, inS_N, ixL_N, ix_nI, hx, hy] at c15 <;> omega) | (simp (disch := omega) only [h0, h1, h3, Int32.le_iff_toInt_le, Int32.lt_iff_toInt_lt, ← Int32.toInt_inj, nI_toInt, Int32.toInt_zero, m1_toInt, Int64.le_iff_toInt_le, Int64.lt_iff_toInt_lt, ← Int64.toInt_inj, pk_lT, i64_toInt, Int64.toInt_zero, eq_self, not_true_eq_false, not_false_eq_true] at c15 <;> omega) | omega)
      all_goals
        skip
        refine x_iload_n dX8_tin_24 rfl ?_
        refine x_i2lN (by omega) dX8_tin_25 ?_
        refine x_lconst (v := lN 0) rfl dX8_tin_26 ?_
        refine x_ldc2 (v := lN 4) ho q1942 dX8_tin_27 ?_
        refine x_callS3 lk_X8_105 (m_isIn _ _ _) ho dX8_tin_30 (Nat.le_of_ble_eq_true rfl) (by omega) (by decide) (by omega) (by omega) ?_
        refine x_ifb_ne (tgt := 42) dX8_tin_33 (by decide) (fun c33 => ?_) (fun c33 => ?_)
        · try (exfalso; first | (simp (disch := omega) [inS_ix, inS_N, ixL_N, ix_nI, hx, hy] at c33 <;> omega) | (simp (disch := omega) only [h0, h1, h3, Int32.le_iff_toInt_le, Int32.lt_iff_toInt_lt, ← Int32.toInt_inj, nI_toInt, Int32.toInt_zero, m1_toInt, Int64.le_iff_toInt_le, Int64.lt_iff_toInt_lt, ← Int64.toInt_inj, pk_lT, i64_toInt, Int64.toInt_zero, eq_self, not_true_eq_false, not_false_eq_true] at c15 c33 <;> omega) | omega)
          all_goals
            skip
            refine x_iload_n dX8_tin_42 rfl ?_
            refine x_iconst (v := nI 1) rfl dX8_tin_43 ?_
            refine x_icmp_ne (tgt := 74) dX8_tin_44 (by decide) (fun c44 => ?_) (fun c44 => ?_)
            · try (exfalso; first | (simp (disch := omega) [inS_ix, inS_N, ixL_N, ix_nI, hx, hy] at c44 <;> omega) | (simp (disch := omega) only [h0, h1, h3, Int32.le_iff_toInt_le, Int32.lt_iff_toInt_lt, ← Int32.toInt_inj, nI_toInt, Int32.toInt_zero, m1_toInt, Int64.le_iff_toInt_le, Int64.lt_iff_toInt_lt, ← Int64.toInt_inj, pk_lT, i64_toInt, Int64.toInt_zero, eq_self, not_true_eq_false, not_false_eq_true] at c15 c33 c44 <;> omega) | omega)
              all_goals
                skip
                refine x_aload_n dX8_tin_74 rfl ?_
                refine x_getf gf_X8_35 ho dX8_tin_75 rfl rfl ?_
                refine x_iload_n dX8_tin_78 rfl ?_
                refine x_if_ne (tgt := 87) dX8_tin_79 (by decide) (fun c79 => ?_) (fun c79 => ?_)
                · try (exfalso; first | (simp (disch := omega) [inS_ix, inS_N, ixL_N, ix_nI, hx, hy] at c79 <;> omega) | (simp (disch := omega) only [h0, h1, h3, Int32.le_iff_toInt_le, Int32.lt_iff_toInt_lt, ← Int32.toInt_inj, nI_toInt, Int32.toInt_zero, m1_toInt, Int64.le_iff_toInt_le, Int64.lt_iff_toInt_lt, ← Int64.toInt_inj, pk_lT, i64_toInt, Int64.toInt_zero, eq_self, not_true_eq_false, not_false_eq_true] at c15 c33 c44 c79 <;> omega) | omega)
                  all_goals
                    skip
                    refine x_iload_n dX8_tin_87 rfl ?_
                    refine x_iconst (v := nI 2) rfl dX8_tin_88 ?_
                    refine x_icmp_ne (tgt := 97) dX8_tin_89 (by decide) (fun c89 => ?_) (fun c89 => ?_)
                    · try (exfalso; first | (simp (disch := omega) [inS_ix, inS_N, ixL_N, ix_nI, hx, hy] at c89 <;> omega) | (simp (disch := omega) only [h0, h1, h3, Int32.le_iff_toInt_le, Int32.lt_iff_toInt_lt, ← Int32.toInt_inj, nI_toInt, Int32.toInt_zero, m1_toInt, Int64.le_iff_toInt_le, Int64.lt_iff_toInt_lt, ← Int64.toInt_inj, pk_lT, i64_toInt, Int64.toInt_zero, eq_self, not_true_eq_false, not_false_eq_true] at c15 c33 c44 c79 c89 <;> omega) | omega)
                      all_goals
                        skip
                        refine x_iload_n dX8_tin_97 rfl ?_
                        refine x_iconst (v := nI 3) rfl dX8_tin_98 ?_
                        refine x_icmp_ne (tgt := 107) dX8_tin_99 (by decide) (fun c99 => ?_) (fun c99 => ?_)
                        · try (exfalso; first | (simp (disch := omega) [inS_ix, inS_N, ixL_N, ix_nI, hx, hy] at c99 <;> omega) | (simp (disch := omega) only [h0, h1, h3, Int32.le_iff_toInt_le, Int32.lt_iff_toInt_lt, ← Int32.toInt_inj, nI_toInt, Int32.toInt_zero, m1_toInt, Int64.le_iff_toInt_le, Int64.lt_iff_toInt_lt, ← Int64.toInt_inj, pk_lT, i64_toInt, Int64.toInt_zero, eq_self, not_true_eq_false, not_false_eq_true] at c15 c33 c44 c79 c89 c99 <;> omega) | omega)
                          all_goals
                            skip
                            refine x_bipush (v := nI 78) rfl dX8_tin_107 ?_
                            refine x_iload_n dX8_tin_109 rfl ?_
                            refine x_iaddN dX8_tin_110 ?_
                            refine x_iald dX8_tin_111 rfl (by first | rfl | exact nI_add _ _ | (simp only [nI_add, pk_mul]; rfl)) (by omega) (by decide) ?_
                            refine x_iret hr rfl dX8_tin_112 (by omega) (by omega) (hQ _ _ ?_)
                            try dsimp only [mI, mSA] at c15 c33 c44 c79 c89 c99
                            exact ⟨by simp [spTin, hx, hy], by simp [spTin, hx, hy, mI_mI, mSA_id]⟩
                        · try (exfalso; first | (simp (disch := omega) [inS_ix, inS_N, ixL_N, ix_nI, hx, hy] at c99 <;> omega) | (simp (disch := omega) only [h0, h1, h3, Int32.le_iff_toInt_le, Int32.lt_iff_toInt_lt, ← Int32.toInt_inj, nI_toInt, Int32.toInt_zero, m1_toInt, Int64.le_iff_toInt_le, Int64.lt_iff_toInt_lt, ← Int64.toInt_inj, pk_lT, i64_toInt, Int64.toInt_zero, eq_self, not_true_eq_false, not_false_eq_true] at c15 c33 c44 c79 c89 c99 <;> omega) | omega)
                          all_goals
                            skip
                            refine x_bipush (v := nI 69) rfl dX8_tin_102 ?_
                            refine x_goto (tgt := 109) dX8_tin_104 (by decide) ?_
                            refine x_iload_n dX8_tin_109 rfl ?_
                            refine x_iaddN dX8_tin_110 ?_
                            refine x_iald dX8_tin_111 rfl (by first | rfl | exact nI_add _ _ | (simp only [nI_add, pk_mul]; rfl)) (by omega) (by decide) ?_
                            refine x_iret hr rfl dX8_tin_112 (by omega) (by omega) (hQ _ _ ?_)
                            try dsimp only [mI, mSA] at c15 c33 c44 c79 c89 c99
                            exact ⟨by simp [spTin, hx, hy], by simp [spTin, hx, hy, mI_mI, mSA_id]⟩
                    · try (exfalso; first | (simp (disch := omega) [inS_ix, inS_N, ixL_N, ix_nI, hx, hy] at c89 <;> omega) | (simp (disch := omega) only [h0, h1, h3, Int32.le_iff_toInt_le, Int32.lt_iff_toInt_lt, ← Int32.toInt_inj, nI_toInt, Int32.toInt_zero, m1_toInt, Int64.le_iff_toInt_le, Int64.lt_iff_toInt_lt, ← Int64.toInt_inj, pk_lT, i64_toInt, Int64.toInt_zero, eq_self, not_true_eq_false, not_false_eq_true] at c15 c33 c44 c79 c89 <;> omega) | omega)
                      all_goals
                        skip
                        refine x_bipush (v := nI 51) rfl dX8_tin_92 ?_
                        refine x_goto (tgt := 109) dX8_tin_94 (by decide) ?_
                        refine x_iload_n dX8_tin_109 rfl ?_
                        refine x_iaddN dX8_tin_110 ?_
                        refine x_iald dX8_tin_111 rfl (by first | rfl | exact nI_add _ _ | (simp only [nI_add, pk_mul]; rfl)) (by omega) (by decide) ?_
                        refine x_iret hr rfl dX8_tin_112 (by omega) (by omega) (hQ _ _ ?_)
                        try dsimp only [mI, mSA] at c15 c33 c44 c79 c89
                        exact ⟨by simp [spTin, hx, hy], by simp [spTin, hx, hy, mI_mI, mSA_id]⟩
                · try (exfalso; first | (simp (disch := omega) [inS_ix, inS_N, ixL_N, ix_nI, hx, hy] at c79 <;> omega) | (simp (disch := omega) only [h0, h1, h3, Int32.le_iff_toInt_le, Int32.lt_iff_toInt_lt, ← Int32.toInt_inj, nI_toInt, Int32.toInt_zero, m1_toInt, Int64.le_iff_toInt_le, Int64.lt_iff_toInt_lt, ← Int64.toInt_inj, pk_lT, i64_toInt, Int64.toInt_zero, eq_self, not_true_eq_false, not_false_eq_true] at c15 c33 c44 c79 <;> omega) | omega)
                  all_goals
                    skip
                    refine x_bipush (v := nI 33) rfl dX8_tin_82 ?_
                    refine x_goto (tgt := 109) dX8_tin_84 (by decide) ?_
                    refine x_iload_n dX8_tin_109 rfl ?_
                    refine x_iaddN dX8_tin_110 ?_
                    refine x_iald dX8_tin_111 rfl (by first | rfl | exact nI_add _ _ | (simp only [nI_add, pk_mul]; rfl)) (by omega) (by decide) ?_
                    refine x_iret hr rfl dX8_tin_112 (by omega) (by omega) (hQ _ _ ?_)
                    try dsimp only [mI, mSA] at c15 c33 c44 c79
                    exact ⟨by simp [spTin, hx, hy], by simp [spTin, hx, hy, mI_mI, mSA_id]⟩
            · try (exfalso; first | (simp (disch := omega) [inS_ix, inS_N, ixL_N, ix_nI, hx, hy] at c44 <;> omega) | (simp (disch := omega) only [h0, h1, h3, Int32.le_iff_toInt_le, Int32.lt_iff_toInt_lt, ← Int32.toInt_inj, nI_toInt, Int32.toInt_zero, m1_toInt, Int64.le_iff_toInt_le, Int64.lt_iff_toInt_lt, ← Int64.toInt_inj, pk_lT, i64_toInt, Int64.toInt_zero, eq_self, not_true_eq_false, not_false_eq_true] at c15 c33 c44 <;> omega) | omega)
              all_goals
                skip
                refine x_aload_n dX8_tin_47 rfl ?_
                refine x_iload_n dX8_tin_48 rfl ?_
                refine x_callV1 lk_X8_310 (m_isGone (M := (mI (mI M 1 (nI 0)) 0 (nI 0))) hF _ (by omega)) ho dX8_tin_49 rfl (Nat.le_of_ble_eq_true rfl) (by omega) (by decide) (by omega) (by omega) ?_
                refine x_ifb_eq (tgt := 64) dX8_tin_52 (by decide) (fun c52 => ?_) (fun c52 => ?_)
                · try (exfalso; first | (simp (disch := omega) [inS_ix, inS_N, ixL_N, ix_nI, hx, hy] at c52 <;> omega) | (simp (disch := omega) only [h0, h1, h3, Int32.le_iff_toInt_le, Int32.lt_iff_toInt_lt, ← Int32.toInt_inj, nI_toInt, Int32.toInt_zero, m1_toInt, Int64.le_iff_toInt_le, Int64.lt_iff_toInt_lt, ← Int64.toInt_inj, pk_lT, i64_toInt, Int64.toInt_zero, eq_self, not_true_eq_false, not_false_eq_true] at c15 c33 c44 c52 <;> omega) | omega)
                  all_goals
                    skip
                    refine x_aload_n dX8_tin_64 rfl ?_
                    refine x_getf gf_X8_35 ho dX8_tin_65 rfl rfl ?_
                    refine x_bipush (v := nI 42) rfl dX8_tin_68 ?_
                    refine x_iload_n dX8_tin_70 rfl ?_
                    refine x_iaddN dX8_tin_71 ?_
                    refine x_iald dX8_tin_72 rfl (by first | rfl | exact nI_add _ _ | (simp only [nI_add, pk_mul]; rfl)) (by omega) (by decide) ?_
                    refine x_iret hr rfl dX8_tin_73 (by omega) (by omega) (hQ _ _ ?_)
                    try dsimp only [mI, mSA] at c15 c33 c44 c52
                    exact ⟨by simp [spTin, hx, hy, c52], by simp [spTin, hx, hy, c52, mI_mI, mSA_id]⟩
                · try (exfalso; first | (simp (disch := omega) [inS_ix, inS_N, ixL_N, ix_nI, hx, hy] at c52 <;> omega) | (simp (disch := omega) only [h0, h1, h3, Int32.le_iff_toInt_le, Int32.lt_iff_toInt_lt, ← Int32.toInt_inj, nI_toInt, Int32.toInt_zero, m1_toInt, Int64.le_iff_toInt_le, Int64.lt_iff_toInt_lt, ← Int64.toInt_inj, pk_lT, i64_toInt, Int64.toInt_zero, eq_self, not_true_eq_false, not_false_eq_true] at c15 c33 c44 c52 <;> omega) | omega)
                  all_goals
                    skip
                    refine x_aload_n dX8_tin_55 rfl ?_
                    refine x_bipush (v := nI 8) rfl dX8_tin_56 ?_
                    refine x_callV1 lk_X8_327 (m_refuse _) ho dX8_tin_58 rfl (Nat.le_of_ble_eq_true rfl) (by omega) (by decide) (by omega) (by omega) ?_
                    refine x_goto (tgt := 73) dX8_tin_61 (by decide) ?_
                    refine x_iret hr rfl dX8_tin_73 (by omega) (by omega) (hQ _ _ ?_)
                    try dsimp only [mI, mSA] at c15 c33 c44 c52
                    exact ⟨by simp [spTin, hx, hy, c52], by simp [spTin, hx, hy, c52, mI_mI, mSA_id]⟩
        · try (exfalso; first | (simp (disch := omega) [inS_ix, inS_N, ixL_N, ix_nI, hx, hy] at c33 <;> omega) | (simp (disch := omega) only [h0, h1, h3, Int32.le_iff_toInt_le, Int32.lt_iff_toInt_lt, ← Int32.toInt_inj, nI_toInt, Int32.toInt_zero, m1_toInt, Int64.le_iff_toInt_le, Int64.lt_iff_toInt_lt, ← Int64.toInt_inj, pk_lT, i64_toInt, Int64.toInt_zero, eq_self, not_true_eq_false, not_false_eq_true] at c15 c33 <;> omega) | omega)
          all_goals
            skip
            refine x_aload_n dX8_tin_36 rfl ?_
            refine x_iconst (v := nI 5) rfl dX8_tin_37 ?_
            refine x_callV1 lk_X8_327 (m_refuse _) ho dX8_tin_38 rfl (Nat.le_of_ble_eq_true rfl) (by omega) (by decide) (by omega) (by omega) ?_
            refine x_iret hr rfl dX8_tin_41 (by omega) (by omega) (hQ _ _ ?_)
            try dsimp only [mI, mSA] at c15 c33
            exact ⟨by simp [spTin, hx, hy], by simp [spTin, hx, hy, mI_mI, mSA_id]⟩
    · try (exfalso; first | (simp (disch := omega) [inS_ix, inS_N, ixL_N, ix_nI, hx, hy] at c15 <;> omega) | (simp (disch := omega) only [h0, h1, h3, Int32.le_iff_toInt_le, Int32.lt_iff_toInt_lt, ← Int32.toInt_inj, nI_toInt, Int32.toInt_zero, m1_toInt, Int64.le_iff_toInt_le, Int64.lt_iff_toInt_lt, ← Int64.toInt_inj, pk_lT, i64_toInt, Int64.toInt_zero, eq_self, not_true_eq_false, not_false_eq_true] at c15 <;> omega) | omega)
      all_goals
        skip
        refine x_aload_n dX8_tin_18 rfl ?_
        refine x_iconst (v := nI 2) rfl dX8_tin_19 ?_
        refine x_callV1 lk_X8_327 (m_refuse _) ho dX8_tin_20 rfl (Nat.le_of_ble_eq_true rfl) (by omega) (by decide) (by omega) (by omega) ?_
        refine x_iret hr rfl dX8_tin_23 (by omega) (by omega) (hQ _ _ ?_)
        try dsimp only [mI, mSA] at c15
        exact ⟨by simp [spTin, hx, hy], by simp [spTin, hx, hy, mI_mI, mSA_id]⟩
  · skip
    refine CT.of (ini := false) (by decide +kernel) q1950 q164 (Nat.le_of_ble_eq_true rfl) (by decide) ?_
    intro Γ hw ho hL hr hh hini hal hd hmc hms hQ
    subst hw
    show AW Γ cX8_tin 0 0 0 [some (.ref 32), some (.int (nI t)), some (.int (nI 3))] [] (hM M R)
    have h0 := hF.c0
    have h1 := hF.c1
    have h3 := hF.c3
    have l0 := hF.l0
    have l1 := hF.l1
    have l3 := hF.l3
    refine x_aload_n dX8_tin_0 rfl ?_
    refine x_iconst (v := nI 0) rfl dX8_tin_1 ?_
    refine m_puti (k := 1) (pf_X8_70 (ini := false)) ho hini dX8_tin_2 rfl rfl (by decide) (ms_1 _ _) ?_
    refine x_aload_n dX8_tin_5 rfl ?_
    refine x_iconst (v := nI 0) rfl dX8_tin_6 ?_
    refine m_puti (k := 0) (pf_X8_73 (ini := false)) ho hini dX8_tin_7 rfl rfl (by decide) (ms_0 _ _) ?_
    refine x_aload_n dX8_tin_10 rfl ?_
    refine x_iload_n dX8_tin_11 rfl ?_
    refine x_callV1 lk_X8_344 (m_isTinAt (M := (mI (mI M 1 (nI 0)) 0 (nI 0))) hF _) ho dX8_tin_12 rfl (Nat.le_of_ble_eq_true rfl) (by omega) (by decide) (by omega) (by omega) ?_
    refine x_ifb_ne (tgt := 24) dX8_tin_15 (by decide) (fun c15 => ?_) (fun c15 => ?_)
    · try (exfalso; first | (simp (disch := omega) [inS_ix, inS_N, ixL_N, ix_nI, hx, hy] at c15 <;> omega) | (simp (disch := omega) only [h0, h1, h3, Int32.le_iff_toInt_le, Int32.lt_iff_toInt_lt, ← Int32.toInt_inj, nI_toInt, Int32.toInt_zero, m1_toInt, Int64.le_iff_toInt_le, Int64.lt_iff_toInt_lt, ← Int64.toInt_inj, pk_lT, i64_toInt, Int64.toInt_zero, eq_self, not_true_eq_false, not_false_eq_true] at c15 <;> omega) | omega)
      all_goals
        skip
        refine x_iload_n dX8_tin_24 rfl ?_
        refine x_i2lN (by omega) dX8_tin_25 ?_
        refine x_lconst (v := lN 0) rfl dX8_tin_26 ?_
        refine x_ldc2 (v := lN 4) ho q1942 dX8_tin_27 ?_
        refine x_callS3 lk_X8_105 (m_isIn _ _ _) ho dX8_tin_30 (Nat.le_of_ble_eq_true rfl) (by omega) (by decide) (by omega) (by omega) ?_
        refine x_ifb_ne (tgt := 42) dX8_tin_33 (by decide) (fun c33 => ?_) (fun c33 => ?_)
        · try (exfalso; first | (simp (disch := omega) [inS_ix, inS_N, ixL_N, ix_nI, hx, hy] at c33 <;> omega) | (simp (disch := omega) only [h0, h1, h3, Int32.le_iff_toInt_le, Int32.lt_iff_toInt_lt, ← Int32.toInt_inj, nI_toInt, Int32.toInt_zero, m1_toInt, Int64.le_iff_toInt_le, Int64.lt_iff_toInt_lt, ← Int64.toInt_inj, pk_lT, i64_toInt, Int64.toInt_zero, eq_self, not_true_eq_false, not_false_eq_true] at c15 c33 <;> omega) | omega)
          all_goals
            skip
            refine x_iload_n dX8_tin_42 rfl ?_
            refine x_iconst (v := nI 1) rfl dX8_tin_43 ?_
            refine x_icmp_ne (tgt := 74) dX8_tin_44 (by decide) (fun c44 => ?_) (fun c44 => ?_)
            · try (exfalso; first | (simp (disch := omega) [inS_ix, inS_N, ixL_N, ix_nI, hx, hy] at c44 <;> omega) | (simp (disch := omega) only [h0, h1, h3, Int32.le_iff_toInt_le, Int32.lt_iff_toInt_lt, ← Int32.toInt_inj, nI_toInt, Int32.toInt_zero, m1_toInt, Int64.le_iff_toInt_le, Int64.lt_iff_toInt_lt, ← Int64.toInt_inj, pk_lT, i64_toInt, Int64.toInt_zero, eq_self, not_true_eq_false, not_false_eq_true] at c15 c33 c44 <;> omega) | omega)
              all_goals
                skip
                refine x_aload_n dX8_tin_74 rfl ?_
                refine x_getf gf_X8_35 ho dX8_tin_75 rfl rfl ?_
                refine x_iload_n dX8_tin_78 rfl ?_
                refine x_if_ne (tgt := 87) dX8_tin_79 (by decide) (fun c79 => ?_) (fun c79 => ?_)
                · try (exfalso; first | (simp (disch := omega) [inS_ix, inS_N, ixL_N, ix_nI, hx, hy] at c79 <;> omega) | (simp (disch := omega) only [h0, h1, h3, Int32.le_iff_toInt_le, Int32.lt_iff_toInt_lt, ← Int32.toInt_inj, nI_toInt, Int32.toInt_zero, m1_toInt, Int64.le_iff_toInt_le, Int64.lt_iff_toInt_lt, ← Int64.toInt_inj, pk_lT, i64_toInt, Int64.toInt_zero, eq_self, not_true_eq_false, not_false_eq_true] at c15 c33 c44 c79 <;> omega) | omega)
                  all_goals
                    skip
                    refine x_iload_n dX8_tin_87 rfl ?_
                    refine x_iconst (v := nI 2) rfl dX8_tin_88 ?_
                    refine x_icmp_ne (tgt := 97) dX8_tin_89 (by decide) (fun c89 => ?_) (fun c89 => ?_)
                    · try (exfalso; first | (simp (disch := omega) [inS_ix, inS_N, ixL_N, ix_nI, hx, hy] at c89 <;> omega) | (simp (disch := omega) only [h0, h1, h3, Int32.le_iff_toInt_le, Int32.lt_iff_toInt_lt, ← Int32.toInt_inj, nI_toInt, Int32.toInt_zero, m1_toInt, Int64.le_iff_toInt_le, Int64.lt_iff_toInt_lt, ← Int64.toInt_inj, pk_lT, i64_toInt, Int64.toInt_zero, eq_self, not_true_eq_false, not_false_eq_true] at c15 c33 c44 c79 c89 <;> omega) | omega)
                      all_goals
                        skip
                        refine x_iload_n dX8_tin_97 rfl ?_
                        refine x_iconst (v := nI 3) rfl dX8_tin_98 ?_
                        refine x_icmp_ne (tgt := 107) dX8_tin_99 (by decide) (fun c99 => ?_) (fun c99 => ?_)
                        · try (exfalso; first | (simp (disch := omega) [inS_ix, inS_N, ixL_N, ix_nI, hx, hy] at c99 <;> omega) | (simp (disch := omega) only [h0, h1, h3, Int32.le_iff_toInt_le, Int32.lt_iff_toInt_lt, ← Int32.toInt_inj, nI_toInt, Int32.toInt_zero, m1_toInt, Int64.le_iff_toInt_le, Int64.lt_iff_toInt_lt, ← Int64.toInt_inj, pk_lT, i64_toInt, Int64.toInt_zero, eq_self, not_true_eq_false, not_false_eq_true] at c15 c33 c44 c79 c89 c99 <;> omega) | omega)
                          all_goals
                            skip
                            refine x_bipush (v := nI 78) rfl dX8_tin_107 ?_
                            refine x_iload_n dX8_tin_109 rfl ?_
                            refine x_iaddN dX8_tin_110 ?_
                            refine x_iald dX8_tin_111 rfl (by first | rfl | exact nI_add _ _ | (simp only [nI_add, pk_mul]; rfl)) (by omega) (by decide) ?_
                            refine x_iret hr rfl dX8_tin_112 (by omega) (by omega) (hQ _ _ ?_)
                            try dsimp only [mI, mSA] at c15 c33 c44 c79 c89 c99
                            exact ⟨by simp [spTin, hx, hy], by simp [spTin, hx, hy, mI_mI, mSA_id]⟩
                        · try (exfalso; first | (simp (disch := omega) [inS_ix, inS_N, ixL_N, ix_nI, hx, hy] at c99 <;> omega) | (simp (disch := omega) only [h0, h1, h3, Int32.le_iff_toInt_le, Int32.lt_iff_toInt_lt, ← Int32.toInt_inj, nI_toInt, Int32.toInt_zero, m1_toInt, Int64.le_iff_toInt_le, Int64.lt_iff_toInt_lt, ← Int64.toInt_inj, pk_lT, i64_toInt, Int64.toInt_zero, eq_self, not_true_eq_false, not_false_eq_true] at c15 c33 c44 c79 c89 c99 <;> omega) | omega)
                          all_goals
                            skip
                            refine x_bipush (v := nI 69) rfl dX8_tin_102 ?_
                            refine x_goto (tgt := 109) dX8_tin_104 (by decide) ?_
                            refine x_iload_n dX8_tin_109 rfl ?_
                            refine x_iaddN dX8_tin_110 ?_
                            refine x_iald dX8_tin_111 rfl (by first | rfl | exact nI_add _ _ | (simp only [nI_add, pk_mul]; rfl)) (by omega) (by decide) ?_
                            refine x_iret hr rfl dX8_tin_112 (by omega) (by omega) (hQ _ _ ?_)
                            try dsimp only [mI, mSA] at c15 c33 c44 c79 c89 c99
                            exact ⟨by simp [spTin, hx, hy], by simp [spTin, hx, hy, mI_mI, mSA_id]⟩
                    · try (exfalso; first | (simp (disch := omega) [inS_ix, inS_N, ixL_N, ix_nI, hx, hy] at c89 <;> omega) | (simp (disch := omega) only [h0, h1, h3, Int32.le_iff_toInt_le, Int32.lt_iff_toInt_lt, ← Int32.toInt_inj, nI_toInt, Int32.toInt_zero, m1_toInt, Int64.le_iff_toInt_le, Int64.lt_iff_toInt_lt, ← Int64.toInt_inj, pk_lT, i64_toInt, Int64.toInt_zero, eq_self, not_true_eq_false, not_false_eq_true] at c15 c33 c44 c79 c89 <;> omega) | omega)
                      all_goals
                        skip
                        refine x_bipush (v := nI 51) rfl dX8_tin_92 ?_
                        refine x_goto (tgt := 109) dX8_tin_94 (by decide) ?_
                        refine x_iload_n dX8_tin_109 rfl ?_
                        refine x_iaddN dX8_tin_110 ?_
                        refine x_iald dX8_tin_111 rfl (by first | rfl | exact nI_add _ _ | (simp only [nI_add, pk_mul]; rfl)) (by omega) (by decide) ?_
                        refine x_iret hr rfl dX8_tin_112 (by omega) (by omega) (hQ _ _ ?_)
                        try dsimp only [mI, mSA] at c15 c33 c44 c79 c89
                        exact ⟨by simp [spTin, hx, hy], by simp [spTin, hx, hy, mI_mI, mSA_id]⟩
                · try (exfalso; first | (simp (disch := omega) [inS_ix, inS_N, ixL_N, ix_nI, hx, hy] at c79 <;> omega) | (simp (disch := omega) only [h0, h1, h3, Int32.le_iff_toInt_le, Int32.lt_iff_toInt_lt, ← Int32.toInt_inj, nI_toInt, Int32.toInt_zero, m1_toInt, Int64.le_iff_toInt_le, Int64.lt_iff_toInt_lt, ← Int64.toInt_inj, pk_lT, i64_toInt, Int64.toInt_zero, eq_self, not_true_eq_false, not_false_eq_true] at c15 c33 c44 c79 <;> omega) | omega)
                  all_goals
                    skip
                    refine x_bipush (v := nI 33) rfl dX8_tin_82 ?_
                    refine x_goto (tgt := 109) dX8_tin_84 (by decide) ?_
                    refine x_iload_n dX8_tin_109 rfl ?_
                    refine x_iaddN dX8_tin_110 ?_
                    refine x_iald dX8_tin_111 rfl (by first | rfl | exact nI_add _ _ | (simp only [nI_add, pk_mul]; rfl)) (by omega) (by decide) ?_
                    refine x_iret hr rfl dX8_tin_112 (by omega) (by omega) (hQ _ _ ?_)
                    try dsimp only [mI, mSA] at c15 c33 c44 c79
                    exact ⟨by simp [spTin, hx, hy], by simp [spTin, hx, hy, mI_mI, mSA_id]⟩
            · try (exfalso; first | (simp (disch := omega) [inS_ix, inS_N, ixL_N, ix_nI, hx, hy] at c44 <;> omega) | (simp (disch := omega) only [h0, h1, h3, Int32.le_iff_toInt_le, Int32.lt_iff_toInt_lt, ← Int32.toInt_inj, nI_toInt, Int32.toInt_zero, m1_toInt, Int64.le_iff_toInt_le, Int64.lt_iff_toInt_lt, ← Int64.toInt_inj, pk_lT, i64_toInt, Int64.toInt_zero, eq_self, not_true_eq_false, not_false_eq_true] at c15 c33 c44 <;> omega) | omega)
              all_goals
                skip
                refine x_aload_n dX8_tin_47 rfl ?_
                refine x_iload_n dX8_tin_48 rfl ?_
                refine x_callV1 lk_X8_310 (m_isGone (M := (mI (mI M 1 (nI 0)) 0 (nI 0))) hF _ (by omega)) ho dX8_tin_49 rfl (Nat.le_of_ble_eq_true rfl) (by omega) (by decide) (by omega) (by omega) ?_
                refine x_ifb_eq (tgt := 64) dX8_tin_52 (by decide) (fun c52 => ?_) (fun c52 => ?_)
                · try (exfalso; first | (simp (disch := omega) [inS_ix, inS_N, ixL_N, ix_nI, hx, hy] at c52 <;> omega) | (simp (disch := omega) only [h0, h1, h3, Int32.le_iff_toInt_le, Int32.lt_iff_toInt_lt, ← Int32.toInt_inj, nI_toInt, Int32.toInt_zero, m1_toInt, Int64.le_iff_toInt_le, Int64.lt_iff_toInt_lt, ← Int64.toInt_inj, pk_lT, i64_toInt, Int64.toInt_zero, eq_self, not_true_eq_false, not_false_eq_true] at c15 c33 c44 c52 <;> omega) | omega)
                  all_goals
                    skip
                    refine x_aload_n dX8_tin_64 rfl ?_
                    refine x_getf gf_X8_35 ho dX8_tin_65 rfl rfl ?_
                    refine x_bipush (v := nI 42) rfl dX8_tin_68 ?_
                    refine x_iload_n dX8_tin_70 rfl ?_
                    refine x_iaddN dX8_tin_71 ?_
                    refine x_iald dX8_tin_72 rfl (by first | rfl | exact nI_add _ _ | (simp only [nI_add, pk_mul]; rfl)) (by omega) (by decide) ?_
                    refine x_iret hr rfl dX8_tin_73 (by omega) (by omega) (hQ _ _ ?_)
                    try dsimp only [mI, mSA] at c15 c33 c44 c52
                    exact ⟨by simp [spTin, hx, hy, c52], by simp [spTin, hx, hy, c52, mI_mI, mSA_id]⟩
                · try (exfalso; first | (simp (disch := omega) [inS_ix, inS_N, ixL_N, ix_nI, hx, hy] at c52 <;> omega) | (simp (disch := omega) only [h0, h1, h3, Int32.le_iff_toInt_le, Int32.lt_iff_toInt_lt, ← Int32.toInt_inj, nI_toInt, Int32.toInt_zero, m1_toInt, Int64.le_iff_toInt_le, Int64.lt_iff_toInt_lt, ← Int64.toInt_inj, pk_lT, i64_toInt, Int64.toInt_zero, eq_self, not_true_eq_false, not_false_eq_true] at c15 c33 c44 c52 <;> omega) | omega)
                  all_goals
                    skip
                    refine x_aload_n dX8_tin_55 rfl ?_
                    refine x_bipush (v := nI 8) rfl dX8_tin_56 ?_
                    refine x_callV1 lk_X8_327 (m_refuse _) ho dX8_tin_58 rfl (Nat.le_of_ble_eq_true rfl) (by omega) (by decide) (by omega) (by omega) ?_
                    refine x_goto (tgt := 73) dX8_tin_61 (by decide) ?_
                    refine x_iret hr rfl dX8_tin_73 (by omega) (by omega) (hQ _ _ ?_)
                    try dsimp only [mI, mSA] at c15 c33 c44 c52
                    exact ⟨by simp [spTin, hx, hy, c52], by simp [spTin, hx, hy, c52, mI_mI, mSA_id]⟩
        · try (exfalso; first | (simp (disch := omega) [inS_ix, inS_N, ixL_N, ix_nI, hx, hy] at c33 <;> omega) | (simp (disch := omega) only [h0, h1, h3, Int32.le_iff_toInt_le, Int32.lt_iff_toInt_lt, ← Int32.toInt_inj, nI_toInt, Int32.toInt_zero, m1_toInt, Int64.le_iff_toInt_le, Int64.lt_iff_toInt_lt, ← Int64.toInt_inj, pk_lT, i64_toInt, Int64.toInt_zero, eq_self, not_true_eq_false, not_false_eq_true] at c15 c33 <;> omega) | omega)
          all_goals
            skip
            refine x_aload_n dX8_tin_36 rfl ?_
            refine x_iconst (v := nI 5) rfl dX8_tin_37 ?_
            refine x_callV1 lk_X8_327 (m_refuse _) ho dX8_tin_38 rfl (Nat.le_of_ble_eq_true rfl) (by omega) (by decide) (by omega) (by omega) ?_
            refine x_iret hr rfl dX8_tin_41 (by omega) (by omega) (hQ _ _ ?_)
            try dsimp only [mI, mSA] at c15 c33
            exact ⟨by simp [spTin, hx, hy], by simp [spTin, hx, hy, mI_mI, mSA_id]⟩
    · try (exfalso; first | (simp (disch := omega) [inS_ix, inS_N, ixL_N, ix_nI, hx, hy] at c15 <;> omega) | (simp (disch := omega) only [h0, h1, h3, Int32.le_iff_toInt_le, Int32.lt_iff_toInt_lt, ← Int32.toInt_inj, nI_toInt, Int32.toInt_zero, m1_toInt, Int64.le_iff_toInt_le, Int64.lt_iff_toInt_lt, ← Int64.toInt_inj, pk_lT, i64_toInt, Int64.toInt_zero, eq_self, not_true_eq_false, not_false_eq_true] at c15 <;> omega) | omega)
      all_goals
        skip
        refine x_aload_n dX8_tin_18 rfl ?_
        refine x_iconst (v := nI 2) rfl dX8_tin_19 ?_
        refine x_callV1 lk_X8_327 (m_refuse _) ho dX8_tin_20 rfl (Nat.le_of_ble_eq_true rfl) (by omega) (by decide) (by omega) (by omega) ?_
        refine x_iret hr rfl dX8_tin_23 (by omega) (by omega) (hQ _ _ ?_)
        try dsimp only [mI, mSA] at c15
        exact ⟨by simp [spTin, hx, hy], by simp [spTin, hx, hy, mI_mI, mSA_id]⟩
  · skip
    refine CT.of (ini := false) (by decide +kernel) q1950 q164 (Nat.le_of_ble_eq_true rfl) (by decide) ?_
    intro Γ hw ho hL hr hh hini hal hd hmc hms hQ
    subst hw
    show AW Γ cX8_tin 0 0 0 [some (.ref 32), some (.int (nI t)), some (.int (nI 4))] [] (hM M R)
    have h0 := hF.c0
    have h1 := hF.c1
    have h3 := hF.c3
    have l0 := hF.l0
    have l1 := hF.l1
    have l3 := hF.l3
    refine x_aload_n dX8_tin_0 rfl ?_
    refine x_iconst (v := nI 0) rfl dX8_tin_1 ?_
    refine m_puti (k := 1) (pf_X8_70 (ini := false)) ho hini dX8_tin_2 rfl rfl (by decide) (ms_1 _ _) ?_
    refine x_aload_n dX8_tin_5 rfl ?_
    refine x_iconst (v := nI 0) rfl dX8_tin_6 ?_
    refine m_puti (k := 0) (pf_X8_73 (ini := false)) ho hini dX8_tin_7 rfl rfl (by decide) (ms_0 _ _) ?_
    refine x_aload_n dX8_tin_10 rfl ?_
    refine x_iload_n dX8_tin_11 rfl ?_
    refine x_callV1 lk_X8_344 (m_isTinAt (M := (mI (mI M 1 (nI 0)) 0 (nI 0))) hF _) ho dX8_tin_12 rfl (Nat.le_of_ble_eq_true rfl) (by omega) (by decide) (by omega) (by omega) ?_
    refine x_ifb_ne (tgt := 24) dX8_tin_15 (by decide) (fun c15 => ?_) (fun c15 => ?_)
    · try (exfalso; first | (simp (disch := omega) [inS_ix, inS_N, ixL_N, ix_nI, hx, hy] at c15 <;> omega) | (simp (disch := omega) only [h0, h1, h3, Int32.le_iff_toInt_le, Int32.lt_iff_toInt_lt, ← Int32.toInt_inj, nI_toInt, Int32.toInt_zero, m1_toInt, Int64.le_iff_toInt_le, Int64.lt_iff_toInt_lt, ← Int64.toInt_inj, pk_lT, i64_toInt, Int64.toInt_zero, eq_self, not_true_eq_false, not_false_eq_true] at c15 <;> omega) | omega)
      all_goals
        skip
        refine x_iload_n dX8_tin_24 rfl ?_
        refine x_i2lN (by omega) dX8_tin_25 ?_
        refine x_lconst (v := lN 0) rfl dX8_tin_26 ?_
        refine x_ldc2 (v := lN 4) ho q1942 dX8_tin_27 ?_
        refine x_callS3 lk_X8_105 (m_isIn _ _ _) ho dX8_tin_30 (Nat.le_of_ble_eq_true rfl) (by omega) (by decide) (by omega) (by omega) ?_
        refine x_ifb_ne (tgt := 42) dX8_tin_33 (by decide) (fun c33 => ?_) (fun c33 => ?_)
        · try (exfalso; first | (simp (disch := omega) [inS_ix, inS_N, ixL_N, ix_nI, hx, hy] at c33 <;> omega) | (simp (disch := omega) only [h0, h1, h3, Int32.le_iff_toInt_le, Int32.lt_iff_toInt_lt, ← Int32.toInt_inj, nI_toInt, Int32.toInt_zero, m1_toInt, Int64.le_iff_toInt_le, Int64.lt_iff_toInt_lt, ← Int64.toInt_inj, pk_lT, i64_toInt, Int64.toInt_zero, eq_self, not_true_eq_false, not_false_eq_true] at c15 c33 <;> omega) | omega)
          all_goals
            skip
            refine x_iload_n dX8_tin_42 rfl ?_
            refine x_iconst (v := nI 1) rfl dX8_tin_43 ?_
            refine x_icmp_ne (tgt := 74) dX8_tin_44 (by decide) (fun c44 => ?_) (fun c44 => ?_)
            · try (exfalso; first | (simp (disch := omega) [inS_ix, inS_N, ixL_N, ix_nI, hx, hy] at c44 <;> omega) | (simp (disch := omega) only [h0, h1, h3, Int32.le_iff_toInt_le, Int32.lt_iff_toInt_lt, ← Int32.toInt_inj, nI_toInt, Int32.toInt_zero, m1_toInt, Int64.le_iff_toInt_le, Int64.lt_iff_toInt_lt, ← Int64.toInt_inj, pk_lT, i64_toInt, Int64.toInt_zero, eq_self, not_true_eq_false, not_false_eq_true] at c15 c33 c44 <;> omega) | omega)
              all_goals
                skip
                refine x_aload_n dX8_tin_74 rfl ?_
                refine x_getf gf_X8_35 ho dX8_tin_75 rfl rfl ?_
                refine x_iload_n dX8_tin_78 rfl ?_
                refine x_if_ne (tgt := 87) dX8_tin_79 (by decide) (fun c79 => ?_) (fun c79 => ?_)
                · try (exfalso; first | (simp (disch := omega) [inS_ix, inS_N, ixL_N, ix_nI, hx, hy] at c79 <;> omega) | (simp (disch := omega) only [h0, h1, h3, Int32.le_iff_toInt_le, Int32.lt_iff_toInt_lt, ← Int32.toInt_inj, nI_toInt, Int32.toInt_zero, m1_toInt, Int64.le_iff_toInt_le, Int64.lt_iff_toInt_lt, ← Int64.toInt_inj, pk_lT, i64_toInt, Int64.toInt_zero, eq_self, not_true_eq_false, not_false_eq_true] at c15 c33 c44 c79 <;> omega) | omega)
                  all_goals
                    skip
                    refine x_iload_n dX8_tin_87 rfl ?_
                    refine x_iconst (v := nI 2) rfl dX8_tin_88 ?_
                    refine x_icmp_ne (tgt := 97) dX8_tin_89 (by decide) (fun c89 => ?_) (fun c89 => ?_)
                    · try (exfalso; first | (simp (disch := omega) [inS_ix, inS_N, ixL_N, ix_nI, hx, hy] at c89 <;> omega) | (simp (disch := omega) only [h0, h1, h3, Int32.le_iff_toInt_le, Int32.lt_iff_toInt_lt, ← Int32.toInt_inj, nI_toInt, Int32.toInt_zero, m1_toInt, Int64.le_iff_toInt_le, Int64.lt_iff_toInt_lt, ← Int64.toInt_inj, pk_lT, i64_toInt, Int64.toInt_zero, eq_self, not_true_eq_false, not_false_eq_true] at c15 c33 c44 c79 c89 <;> omega) | omega)
                      all_goals
                        skip
                        refine x_iload_n dX8_tin_97 rfl ?_
                        refine x_iconst (v := nI 3) rfl dX8_tin_98 ?_
                        refine x_icmp_ne (tgt := 107) dX8_tin_99 (by decide) (fun c99 => ?_) (fun c99 => ?_)
                        · try (exfalso; first | (simp (disch := omega) [inS_ix, inS_N, ixL_N, ix_nI, hx, hy] at c99 <;> omega) | (simp (disch := omega) only [h0, h1, h3, Int32.le_iff_toInt_le, Int32.lt_iff_toInt_lt, ← Int32.toInt_inj, nI_toInt, Int32.toInt_zero, m1_toInt, Int64.le_iff_toInt_le, Int64.lt_iff_toInt_lt, ← Int64.toInt_inj, pk_lT, i64_toInt, Int64.toInt_zero, eq_self, not_true_eq_false, not_false_eq_true] at c15 c33 c44 c79 c89 c99 <;> omega) | omega)
                          all_goals
                            skip
                            refine x_bipush (v := nI 78) rfl dX8_tin_107 ?_
                            refine x_iload_n dX8_tin_109 rfl ?_
                            refine x_iaddN dX8_tin_110 ?_
                            refine x_iald dX8_tin_111 rfl (by first | rfl | exact nI_add _ _ | (simp only [nI_add, pk_mul]; rfl)) (by omega) (by decide) ?_
                            refine x_iret hr rfl dX8_tin_112 (by omega) (by omega) (hQ _ _ ?_)
                            try dsimp only [mI, mSA] at c15 c33 c44 c79 c89 c99
                            exact ⟨by simp [spTin, hx, hy], by simp [spTin, hx, hy, mI_mI, mSA_id]⟩
                        · try (exfalso; first | (simp (disch := omega) [inS_ix, inS_N, ixL_N, ix_nI, hx, hy] at c99 <;> omega) | (simp (disch := omega) only [h0, h1, h3, Int32.le_iff_toInt_le, Int32.lt_iff_toInt_lt, ← Int32.toInt_inj, nI_toInt, Int32.toInt_zero, m1_toInt, Int64.le_iff_toInt_le, Int64.lt_iff_toInt_lt, ← Int64.toInt_inj, pk_lT, i64_toInt, Int64.toInt_zero, eq_self, not_true_eq_false, not_false_eq_true] at c15 c33 c44 c79 c89 c99 <;> omega) | omega)
                          all_goals
                            skip
                            refine x_bipush (v := nI 69) rfl dX8_tin_102 ?_
                            refine x_goto (tgt := 109) dX8_tin_104 (by decide) ?_
                            refine x_iload_n dX8_tin_109 rfl ?_
                            refine x_iaddN dX8_tin_110 ?_
                            refine x_iald dX8_tin_111 rfl (by first | rfl | exact nI_add _ _ | (simp only [nI_add, pk_mul]; rfl)) (by omega) (by decide) ?_
                            refine x_iret hr rfl dX8_tin_112 (by omega) (by omega) (hQ _ _ ?_)
                            try dsimp only [mI, mSA] at c15 c33 c44 c79 c89 c99
                            exact ⟨by simp [spTin, hx, hy], by simp [spTin, hx, hy, mI_mI, mSA_id]⟩
                    · try (exfalso; first | (simp (disch := omega) [inS_ix, inS_N, ixL_N, ix_nI, hx, hy] at c89 <;> omega) | (simp (disch := omega) only [h0, h1, h3, Int32.le_iff_toInt_le, Int32.lt_iff_toInt_lt, ← Int32.toInt_inj, nI_toInt, Int32.toInt_zero, m1_toInt, Int64.le_iff_toInt_le, Int64.lt_iff_toInt_lt, ← Int64.toInt_inj, pk_lT, i64_toInt, Int64.toInt_zero, eq_self, not_true_eq_false, not_false_eq_true] at c15 c33 c44 c79 c89 <;> omega) | omega)
                      all_goals
                        skip
                        refine x_bipush (v := nI 51) rfl dX8_tin_92 ?_
                        refine x_goto (tgt := 109) dX8_tin_94 (by decide) ?_
                        refine x_iload_n dX8_tin_109 rfl ?_
                        refine x_iaddN dX8_tin_110 ?_
                        refine x_iald dX8_tin_111 rfl (by first | rfl | exact nI_add _ _ | (simp only [nI_add, pk_mul]; rfl)) (by omega) (by decide) ?_
                        refine x_iret hr rfl dX8_tin_112 (by omega) (by omega) (hQ _ _ ?_)
                        try dsimp only [mI, mSA] at c15 c33 c44 c79 c89
                        exact ⟨by simp [spTin, hx, hy], by simp [spTin, hx, hy, mI_mI, mSA_id]⟩
                · try (exfalso; first | (simp (disch := omega) [inS_ix, inS_N, ixL_N, ix_nI, hx, hy] at c79 <;> omega) | (simp (disch := omega) only [h0, h1, h3, Int32.le_iff_toInt_le, Int32.lt_iff_toInt_lt, ← Int32.toInt_inj, nI_toInt, Int32.toInt_zero, m1_toInt, Int64.le_iff_toInt_le, Int64.lt_iff_toInt_lt, ← Int64.toInt_inj, pk_lT, i64_toInt, Int64.toInt_zero, eq_self, not_true_eq_false, not_false_eq_true] at c15 c33 c44 c79 <;> omega) | omega)
                  all_goals
                    skip
                    refine x_bipush (v := nI 33) rfl dX8_tin_82 ?_
                    refine x_goto (tgt := 109) dX8_tin_84 (by decide) ?_
                    refine x_iload_n dX8_tin_109 rfl ?_
                    refine x_iaddN dX8_tin_110 ?_
                    refine x_iald dX8_tin_111 rfl (by first | rfl | exact nI_add _ _ | (simp only [nI_add, pk_mul]; rfl)) (by omega) (by decide) ?_
                    refine x_iret hr rfl dX8_tin_112 (by omega) (by omega) (hQ _ _ ?_)
                    try dsimp only [mI, mSA] at c15 c33 c44 c79
                    exact ⟨by simp [spTin, hx, hy], by simp [spTin, hx, hy, mI_mI, mSA_id]⟩
            · try (exfalso; first | (simp (disch := omega) [inS_ix, inS_N, ixL_N, ix_nI, hx, hy] at c44 <;> omega) | (simp (disch := omega) only [h0, h1, h3, Int32.le_iff_toInt_le, Int32.lt_iff_toInt_lt, ← Int32.toInt_inj, nI_toInt, Int32.toInt_zero, m1_toInt, Int64.le_iff_toInt_le, Int64.lt_iff_toInt_lt, ← Int64.toInt_inj, pk_lT, i64_toInt, Int64.toInt_zero, eq_self, not_true_eq_false, not_false_eq_true] at c15 c33 c44 <;> omega) | omega)
              all_goals
                skip
                refine x_aload_n dX8_tin_47 rfl ?_
                refine x_iload_n dX8_tin_48 rfl ?_
                refine x_callV1 lk_X8_310 (m_isGone (M := (mI (mI M 1 (nI 0)) 0 (nI 0))) hF _ (by omega)) ho dX8_tin_49 rfl (Nat.le_of_ble_eq_true rfl) (by omega) (by decide) (by omega) (by omega) ?_
                refine x_ifb_eq (tgt := 64) dX8_tin_52 (by decide) (fun c52 => ?_) (fun c52 => ?_)
                · try (exfalso; first | (simp (disch := omega) [inS_ix, inS_N, ixL_N, ix_nI, hx, hy] at c52 <;> omega) | (simp (disch := omega) only [h0, h1, h3, Int32.le_iff_toInt_le, Int32.lt_iff_toInt_lt, ← Int32.toInt_inj, nI_toInt, Int32.toInt_zero, m1_toInt, Int64.le_iff_toInt_le, Int64.lt_iff_toInt_lt, ← Int64.toInt_inj, pk_lT, i64_toInt, Int64.toInt_zero, eq_self, not_true_eq_false, not_false_eq_true] at c15 c33 c44 c52 <;> omega) | omega)
                  all_goals
                    skip
                    refine x_aload_n dX8_tin_64 rfl ?_
                    refine x_getf gf_X8_35 ho dX8_tin_65 rfl rfl ?_
                    refine x_bipush (v := nI 42) rfl dX8_tin_68 ?_
                    refine x_iload_n dX8_tin_70 rfl ?_
                    refine x_iaddN dX8_tin_71 ?_
                    refine x_iald dX8_tin_72 rfl (by first | rfl | exact nI_add _ _ | (simp only [nI_add, pk_mul]; rfl)) (by omega) (by decide) ?_
                    refine x_iret hr rfl dX8_tin_73 (by omega) (by omega) (hQ _ _ ?_)
                    try dsimp only [mI, mSA] at c15 c33 c44 c52
                    exact ⟨by simp [spTin, hx, hy, c52], by simp [spTin, hx, hy, c52, mI_mI, mSA_id]⟩
                · try (exfalso; first | (simp (disch := omega) [inS_ix, inS_N, ixL_N, ix_nI, hx, hy] at c52 <;> omega) | (simp (disch := omega) only [h0, h1, h3, Int32.le_iff_toInt_le, Int32.lt_iff_toInt_lt, ← Int32.toInt_inj, nI_toInt, Int32.toInt_zero, m1_toInt, Int64.le_iff_toInt_le, Int64.lt_iff_toInt_lt, ← Int64.toInt_inj, pk_lT, i64_toInt, Int64.toInt_zero, eq_self, not_true_eq_false, not_false_eq_true] at c15 c33 c44 c52 <;> omega) | omega)
                  all_goals
                    skip
                    refine x_aload_n dX8_tin_55 rfl ?_
                    refine x_bipush (v := nI 8) rfl dX8_tin_56 ?_
                    refine x_callV1 lk_X8_327 (m_refuse _) ho dX8_tin_58 rfl (Nat.le_of_ble_eq_true rfl) (by omega) (by decide) (by omega) (by omega) ?_
                    refine x_goto (tgt := 73) dX8_tin_61 (by decide) ?_
                    refine x_iret hr rfl dX8_tin_73 (by omega) (by omega) (hQ _ _ ?_)
                    try dsimp only [mI, mSA] at c15 c33 c44 c52
                    exact ⟨by simp [spTin, hx, hy, c52], by simp [spTin, hx, hy, c52, mI_mI, mSA_id]⟩
        · try (exfalso; first | (simp (disch := omega) [inS_ix, inS_N, ixL_N, ix_nI, hx, hy] at c33 <;> omega) | (simp (disch := omega) only [h0, h1, h3, Int32.le_iff_toInt_le, Int32.lt_iff_toInt_lt, ← Int32.toInt_inj, nI_toInt, Int32.toInt_zero, m1_toInt, Int64.le_iff_toInt_le, Int64.lt_iff_toInt_lt, ← Int64.toInt_inj, pk_lT, i64_toInt, Int64.toInt_zero, eq_self, not_true_eq_false, not_false_eq_true] at c15 c33 <;> omega) | omega)
          all_goals
            skip
            refine x_aload_n dX8_tin_36 rfl ?_
            refine x_iconst (v := nI 5) rfl dX8_tin_37 ?_
            refine x_callV1 lk_X8_327 (m_refuse _) ho dX8_tin_38 rfl (Nat.le_of_ble_eq_true rfl) (by omega) (by decide) (by omega) (by omega) ?_
            refine x_iret hr rfl dX8_tin_41 (by omega) (by omega) (hQ _ _ ?_)
            try dsimp only [mI, mSA] at c15 c33
            exact ⟨by simp [spTin, hx, hy], by simp [spTin, hx, hy, mI_mI, mSA_id]⟩
    · try (exfalso; first | (simp (disch := omega) [inS_ix, inS_N, ixL_N, ix_nI, hx, hy] at c15 <;> omega) | (simp (disch := omega) only [h0, h1, h3, Int32.le_iff_toInt_le, Int32.lt_iff_toInt_lt, ← Int32.toInt_inj, nI_toInt, Int32.toInt_zero, m1_toInt, Int64.le_iff_toInt_le, Int64.lt_iff_toInt_lt, ← Int64.toInt_inj, pk_lT, i64_toInt, Int64.toInt_zero, eq_self, not_true_eq_false, not_false_eq_true] at c15 <;> omega) | omega)
      all_goals
        skip
        refine x_aload_n dX8_tin_18 rfl ?_
        refine x_iconst (v := nI 2) rfl dX8_tin_19 ?_
        refine x_callV1 lk_X8_327 (m_refuse _) ho dX8_tin_20 rfl (Nat.le_of_ble_eq_true rfl) (by omega) (by decide) (by omega) (by omega) ?_
        refine x_iret hr rfl dX8_tin_23 (by omega) (by omega) (hQ _ _ ?_)
        try dsimp only [mI, mSA] at c15
        exact ⟨by simp [spTin, hx, hy], by simp [spTin, hx, hy, mI_mI, mSA_id]⟩
  · skip
    refine CT.of (ini := false) (by decide +kernel) q1950 q164 (Nat.le_of_ble_eq_true rfl) (by decide) ?_
    intro Γ hw ho hL hr hh hini hal hd hmc hms hQ
    subst hw
    show AW Γ cX8_tin 0 0 0 [some (.ref 32), some (.int p9), some (.int w9)] [] (hM M R)
    have h0 := hF.c0
    have h1 := hF.c1
    have h3 := hF.c3
    have l0 := hF.l0
    have l1 := hF.l1
    have l3 := hF.l3
    refine x_aload_n dX8_tin_0 rfl ?_
    refine x_iconst (v := nI 0) rfl dX8_tin_1 ?_
    refine m_puti (k := 1) (pf_X8_70 (ini := false)) ho hini dX8_tin_2 rfl rfl (by decide) (ms_1 _ _) ?_
    refine x_aload_n dX8_tin_5 rfl ?_
    refine x_iconst (v := nI 0) rfl dX8_tin_6 ?_
    refine m_puti (k := 0) (pf_X8_73 (ini := false)) ho hini dX8_tin_7 rfl rfl (by decide) (ms_0 _ _) ?_
    refine x_aload_n dX8_tin_10 rfl ?_
    refine x_iload_n dX8_tin_11 rfl ?_
    refine x_callV1 lk_X8_344 (m_isTinAt (M := (mI (mI M 1 (nI 0)) 0 (nI 0))) hF _) ho dX8_tin_12 rfl (Nat.le_of_ble_eq_true rfl) (by omega) (by decide) (by omega) (by omega) ?_
    refine x_ifb_ne (tgt := 24) dX8_tin_15 (by decide) (fun c15 => ?_) (fun c15 => ?_)
    · try (exfalso; first | (simp (disch := omega) [inS_ix, inS_N, ixL_N, ix_nI, hx] at c15 <;> omega) | (simp (disch := omega) only [h0, h1, h3, Int32.le_iff_toInt_le, Int32.lt_iff_toInt_lt, ← Int32.toInt_inj, nI_toInt, Int32.toInt_zero, m1_toInt, Int64.le_iff_toInt_le, Int64.lt_iff_toInt_lt, ← Int64.toInt_inj, pk_lT, i64_toInt, Int64.toInt_zero, eq_self, not_true_eq_false, not_false_eq_true] at c15 <;> omega) | omega)
      all_goals
        skip
        refine x_iload_n dX8_tin_24 rfl ?_
        refine x_i2l dX8_tin_25 ?_
        refine x_lconst (v := lN 0) rfl dX8_tin_26 ?_
        refine x_ldc2 (v := lN 4) ho q1942 dX8_tin_27 ?_
        refine x_callS3 lk_X8_105 (m_isIn _ _ _) ho dX8_tin_30 (Nat.le_of_ble_eq_true rfl) (by omega) (by decide) (by omega) (by omega) ?_
        refine x_ifb_ne (tgt := 42) dX8_tin_33 (by decide) (fun c33 => ?_) (fun c33 => ?_)
        · try (exfalso; first | (simp (disch := omega) [inS_ix, inS_N, ixL_N, ix_nI, hx] at c33 <;> omega) | (simp (disch := omega) only [h0, h1, h3, Int32.le_iff_toInt_le, Int32.lt_iff_toInt_lt, ← Int32.toInt_inj, nI_toInt, Int32.toInt_zero, m1_toInt, Int64.le_iff_toInt_le, Int64.lt_iff_toInt_lt, ← Int64.toInt_inj, pk_lT, i64_toInt, Int64.toInt_zero, eq_self, not_true_eq_false, not_false_eq_true] at c15 c33 <;> omega) | omega)
          all_goals
            skip
            refine x_iload_n dX8_tin_42 rfl ?_
            refine x_iconst (v := nI 1) rfl dX8_tin_43 ?_
            refine x_icmp_ne (tgt := 74) dX8_tin_44 (by decide) (fun c44 => ?_) (fun c44 => ?_)
            · try (exfalso; first | (simp (disch := omega) [inS_ix, inS_N, ixL_N, ix_nI, hx] at c44 <;> omega) | (simp (disch := omega) only [h0, h1, h3, Int32.le_iff_toInt_le, Int32.lt_iff_toInt_lt, ← Int32.toInt_inj, nI_toInt, Int32.toInt_zero, m1_toInt, Int64.le_iff_toInt_le, Int64.lt_iff_toInt_lt, ← Int64.toInt_inj, pk_lT, i64_toInt, Int64.toInt_zero, eq_self, not_true_eq_false, not_false_eq_true] at c15 c33 c44 <;> omega) | omega)
              all_goals
                skip
                refine x_aload_n dX8_tin_74 rfl ?_
                refine x_getf gf_X8_35 ho dX8_tin_75 rfl rfl ?_
                refine x_iload_n dX8_tin_78 rfl ?_
                refine x_if_ne (tgt := 87) dX8_tin_79 (by decide) (fun c79 => ?_) (fun c79 => ?_)
                · try (exfalso; first | (simp (disch := omega) [inS_ix, inS_N, ixL_N, ix_nI, hx] at c79 <;> omega) | (simp (disch := omega) only [h0, h1, h3, Int32.le_iff_toInt_le, Int32.lt_iff_toInt_lt, ← Int32.toInt_inj, nI_toInt, Int32.toInt_zero, m1_toInt, Int64.le_iff_toInt_le, Int64.lt_iff_toInt_lt, ← Int64.toInt_inj, pk_lT, i64_toInt, Int64.toInt_zero, eq_self, not_true_eq_false, not_false_eq_true] at c15 c33 c44 c79 <;> omega) | omega)
                  all_goals
                    skip
                    refine x_iload_n dX8_tin_87 rfl ?_
                    refine x_iconst (v := nI 2) rfl dX8_tin_88 ?_
                    refine x_icmp_ne (tgt := 97) dX8_tin_89 (by decide) (fun c89 => ?_) (fun c89 => ?_)
                    · try (exfalso; first | (simp (disch := omega) [inS_ix, inS_N, ixL_N, ix_nI, hx] at c89 <;> omega) | (simp (disch := omega) only [h0, h1, h3, Int32.le_iff_toInt_le, Int32.lt_iff_toInt_lt, ← Int32.toInt_inj, nI_toInt, Int32.toInt_zero, m1_toInt, Int64.le_iff_toInt_le, Int64.lt_iff_toInt_lt, ← Int64.toInt_inj, pk_lT, i64_toInt, Int64.toInt_zero, eq_self, not_true_eq_false, not_false_eq_true] at c15 c33 c44 c79 c89 <;> omega) | omega)
                      all_goals
                        skip
                        refine x_iload_n dX8_tin_97 rfl ?_
                        refine x_iconst (v := nI 3) rfl dX8_tin_98 ?_
                        refine x_icmp_ne (tgt := 107) dX8_tin_99 (by decide) (fun c99 => ?_) (fun c99 => ?_)
                        · try (exfalso; first | (simp (disch := omega) [inS_ix, inS_N, ixL_N, ix_nI, hx] at c99 <;> omega) | (simp (disch := omega) only [h0, h1, h3, Int32.le_iff_toInt_le, Int32.lt_iff_toInt_lt, ← Int32.toInt_inj, nI_toInt, Int32.toInt_zero, m1_toInt, Int64.le_iff_toInt_le, Int64.lt_iff_toInt_lt, ← Int64.toInt_inj, pk_lT, i64_toInt, Int64.toInt_zero, eq_self, not_true_eq_false, not_false_eq_true] at c15 c33 c44 c79 c89 c99 <;> omega) | omega)
                          all_goals
                            skip
                            refine x_bipush (v := nI 78) rfl dX8_tin_107 ?_
                            refine x_iload_n dX8_tin_109 rfl ?_
                            refine x_iadd dX8_tin_110 ?_
                            refine x_iald dX8_tin_111 rfl (by first | rfl | exact nI_add _ _ | (simp only [nI_add, pk_mul]; rfl)) (by omega) (by decide) ?_
                            refine x_iret hr rfl dX8_tin_112 (by omega) (by omega) (hQ _ _ ?_)
                            try dsimp only [mI, mSA] at c15 c33 c44 c79 c89 c99
                            exact ⟨by simp [spTin, hx], by simp [spTin, hx, mI_mI, mSA_id]⟩
                        · try (exfalso; first | (simp (disch := omega) [inS_ix, inS_N, ixL_N, ix_nI, hx] at c99 <;> omega) | (simp (disch := omega) only [h0, h1, h3, Int32.le_iff_toInt_le, Int32.lt_iff_toInt_lt, ← Int32.toInt_inj, nI_toInt, Int32.toInt_zero, m1_toInt, Int64.le_iff_toInt_le, Int64.lt_iff_toInt_lt, ← Int64.toInt_inj, pk_lT, i64_toInt, Int64.toInt_zero, eq_self, not_true_eq_false, not_false_eq_true] at c15 c33 c44 c79 c89 c99 <;> omega) | omega)
                          all_goals
                            skip
                            refine x_bipush (v := nI 69) rfl dX8_tin_102 ?_
                            refine x_goto (tgt := 109) dX8_tin_104 (by decide) ?_
                            refine x_iload_n dX8_tin_109 rfl ?_
                            refine x_iadd dX8_tin_110 ?_
                            refine x_iald dX8_tin_111 rfl (by first | rfl | exact nI_add _ _ | (simp only [nI_add, pk_mul]; rfl)) (by omega) (by decide) ?_
                            refine x_iret hr rfl dX8_tin_112 (by omega) (by omega) (hQ _ _ ?_)
                            try dsimp only [mI, mSA] at c15 c33 c44 c79 c89 c99
                            exact ⟨by simp [spTin, hx], by simp [spTin, hx, mI_mI, mSA_id]⟩
                    · try (exfalso; first | (simp (disch := omega) [inS_ix, inS_N, ixL_N, ix_nI, hx] at c89 <;> omega) | (simp (disch := omega) only [h0, h1, h3, Int32.le_iff_toInt_le, Int32.lt_iff_toInt_lt, ← Int32.toInt_inj, nI_toInt, Int32.toInt_zero, m1_toInt, Int64.le_iff_toInt_le, Int64.lt_iff_toInt_lt, ← Int64.toInt_inj, pk_lT, i64_toInt, Int64.toInt_zero, eq_self, not_true_eq_false, not_false_eq_true] at c15 c33 c44 c79 c89 <;> omega) | omega)
                      all_goals
                        skip
                        refine x_bipush (v := nI 51) rfl dX8_tin_92 ?_
                        refine x_goto (tgt := 109) dX8_tin_94 (by decide) ?_
                        refine x_iload_n dX8_tin_109 rfl ?_
                        refine x_iadd dX8_tin_110 ?_
                        refine x_iald dX8_tin_111 rfl (by first | rfl | exact nI_add _ _ | (simp only [nI_add, pk_mul]; rfl)) (by omega) (by decide) ?_
                        refine x_iret hr rfl dX8_tin_112 (by omega) (by omega) (hQ _ _ ?_)
                        try dsimp only [mI, mSA] at c15 c33 c44 c79 c89
                        exact ⟨by simp [spTin, hx], by simp [spTin, hx, mI_mI, mSA_id]⟩
                · try (exfalso; first | (simp (disch := omega) [inS_ix, inS_N, ixL_N, ix_nI, hx] at c79 <;> omega) | (simp (disch := omega) only [h0, h1, h3, Int32.le_iff_toInt_le, Int32.lt_iff_toInt_lt, ← Int32.toInt_inj, nI_toInt, Int32.toInt_zero, m1_toInt, Int64.le_iff_toInt_le, Int64.lt_iff_toInt_lt, ← Int64.toInt_inj, pk_lT, i64_toInt, Int64.toInt_zero, eq_self, not_true_eq_false, not_false_eq_true] at c15 c33 c44 c79 <;> omega) | omega)
                  all_goals
                    skip
                    refine x_bipush (v := nI 33) rfl dX8_tin_82 ?_
                    refine x_goto (tgt := 109) dX8_tin_84 (by decide) ?_
                    refine x_iload_n dX8_tin_109 rfl ?_
                    refine x_iadd dX8_tin_110 ?_
                    refine x_iald dX8_tin_111 rfl (by first | rfl | exact nI_add _ _ | (simp only [nI_add, pk_mul]; rfl)) (by omega) (by decide) ?_
                    refine x_iret hr rfl dX8_tin_112 (by omega) (by omega) (hQ _ _ ?_)
                    try dsimp only [mI, mSA] at c15 c33 c44 c79
                    exact ⟨by simp [spTin, hx], by simp [spTin, hx, mI_mI, mSA_id]⟩
            · try (exfalso; first | (simp (disch := omega) [inS_ix, inS_N, ixL_N, ix_nI, hx] at c44 <;> omega) | (simp (disch := omega) only [h0, h1, h3, Int32.le_iff_toInt_le, Int32.lt_iff_toInt_lt, ← Int32.toInt_inj, nI_toInt, Int32.toInt_zero, m1_toInt, Int64.le_iff_toInt_le, Int64.lt_iff_toInt_lt, ← Int64.toInt_inj, pk_lT, i64_toInt, Int64.toInt_zero, eq_self, not_true_eq_false, not_false_eq_true] at c15 c33 c44 <;> omega) | omega)
              all_goals
                skip
                refine x_aload_n dX8_tin_47 rfl ?_
                refine x_iload_n dX8_tin_48 rfl ?_
                refine x_callV1 lk_X8_310 (m_isGone (M := (mI (mI M 1 (nI 0)) 0 (nI 0))) hF _ (by omega)) ho dX8_tin_49 rfl (Nat.le_of_ble_eq_true rfl) (by omega) (by decide) (by omega) (by omega) ?_
                refine x_ifb_eq (tgt := 64) dX8_tin_52 (by decide) (fun c52 => ?_) (fun c52 => ?_)
                · try (exfalso; first | (simp (disch := omega) [inS_ix, inS_N, ixL_N, ix_nI, hx] at c52 <;> omega) | (simp (disch := omega) only [h0, h1, h3, Int32.le_iff_toInt_le, Int32.lt_iff_toInt_lt, ← Int32.toInt_inj, nI_toInt, Int32.toInt_zero, m1_toInt, Int64.le_iff_toInt_le, Int64.lt_iff_toInt_lt, ← Int64.toInt_inj, pk_lT, i64_toInt, Int64.toInt_zero, eq_self, not_true_eq_false, not_false_eq_true] at c15 c33 c44 c52 <;> omega) | omega)
                  all_goals
                    skip
                    refine x_aload_n dX8_tin_64 rfl ?_
                    refine x_getf gf_X8_35 ho dX8_tin_65 rfl rfl ?_
                    refine x_bipush (v := nI 42) rfl dX8_tin_68 ?_
                    refine x_iload_n dX8_tin_70 rfl ?_
                    refine x_iadd dX8_tin_71 ?_
                    refine x_iald dX8_tin_72 rfl (by first | rfl | exact nI_add _ _ | (simp only [nI_add, pk_mul]; rfl)) (by omega) (by decide) ?_
                    refine x_iret hr rfl dX8_tin_73 (by omega) (by omega) (hQ _ _ ?_)
                    try dsimp only [mI, mSA] at c15 c33 c44 c52
                    exact ⟨by simp [spTin, hx], by simp [spTin, hx, mI_mI, mSA_id]⟩
                · try (exfalso; first | (simp (disch := omega) [inS_ix, inS_N, ixL_N, ix_nI, hx] at c52 <;> omega) | (simp (disch := omega) only [h0, h1, h3, Int32.le_iff_toInt_le, Int32.lt_iff_toInt_lt, ← Int32.toInt_inj, nI_toInt, Int32.toInt_zero, m1_toInt, Int64.le_iff_toInt_le, Int64.lt_iff_toInt_lt, ← Int64.toInt_inj, pk_lT, i64_toInt, Int64.toInt_zero, eq_self, not_true_eq_false, not_false_eq_true] at c15 c33 c44 c52 <;> omega) | omega)
                  all_goals
                    skip
                    refine x_aload_n dX8_tin_55 rfl ?_
                    refine x_bipush (v := nI 8) rfl dX8_tin_56 ?_
                    refine x_callV1 lk_X8_327 (m_refuse _) ho dX8_tin_58 rfl (Nat.le_of_ble_eq_true rfl) (by omega) (by decide) (by omega) (by omega) ?_
                    refine x_goto (tgt := 73) dX8_tin_61 (by decide) ?_
                    refine x_iret hr rfl dX8_tin_73 (by omega) (by omega) (hQ _ _ ?_)
                    try dsimp only [mI, mSA] at c15 c33 c44 c52
                    exact ⟨by simp [spTin, hx], by simp [spTin, hx, mI_mI, mSA_id]⟩
        · try (exfalso; first | (simp (disch := omega) [inS_ix, inS_N, ixL_N, ix_nI, hx] at c33 <;> omega) | (simp (disch := omega) only [h0, h1, h3, Int32.le_iff_toInt_le, Int32.lt_iff_toInt_lt, ← Int32.toInt_inj, nI_toInt, Int32.toInt_zero, m1_toInt, Int64.le_iff_toInt_le, Int64.lt_iff_toInt_lt, ← Int64.toInt_inj, pk_lT, i64_toInt, Int64.toInt_zero, eq_self, not_true_eq_false, not_false_eq_true] at c15 c33 <;> omega) | omega)
          all_goals
            skip
            refine x_aload_n dX8_tin_36 rfl ?_
            refine x_iconst (v := nI 5) rfl dX8_tin_37 ?_
            refine x_callV1 lk_X8_327 (m_refuse _) ho dX8_tin_38 rfl (Nat.le_of_ble_eq_true rfl) (by omega) (by decide) (by omega) (by omega) ?_
            refine x_iret hr rfl dX8_tin_41 (by omega) (by omega) (hQ _ _ ?_)
            try dsimp only [mI, mSA] at c15 c33
            exact ⟨by simp [spTin, hx], by simp [spTin, hx, mI_mI, mSA_id]⟩
    · try (exfalso; first | (simp (disch := omega) [inS_ix, inS_N, ixL_N, ix_nI, hx] at c15 <;> omega) | (simp (disch := omega) only [h0, h1, h3, Int32.le_iff_toInt_le, Int32.lt_iff_toInt_lt, ← Int32.toInt_inj, nI_toInt, Int32.toInt_zero, m1_toInt, Int64.le_iff_toInt_le, Int64.lt_iff_toInt_lt, ← Int64.toInt_inj, pk_lT, i64_toInt, Int64.toInt_zero, eq_self, not_true_eq_false, not_false_eq_true] at c15 <;> omega) | omega)
      all_goals
        skip
        refine x_aload_n dX8_tin_18 rfl ?_
        refine x_iconst (v := nI 2) rfl dX8_tin_19 ?_
        refine x_callV1 lk_X8_327 (m_refuse _) ho dX8_tin_20 rfl (Nat.le_of_ble_eq_true rfl) (by omega) (by decide) (by omega) (by omega) ?_
        refine x_iret hr rfl dX8_tin_23 (by omega) (by omega) (hQ _ _ ?_)
        try dsimp only [mI, mSA] at c15
        exact ⟨by simp [spTin, hx], by simp [spTin, hx, mI_mI, mSA_id]⟩
  · skip
    refine CT.of (ini := false) (by decide +kernel) q1950 q164 (Nat.le_of_ble_eq_true rfl) (by decide) ?_
    intro Γ hw ho hL hr hh hini hal hd hmc hms hQ
    subst hw
    show AW Γ cX8_tin 0 0 0 [some (.ref 32), some (.int (nI t)), some (.int w9)] [] (hM M R)
    have h0 := hF.c0
    have h1 := hF.c1
    have h3 := hF.c3
    have l0 := hF.l0
    have l1 := hF.l1
    have l3 := hF.l3
    refine x_aload_n dX8_tin_0 rfl ?_
    refine x_iconst (v := nI 0) rfl dX8_tin_1 ?_
    refine m_puti (k := 1) (pf_X8_70 (ini := false)) ho hini dX8_tin_2 rfl rfl (by decide) (ms_1 _ _) ?_
    refine x_aload_n dX8_tin_5 rfl ?_
    refine x_iconst (v := nI 0) rfl dX8_tin_6 ?_
    refine m_puti (k := 0) (pf_X8_73 (ini := false)) ho hini dX8_tin_7 rfl rfl (by decide) (ms_0 _ _) ?_
    refine x_aload_n dX8_tin_10 rfl ?_
    refine x_iload_n dX8_tin_11 rfl ?_
    refine x_callV1 lk_X8_344 (m_isTinAt (M := (mI (mI M 1 (nI 0)) 0 (nI 0))) hF _) ho dX8_tin_12 rfl (Nat.le_of_ble_eq_true rfl) (by omega) (by decide) (by omega) (by omega) ?_
    refine x_ifb_ne (tgt := 24) dX8_tin_15 (by decide) (fun c15 => ?_) (fun c15 => ?_)
    · try (exfalso; first | (simp (disch := omega) [inS_ix, inS_N, ixL_N, ix_nI, hx, hy] at c15 <;> omega) | (simp (disch := omega) only [h0, h1, h3, Int32.le_iff_toInt_le, Int32.lt_iff_toInt_lt, ← Int32.toInt_inj, nI_toInt, Int32.toInt_zero, m1_toInt, Int64.le_iff_toInt_le, Int64.lt_iff_toInt_lt, ← Int64.toInt_inj, pk_lT, i64_toInt, Int64.toInt_zero, eq_self, not_true_eq_false, not_false_eq_true] at c15 <;> omega) | omega)
      all_goals
        skip
        refine x_iload_n dX8_tin_24 rfl ?_
        refine x_i2l dX8_tin_25 ?_
        refine x_lconst (v := lN 0) rfl dX8_tin_26 ?_
        refine x_ldc2 (v := lN 4) ho q1942 dX8_tin_27 ?_
        refine x_callS3 lk_X8_105 (m_isIn _ _ _) ho dX8_tin_30 (Nat.le_of_ble_eq_true rfl) (by omega) (by decide) (by omega) (by omega) ?_
        refine x_ifb_ne (tgt := 42) dX8_tin_33 (by decide) (fun c33 => ?_) (fun c33 => ?_)
        · try (exfalso; first | (simp (disch := omega) [inS_ix, inS_N, ixL_N, ix_nI, hx, hy] at c33 <;> omega) | (simp (disch := omega) only [h0, h1, h3, Int32.le_iff_toInt_le, Int32.lt_iff_toInt_lt, ← Int32.toInt_inj, nI_toInt, Int32.toInt_zero, m1_toInt, Int64.le_iff_toInt_le, Int64.lt_iff_toInt_lt, ← Int64.toInt_inj, pk_lT, i64_toInt, Int64.toInt_zero, eq_self, not_true_eq_false, not_false_eq_true] at c15 c33 <;> omega) | omega)
          all_goals
            skip
            refine x_iload_n dX8_tin_42 rfl ?_
            refine x_iconst (v := nI 1) rfl dX8_tin_43 ?_
            refine x_icmp_ne (tgt := 74) dX8_tin_44 (by decide) (fun c44 => ?_) (fun c44 => ?_)
            · try (exfalso; first | (simp (disch := omega) [inS_ix, inS_N, ixL_N, ix_nI, hx, hy] at c44 <;> omega) | (simp (disch := omega) only [h0, h1, h3, Int32.le_iff_toInt_le, Int32.lt_iff_toInt_lt, ← Int32.toInt_inj, nI_toInt, Int32.toInt_zero, m1_toInt, Int64.le_iff_toInt_le, Int64.lt_iff_toInt_lt, ← Int64.toInt_inj, pk_lT, i64_toInt, Int64.toInt_zero, eq_self, not_true_eq_false, not_false_eq_true] at c15 c33 c44 <;> omega) | omega)
              all_goals
                skip
                refine x_aload_n dX8_tin_74 rfl ?_
                refine x_getf gf_X8_35 ho dX8_tin_75 rfl rfl ?_
                refine x_iload_n dX8_tin_78 rfl ?_
                refine x_if_ne (tgt := 87) dX8_tin_79 (by decide) (fun c79 => ?_) (fun c79 => ?_)
                · try (exfalso; first | (simp (disch := omega) [inS_ix, inS_N, ixL_N, ix_nI, hx, hy] at c79 <;> omega) | (simp (disch := omega) only [h0, h1, h3, Int32.le_iff_toInt_le, Int32.lt_iff_toInt_lt, ← Int32.toInt_inj, nI_toInt, Int32.toInt_zero, m1_toInt, Int64.le_iff_toInt_le, Int64.lt_iff_toInt_lt, ← Int64.toInt_inj, pk_lT, i64_toInt, Int64.toInt_zero, eq_self, not_true_eq_false, not_false_eq_true] at c15 c33 c44 c79 <;> omega) | omega)
                  all_goals
                    skip
                    refine x_iload_n dX8_tin_87 rfl ?_
                    refine x_iconst (v := nI 2) rfl dX8_tin_88 ?_
                    refine x_icmp_ne (tgt := 97) dX8_tin_89 (by decide) (fun c89 => ?_) (fun c89 => ?_)
                    · try (exfalso; first | (simp (disch := omega) [inS_ix, inS_N, ixL_N, ix_nI, hx, hy] at c89 <;> omega) | (simp (disch := omega) only [h0, h1, h3, Int32.le_iff_toInt_le, Int32.lt_iff_toInt_lt, ← Int32.toInt_inj, nI_toInt, Int32.toInt_zero, m1_toInt, Int64.le_iff_toInt_le, Int64.lt_iff_toInt_lt, ← Int64.toInt_inj, pk_lT, i64_toInt, Int64.toInt_zero, eq_self, not_true_eq_false, not_false_eq_true] at c15 c33 c44 c79 c89 <;> omega) | omega)
                      all_goals
                        skip
                        refine x_iload_n dX8_tin_97 rfl ?_
                        refine x_iconst (v := nI 3) rfl dX8_tin_98 ?_
                        refine x_icmp_ne (tgt := 107) dX8_tin_99 (by decide) (fun c99 => ?_) (fun c99 => ?_)
                        · try (exfalso; first | (simp (disch := omega) [inS_ix, inS_N, ixL_N, ix_nI, hx, hy] at c99 <;> omega) | (simp (disch := omega) only [h0, h1, h3, Int32.le_iff_toInt_le, Int32.lt_iff_toInt_lt, ← Int32.toInt_inj, nI_toInt, Int32.toInt_zero, m1_toInt, Int64.le_iff_toInt_le, Int64.lt_iff_toInt_lt, ← Int64.toInt_inj, pk_lT, i64_toInt, Int64.toInt_zero, eq_self, not_true_eq_false, not_false_eq_true] at c15 c33 c44 c79 c89 c99 <;> omega) | omega)
                          all_goals
                            skip
                            refine x_bipush (v := nI 78) rfl dX8_tin_107 ?_
                            refine x_iload_n dX8_tin_109 rfl ?_
                            refine x_iaddN dX8_tin_110 ?_
                            refine x_iald dX8_tin_111 rfl (by first | rfl | exact nI_add _ _ | (simp only [nI_add, pk_mul]; rfl)) (by omega) (by decide) ?_
                            refine x_iret hr rfl dX8_tin_112 (by omega) (by omega) (hQ _ _ ?_)
                            try dsimp only [mI, mSA] at c15 c33 c44 c79 c89 c99
                            exact ⟨by simp [spTin, hx, hy], by simp [spTin, hx, hy, mI_mI, mSA_id]⟩
                        · try (exfalso; first | (simp (disch := omega) [inS_ix, inS_N, ixL_N, ix_nI, hx, hy] at c99 <;> omega) | (simp (disch := omega) only [h0, h1, h3, Int32.le_iff_toInt_le, Int32.lt_iff_toInt_lt, ← Int32.toInt_inj, nI_toInt, Int32.toInt_zero, m1_toInt, Int64.le_iff_toInt_le, Int64.lt_iff_toInt_lt, ← Int64.toInt_inj, pk_lT, i64_toInt, Int64.toInt_zero, eq_self, not_true_eq_false, not_false_eq_true] at c15 c33 c44 c79 c89 c99 <;> omega) | omega)
                          all_goals
                            skip
                            refine x_bipush (v := nI 69) rfl dX8_tin_102 ?_
                            refine x_goto (tgt := 109) dX8_tin_104 (by decide) ?_
                            refine x_iload_n dX8_tin_109 rfl ?_
                            refine x_iaddN dX8_tin_110 ?_
                            refine x_iald dX8_tin_111 rfl (by first | rfl | exact nI_add _ _ | (simp only [nI_add, pk_mul]; rfl)) (by omega) (by decide) ?_
                            refine x_iret hr rfl dX8_tin_112 (by omega) (by omega) (hQ _ _ ?_)
                            try dsimp only [mI, mSA] at c15 c33 c44 c79 c89 c99
                            exact ⟨by simp [spTin, hx, hy], by simp [spTin, hx, hy, mI_mI, mSA_id]⟩
                    · try (exfalso; first | (simp (disch := omega) [inS_ix, inS_N, ixL_N, ix_nI, hx, hy] at c89 <;> omega) | (simp (disch := omega) only [h0, h1, h3, Int32.le_iff_toInt_le, Int32.lt_iff_toInt_lt, ← Int32.toInt_inj, nI_toInt, Int32.toInt_zero, m1_toInt, Int64.le_iff_toInt_le, Int64.lt_iff_toInt_lt, ← Int64.toInt_inj, pk_lT, i64_toInt, Int64.toInt_zero, eq_self, not_true_eq_false, not_false_eq_true] at c15 c33 c44 c79 c89 <;> omega) | omega)
                      all_goals
                        skip
                        refine x_bipush (v := nI 51) rfl dX8_tin_92 ?_
                        refine x_goto (tgt := 109) dX8_tin_94 (by decide) ?_
                        refine x_iload_n dX8_tin_109 rfl ?_
                        refine x_iaddN dX8_tin_110 ?_
                        refine x_iald dX8_tin_111 rfl (by first | rfl | exact nI_add _ _ | (simp only [nI_add, pk_mul]; rfl)) (by omega) (by decide) ?_
                        refine x_iret hr rfl dX8_tin_112 (by omega) (by omega) (hQ _ _ ?_)
                        try dsimp only [mI, mSA] at c15 c33 c44 c79 c89
                        exact ⟨by simp [spTin, hx, hy], by simp [spTin, hx, hy, mI_mI, mSA_id]⟩
                · try (exfalso; first | (simp (disch := omega) [inS_ix, inS_N, ixL_N, ix_nI, hx, hy] at c79 <;> omega) | (simp (disch := omega) only [h0, h1, h3, Int32.le_iff_toInt_le, Int32.lt_iff_toInt_lt, ← Int32.toInt_inj, nI_toInt, Int32.toInt_zero, m1_toInt, Int64.le_iff_toInt_le, Int64.lt_iff_toInt_lt, ← Int64.toInt_inj, pk_lT, i64_toInt, Int64.toInt_zero, eq_self, not_true_eq_false, not_false_eq_true] at c15 c33 c44 c79 <;> omega) | omega)
                  all_goals
                    skip
                    refine x_bipush (v := nI 33) rfl dX8_tin_82 ?_
                    refine x_goto (tgt := 109) dX8_tin_84 (by decide) ?_
                    refine x_iload_n dX8_tin_109 rfl ?_
                    refine x_iaddN dX8_tin_110 ?_
                    refine x_iald dX8_tin_111 rfl (by first | rfl | exact nI_add _ _ | (simp only [nI_add, pk_mul]; rfl)) (by omega) (by decide) ?_
                    refine x_iret hr rfl dX8_tin_112 (by omega) (by omega) (hQ _ _ ?_)
                    try dsimp only [mI, mSA] at c15 c33 c44 c79
                    exact ⟨by simp [spTin, hx, hy], by simp [spTin, hx, hy, mI_mI, mSA_id]⟩
            · try (exfalso; first | (simp (disch := omega) [inS_ix, inS_N, ixL_N, ix_nI, hx, hy] at c44 <;> omega) | (simp (disch := omega) only [h0, h1, h3, Int32.le_iff_toInt_le, Int32.lt_iff_toInt_lt, ← Int32.toInt_inj, nI_toInt, Int32.toInt_zero, m1_toInt, Int64.le_iff_toInt_le, Int64.lt_iff_toInt_lt, ← Int64.toInt_inj, pk_lT, i64_toInt, Int64.toInt_zero, eq_self, not_true_eq_false, not_false_eq_true] at c15 c33 c44 <;> omega) | omega)
              all_goals
                skip
                refine x_aload_n dX8_tin_47 rfl ?_
                refine x_iload_n dX8_tin_48 rfl ?_
                refine x_callV1 lk_X8_310 (m_isGone (M := (mI (mI M 1 (nI 0)) 0 (nI 0))) hF _ (by omega)) ho dX8_tin_49 rfl (Nat.le_of_ble_eq_true rfl) (by omega) (by decide) (by omega) (by omega) ?_
                refine x_ifb_eq (tgt := 64) dX8_tin_52 (by decide) (fun c52 => ?_) (fun c52 => ?_)
                · try (exfalso; first | (simp (disch := omega) [inS_ix, inS_N, ixL_N, ix_nI, hx, hy] at c52 <;> omega) | (simp (disch := omega) only [h0, h1, h3, Int32.le_iff_toInt_le, Int32.lt_iff_toInt_lt, ← Int32.toInt_inj, nI_toInt, Int32.toInt_zero, m1_toInt, Int64.le_iff_toInt_le, Int64.lt_iff_toInt_lt, ← Int64.toInt_inj, pk_lT, i64_toInt, Int64.toInt_zero, eq_self, not_true_eq_false, not_false_eq_true] at c15 c33 c44 c52 <;> omega) | omega)
                  all_goals
                    skip
                    refine x_aload_n dX8_tin_64 rfl ?_
                    refine x_getf gf_X8_35 ho dX8_tin_65 rfl rfl ?_
                    refine x_bipush (v := nI 42) rfl dX8_tin_68 ?_
                    refine x_iload_n dX8_tin_70 rfl ?_
                    refine x_iaddN dX8_tin_71 ?_
                    refine x_iald dX8_tin_72 rfl (by first | rfl | exact nI_add _ _ | (simp only [nI_add, pk_mul]; rfl)) (by omega) (by decide) ?_
                    refine x_iret hr rfl dX8_tin_73 (by omega) (by omega) (hQ _ _ ?_)
                    try dsimp only [mI, mSA] at c15 c33 c44 c52
                    exact ⟨by simp [spTin, hx, hy, c52], by simp [spTin, hx, hy, c52, mI_mI, mSA_id]⟩
                · try (exfalso; first | (simp (disch := omega) [inS_ix, inS_N, ixL_N, ix_nI, hx, hy] at c52 <;> omega) | (simp (disch := omega) only [h0, h1, h3, Int32.le_iff_toInt_le, Int32.lt_iff_toInt_lt, ← Int32.toInt_inj, nI_toInt, Int32.toInt_zero, m1_toInt, Int64.le_iff_toInt_le, Int64.lt_iff_toInt_lt, ← Int64.toInt_inj, pk_lT, i64_toInt, Int64.toInt_zero, eq_self, not_true_eq_false, not_false_eq_true] at c15 c33 c44 c52 <;> omega) | omega)
                  all_goals
                    skip
                    refine x_aload_n dX8_tin_55 rfl ?_
                    refine x_bipush (v := nI 8) rfl dX8_tin_56 ?_
                    refine x_callV1 lk_X8_327 (m_refuse _) ho dX8_tin_58 rfl (Nat.le_of_ble_eq_true rfl) (by omega) (by decide) (by omega) (by omega) ?_
                    refine x_goto (tgt := 73) dX8_tin_61 (by decide) ?_
                    refine x_iret hr rfl dX8_tin_73 (by omega) (by omega) (hQ _ _ ?_)
                    try dsimp only [mI, mSA] at c15 c33 c44 c52
                    exact ⟨by simp [spTin, hx, hy, c52], by simp [spTin, hx, hy, c52, mI_mI, mSA_id]⟩
        · try (exfalso; first | (simp (disch := omega) [inS_ix, inS_N, ixL_N, ix_nI, hx, hy] at c33 <;> omega) | (simp (disch := omega) only [h0, h1, h3, Int32.le_iff_toInt_le, Int32.lt_iff_toInt_lt, ← Int32.toInt_inj, nI_toInt, Int32.toInt_zero, m1_toInt, Int64.le_iff_toInt_le, Int64.lt_iff_toInt_lt, ← Int64.toInt_inj, pk_lT, i64_toInt, Int64.toInt_zero, eq_self, not_true_eq_false, not_false_eq_true] at c15 c33 <;> omega) | omega)
          all_goals
            skip
            refine x_aload_n dX8_tin_36 rfl ?_
            refine x_iconst (v := nI 5) rfl dX8_tin_37 ?_
            refine x_callV1 lk_X8_327 (m_refuse _) ho dX8_tin_38 rfl (Nat.le_of_ble_eq_true rfl) (by omega) (by decide) (by omega) (by omega) ?_
            refine x_iret hr rfl dX8_tin_41 (by omega) (by omega) (hQ _ _ ?_)
            try dsimp only [mI, mSA] at c15 c33
            exact ⟨by simp [spTin, hx, hy], by simp [spTin, hx, hy, mI_mI, mSA_id]⟩
    · try (exfalso; first | (simp (disch := omega) [inS_ix, inS_N, ixL_N, ix_nI, hx, hy] at c15 <;> omega) | (simp (disch := omega) only [h0, h1, h3, Int32.le_iff_toInt_le, Int32.lt_iff_toInt_lt, ← Int32.toInt_inj, nI_toInt, Int32.toInt_zero, m1_toInt, Int64.le_iff_toInt_le, Int64.lt_iff_toInt_lt, ← Int64.toInt_inj, pk_lT, i64_toInt, Int64.toInt_zero, eq_self, not_true_eq_false, not_false_eq_true] at c15 <;> omega) | omega)
      all_goals
        skip
        refine x_aload_n dX8_tin_18 rfl ?_
        refine x_iconst (v := nI 2) rfl dX8_tin_19 ?_
        refine x_callV1 lk_X8_327 (m_refuse _) ho dX8_tin_20 rfl (Nat.le_of_ble_eq_true rfl) (by omega) (by decide) (by omega) (by omega) ?_
        refine x_iret hr rfl dX8_tin_23 (by omega) (by omega) (hQ _ _ ?_)
        try dsimp only [mI, mSA] at c15
        exact ⟨by simp [spTin, hx, hy], by simp [spTin, hx, hy, mI_mI, mSA_id]⟩
set_option maxHeartbeats 4000000 in
theorem m_passes {w : xW} {M : mS} {R : xH} {tm pm tn G : Nat} (hF : wF (M.2.2.1 5) tm pm tn G) (t q : Nat) (ht : t < tn) (hq : q < pm) : CT w yX8_passes cX8_passes 4 (some (.boolean)) [] false (3) 0 0 [.ref 32, .int (nI t), .int (nI q)] (hM M R) (xret (some (.int (xb (paB (M.2.2.1 5) pm t q)))) (hM (mSA M 5 (paC (M.2.2.1 5) pm t q)) R)) := by
  rcases hF.on ht with e | ⟨p, hp, e⟩
  · skip
    refine CT.of (ini := false) (by decide +kernel) q1972 q164 (Nat.le_of_ble_eq_true rfl) (by decide) ?_
    intro Γ hw ho hL hr hh hini hal hd hmc hms hQ
    subst hw
    show AW Γ cX8_passes 0 0 0 [some (.ref 32), some (.int (nI t)), some (.int (nI q)), none] [] (hM M R)
    have h0 := hF.c0
    have h1 := hF.c1
    have h3 := hF.c3
    have l0 := hF.l0
    have l1 := hF.l1
    have l3 := hF.l3
    refine x_aload_n dX8_passes_0 rfl ?_
    refine x_getf gf_X8_35 ho dX8_passes_1 rfl rfl ?_
    refine x_bipush (v := nI 42) rfl dX8_passes_4 ?_
    refine x_iload_n dX8_passes_6 rfl ?_
    refine x_iaddN dX8_passes_7 ?_
    refine x_iald dX8_passes_8 rfl (by first | rfl | exact nI_add _ _ | (simp only [nI_add, pk_mul]; rfl)) (by omega) (by decide) ?_
    refine x_ival e ?_
    refine x_ist3 hL (by decide) rfl dX8_passes_9 ?_
    refine x_iload_n dX8_passes_10 rfl ?_
    refine x_if_lt (tgt := 27) dX8_passes_11 (by decide) (fun c11 => ?_) (fun c11 => ?_)
    · try (exfalso; first | (simp (disch := omega) [inS_ix, inS_N, ixL_N, ix_nI, e] at c11 <;> omega) | (simp (disch := omega) only [h0, h1, h3, Int32.le_iff_toInt_le, Int32.lt_iff_toInt_lt, ← Int32.toInt_inj, nI_toInt, Int32.toInt_zero, m1_toInt, Int64.le_iff_toInt_le, Int64.lt_iff_toInt_lt, ← Int64.toInt_inj, pk_lT, i64_toInt, Int64.toInt_zero, eq_self, not_true_eq_false, not_false_eq_true] at c11 <;> omega) | omega)
      all_goals
        skip
        refine x_iconst (v := nI 0) rfl dX8_passes_27 ?_
        refine x_iret hr rfl dX8_passes_28 (by omega) (by omega) (hQ _ _ ?_)
        try dsimp only [mI, mSA] at c11
        exact ⟨by rw [paB_1 e]; rfl, by rw [paC, paB_1 e, if_neg (by decide), mSA_id]⟩
    · exact absurd m1_lt0 (by simpa using c11)
  · skip
    refine CT.of (ini := false) (by decide +kernel) q1972 q164 (Nat.le_of_ble_eq_true rfl) (by decide) ?_
    intro Γ hw ho hL hr hh hini hal hd hmc hms hQ
    subst hw
    show AW Γ cX8_passes 0 0 0 [some (.ref 32), some (.int (nI t)), some (.int (nI q)), none] [] (hM M R)
    have h0 := hF.c0
    have h1 := hF.c1
    have h3 := hF.c3
    have l0 := hF.l0
    have l1 := hF.l1
    have l3 := hF.l3
    refine x_aload_n dX8_passes_0 rfl ?_
    refine x_getf gf_X8_35 ho dX8_passes_1 rfl rfl ?_
    refine x_bipush (v := nI 42) rfl dX8_passes_4 ?_
    refine x_iload_n dX8_passes_6 rfl ?_
    refine x_iaddN dX8_passes_7 ?_
    refine x_iald dX8_passes_8 rfl (by first | rfl | exact nI_add _ _ | (simp only [nI_add, pk_mul]; rfl)) (by omega) (by decide) ?_
    refine x_ival e ?_
    refine x_ist3 hL (by decide) rfl dX8_passes_9 ?_
    refine x_iload_n dX8_passes_10 rfl ?_
    refine x_if_lt (tgt := 27) dX8_passes_11 (by decide) (fun c11 => ?_) (fun c11 => ?_)
    · try (exfalso; first | (simp (disch := omega) [inS_ix, inS_N, ixL_N, ix_nI, e] at c11 <;> omega) | (simp (disch := omega) only [h0, h1, h3, Int32.le_iff_toInt_le, Int32.lt_iff_toInt_lt, ← Int32.toInt_inj, nI_toInt, Int32.toInt_zero, m1_toInt, Int64.le_iff_toInt_le, Int64.lt_iff_toInt_lt, ← Int64.toInt_inj, pk_lT, i64_toInt, Int64.toInt_zero, eq_self, not_true_eq_false, not_false_eq_true] at c11 <;> omega) | omega)
      all_goals
        skip
        refine x_iconst (v := nI 0) rfl dX8_passes_27 ?_
        refine x_iret hr rfl dX8_passes_28 (by omega) (by omega) (hQ _ _ ?_)
        try dsimp only [mI, mSA] at c11
        exact ⟨by rw [paB_0 e (by omega), c24]; rfl, by rw [paC, paB_0 e (by omega), c24]; simp (disch := omega) [pasC, e, cl_nI, mA_5, mSA_mSA, mSA_id, upA_s, mI_mI, upd_n]⟩
    · try (exfalso; first | (simp (disch := omega) [inS_ix, inS_N, ixL_N, ix_nI, e] at c11 <;> omega) | (simp (disch := omega) only [h0, h1, h3, Int32.le_iff_toInt_le, Int32.lt_iff_toInt_lt, ← Int32.toInt_inj, nI_toInt, Int32.toInt_zero, m1_toInt, Int64.le_iff_toInt_le, Int64.lt_iff_toInt_lt, ← Int64.toInt_inj, pk_lT, i64_toInt, Int64.toInt_zero, eq_self, not_true_eq_false, not_false_eq_true] at c11 <;> omega) | omega)
      all_goals
        skip
        refine x_aload_n dX8_passes_14 rfl ?_
        refine x_iload_n dX8_passes_15 rfl ?_
        refine x_iload_n dX8_passes_16 rfl ?_
        refine x_callV2 lk_X8_357 (m_nextOf hF _ _ (by omega) (by omega)) ho dX8_passes_17 rfl (Nat.le_of_ble_eq_true rfl) (by omega) (by decide) (by omega) (by omega) ?_
        refine x_iload_n dX8_passes_20 rfl ?_
        refine x_callS2 lk_X8_109 (m_has _ _) ho dX8_passes_21 (Nat.le_of_ble_eq_true rfl) (by omega) (by decide) (by omega) (by omega) ?_
        refine x_ifb_ne (tgt := 29) dX8_passes_24 (by decide) (fun c24 => ?_) (fun c24 => ?_)
        · try (exfalso; first | (simp (disch := omega) [inS_ix, inS_N, ixL_N, ix_nI, e] at c24 <;> omega) | (simp (disch := omega) only [h0, h1, h3, Int32.le_iff_toInt_le, Int32.lt_iff_toInt_lt, ← Int32.toInt_inj, nI_toInt, Int32.toInt_zero, m1_toInt, Int64.le_iff_toInt_le, Int64.lt_iff_toInt_lt, ← Int64.toInt_inj, pk_lT, i64_toInt, Int64.toInt_zero, eq_self, not_true_eq_false, not_false_eq_true] at c11 c24 <;> omega) | omega)
          all_goals
            skip
            refine x_aload_n dX8_passes_29 rfl ?_
            refine x_getf gf_X8_35 ho dX8_passes_30 rfl rfl ?_
            refine x_bipush (v := nI 26) rfl dX8_passes_33 ?_
            refine x_iload_n dX8_passes_35 rfl ?_
            refine x_iaddN dX8_passes_36 ?_
            refine x_dup2 rfl rfl dX8_passes_37 ?_
            refine x_iald dX8_passes_38 rfl (by first | rfl | exact nI_add _ _ | (simp only [nI_add, pk_mul]; rfl)) (by omega) (by decide) ?_
            refine x_aload_n dX8_passes_39 rfl ?_
            refine x_iload_n dX8_passes_40 rfl ?_
            refine x_callV1 lk_X8_313 (m_worthOf hF _ (by omega)) ho dX8_passes_41 rfl (Nat.le_of_ble_eq_true rfl) (by omega) (by decide) (by omega) (by omega) ?_
            refine x_iadd dX8_passes_44 ?_
            refine m_iast (r := 5) dX8_passes_45 (by decide) (by decide) (fun _ => rfl) (by first | rfl | exact nI_add _ _ | (simp only [nI_add, pk_mul]; rfl)) (by omega) (by decide) ?_
            refine x_aload_n dX8_passes_46 rfl ?_
            refine x_getf gf_X8_35 ho dX8_passes_47 rfl rfl ?_
            refine x_bipush (v := nI 42) rfl dX8_passes_50 ?_
            refine x_iload_n dX8_passes_52 rfl ?_
            refine x_iaddN dX8_passes_53 ?_
            refine x_iload_n dX8_passes_54 rfl ?_
            refine m_iast (r := 5) dX8_passes_55 (by decide) (by decide) (fun _ => rfl) (by first | rfl | exact nI_add _ _ | (simp only [nI_add, pk_mul]; rfl)) (by omega) (by decide) ?_
            refine x_aload_n dX8_passes_56 rfl ?_
            refine x_getf gf_X8_35 ho dX8_passes_57 rfl rfl ?_
            refine x_bipush (v := nI 69) rfl dX8_passes_60 ?_
            refine x_iload_n dX8_passes_62 rfl ?_
            refine x_iaddN dX8_passes_63 ?_
            refine x_dup2 rfl rfl dX8_passes_64 ?_
            refine x_iald dX8_passes_65 rfl (by first | rfl | exact nI_add _ _ | (simp only [nI_add, pk_mul]; rfl)) (by omega) (by decide) ?_
            refine x_iconst (v := nI 1) rfl dX8_passes_66 ?_
            refine x_iload_n dX8_passes_67 rfl ?_
            refine x_ishl dX8_passes_68 ?_
            refine x_ior dX8_passes_69 ?_
            refine m_iast (r := 5) dX8_passes_70 (by decide) (by decide) (fun _ => rfl) (by first | rfl | exact nI_add _ _ | (simp only [nI_add, pk_mul]; rfl)) (by omega) (by decide) ?_
            refine x_aload_n dX8_passes_71 rfl ?_
            refine x_getf gf_X8_35 ho dX8_passes_72 rfl rfl ?_
            refine x_bipush (v := nI 78) rfl dX8_passes_75 ?_
            refine x_iload_n dX8_passes_77 rfl ?_
            refine x_iaddN dX8_passes_78 ?_
            refine x_dup2 rfl rfl dX8_passes_79 ?_
            refine x_iald dX8_passes_80 rfl (by first | rfl | exact nI_add _ _ | (simp only [nI_add, pk_mul]; rfl)) (by omega) (by decide) ?_
            refine x_iconst (v := nI 1) rfl dX8_passes_81 ?_
            refine x_iadd dX8_passes_82 ?_
            refine m_iast (r := 5) dX8_passes_83 (by decide) (by decide) (fun _ => rfl) (by first | rfl | exact nI_add _ _ | (simp only [nI_add, pk_mul]; rfl)) (by omega) (by decide) ?_
            refine x_aload_n dX8_passes_84 rfl ?_
            refine x_getf gf_X8_35 ho dX8_passes_85 rfl rfl ?_
            refine x_iconst (v := nI 5) rfl dX8_passes_88 ?_
            refine x_dup2 rfl rfl dX8_passes_89 ?_
            refine x_iald dX8_passes_90 rfl (by first | rfl | exact nI_add _ _ | (simp only [nI_add, pk_mul]; rfl)) (by omega) (by decide) ?_
            refine x_iconst (v := nI 1) rfl dX8_passes_91 ?_
            refine x_iadd dX8_passes_92 ?_
            refine m_iast (r := 5) dX8_passes_93 (by decide) (by decide) (fun _ => rfl) (by first | rfl | exact nI_add _ _ | (simp only [nI_add, pk_mul]; rfl)) (by omega) (by decide) ?_
            refine x_iconst (v := nI 1) rfl dX8_passes_94 ?_
            refine x_iret hr rfl dX8_passes_95 (by omega) (by omega) (hQ _ _ ?_)
            try dsimp only [mI, mSA] at c11 c24
            exact ⟨by rw [paB_0 e (by omega), c24]; rfl, by rw [paC, paB_0 e (by omega), c24]; simp (disch := omega) [pasC, e, cl_nI, mA_5, mSA_mSA, mSA_id, upA_s, mI_mI, upd_n]⟩
        · try (exfalso; first | (simp (disch := omega) [inS_ix, inS_N, ixL_N, ix_nI, e] at c24 <;> omega) | (simp (disch := omega) only [h0, h1, h3, Int32.le_iff_toInt_le, Int32.lt_iff_toInt_lt, ← Int32.toInt_inj, nI_toInt, Int32.toInt_zero, m1_toInt, Int64.le_iff_toInt_le, Int64.lt_iff_toInt_lt, ← Int64.toInt_inj, pk_lT, i64_toInt, Int64.toInt_zero, eq_self, not_true_eq_false, not_false_eq_true] at c11 c24 <;> omega) | omega)
          all_goals
            skip
            refine x_iconst (v := nI 0) rfl dX8_passes_27 ?_
            refine x_iret hr rfl dX8_passes_28 (by omega) (by omega) (hQ _ _ ?_)
            try dsimp only [mI, mSA] at c11 c24
            exact ⟨by rw [paB_0 e (by omega), c24]; rfl, by rw [paC, paB_0 e (by omega), c24]; simp (disch := omega) [pasC, e, cl_nI, mA_5, mSA_mSA, mSA_id, upA_s, mI_mI, upd_n]⟩
set_option maxHeartbeats 4000000 in
theorem m_pass {w : xW} {M : mS} {R : xH} {tm pm tn G : Nat} (hF : wF (M.2.2.1 5) tm pm tn G) (t9 q9 : Int32) : CT w yX8_pass cX8_pass 4 (some (.int)) [] false (4) 0 0 [.ref 32, .int t9, .int q9] (hM M R) (xret (some (.int (spPass (M.2.2.1 5) pm tn t9 q9).1)) (hM (mSA (mI (mI M 1 (nI 0)) 0 (nI (spPass (M.2.2.1 5) pm tn t9 q9).2.1)) 5 (spPass (M.2.2.1 5) pm tn t9 q9).2.2) R)) := by
  have l0 := hF.l0
  have l1 := hF.l1
  have l3 := hF.l3
  rcases ix_or t9 (n := tn) (by omega) with ⟨hx, hx2⟩ | ⟨t, ht, rfl, hx⟩
  rotate_left 1
  rcases ix_or q9 (n := pm) (by omega) with ⟨hy, hy2⟩ | ⟨j, hj, rfl, hy⟩
  rotate_left 1
  rcases hF.on ht with e | ⟨p, hp, e⟩
  · skip
    refine CT.of (ini := false) (by decide +kernel) q1968 q164 (Nat.le_of_ble_eq_true rfl) (by decide) ?_
    intro Γ hw ho hL hr hh hini hal hd hmc hms hQ
    subst hw
    show AW Γ cX8_pass 0 0 0 [some (.ref 32), some (.int (nI t)), some (.int (nI j)), none] [] (hM M R)
    have h0 := hF.c0
    have h1 := hF.c1
    have h3 := hF.c3
    have l0 := hF.l0
    have l1 := hF.l1
    have l3 := hF.l3
    refine x_aload_n dX8_pass_0 rfl ?_
    refine x_iconst (v := nI 0) rfl dX8_pass_1 ?_
    refine m_puti (k := 1) (pf_X8_70 (ini := false)) ho hini dX8_pass_2 rfl rfl (by decide) (ms_1 _ _) ?_
    refine x_aload_n dX8_pass_5 rfl ?_
    refine x_iconst (v := nI 0) rfl dX8_pass_6 ?_
    refine m_puti (k := 0) (pf_X8_73 (ini := false)) ho hini dX8_pass_7 rfl rfl (by decide) (ms_0 _ _) ?_
    refine x_aload_n dX8_pass_10 rfl ?_
    refine x_iload_n dX8_pass_11 rfl ?_
    refine x_callV1 lk_X8_344 (m_isTinAt (M := (mI (mI M 1 (nI 0)) 0 (nI 0))) hF _) ho dX8_pass_12 rfl (Nat.le_of_ble_eq_true rfl) (by omega) (by decide) (by omega) (by omega) ?_
    refine x_ifb_eq (tgt := 27) dX8_pass_15 (by decide) (fun c15 => ?_) (fun c15 => ?_)
    · try (exfalso; first | (simp (disch := omega) [inS_ix, inS_N, ixL_N, ix_nI, hx, hy, e, paB_1] at c15 <;> omega) | (simp (disch := omega) only [e, Int32.le_iff_toInt_le, Int32.lt_iff_toInt_lt, ← Int32.toInt_inj, nI_toInt, Int32.toInt_zero, m1_toInt, Int64.le_iff_toInt_le, Int64.lt_iff_toInt_lt, ← Int64.toInt_inj, pk_lT, i64_toInt, Int64.toInt_zero, eq_self, not_true_eq_false, not_false_eq_true] at c15 <;> omega) | omega)
      all_goals
        skip
        refine x_aload_n dX8_pass_27 rfl ?_
        refine x_iconst (v := nI 2) rfl dX8_pass_28 ?_
        refine x_callV1 lk_X8_327 (m_refuse _) ho dX8_pass_29 rfl (Nat.le_of_ble_eq_true rfl) (by omega) (by decide) (by omega) (by omega) ?_
        refine x_iret hr rfl dX8_pass_32 (by omega) (by omega) (hQ _ _ ?_)
        try dsimp only [mI, mSA] at c15
        exact ⟨by simp [spPass, hx, hy, paB_1 e], by simp [spPass, hx, hy, paB_1 e, paC, mSA_id, mI_mI]⟩
    · try (exfalso; first | (simp (disch := omega) [inS_ix, inS_N, ixL_N, ix_nI, hx, hy, e, paB_1] at c15 <;> omega) | (simp (disch := omega) only [e, Int32.le_iff_toInt_le, Int32.lt_iff_toInt_lt, ← Int32.toInt_inj, nI_toInt, Int32.toInt_zero, m1_toInt, Int64.le_iff_toInt_le, Int64.lt_iff_toInt_lt, ← Int64.toInt_inj, pk_lT, i64_toInt, Int64.toInt_zero, eq_self, not_true_eq_false, not_false_eq_true] at c15 <;> omega) | omega)
      all_goals
        skip
        refine x_aload_n dX8_pass_18 rfl ?_
        refine x_iload_n dX8_pass_19 rfl ?_
        refine x_i2lN (by omega) dX8_pass_20 ?_
        refine x_callV1 lk_X8_336 (m_isPersonAt (M := (mI (mI M 1 (nI 0)) 0 (nI 0))) hF _) ho dX8_pass_21 rfl (Nat.le_of_ble_eq_true rfl) (by omega) (by decide) (by omega) (by omega) ?_
        refine x_ifb_ne (tgt := 33) dX8_pass_24 (by decide) (fun c24 => ?_) (fun c24 => ?_)
        · try (exfalso; first | (simp (disch := omega) [inS_ix, inS_N, ixL_N, ix_nI, hx, hy, e, paB_1] at c24 <;> omega) | (simp (disch := omega) only [e, Int32.le_iff_toInt_le, Int32.lt_iff_toInt_lt, ← Int32.toInt_inj, nI_toInt, Int32.toInt_zero, m1_toInt, Int64.le_iff_toInt_le, Int64.lt_iff_toInt_lt, ← Int64.toInt_inj, pk_lT, i64_toInt, Int64.toInt_zero, eq_self, not_true_eq_false, not_false_eq_true] at c15 c24 <;> omega) | omega)
          all_goals
            skip
            refine x_aload_n dX8_pass_33 rfl ?_
            refine x_getf gf_X8_35 ho dX8_pass_34 rfl rfl ?_
            refine x_bipush (v := nI 42) rfl dX8_pass_37 ?_
            refine x_iload_n dX8_pass_39 rfl ?_
            refine x_iaddN dX8_pass_40 ?_
            refine x_iald dX8_pass_41 rfl (by first | rfl | exact nI_add _ _ | (simp only [nI_add, pk_mul]; rfl)) (by omega) (by decide) ?_
            refine x_ist3 hL (by decide) rfl dX8_pass_42 ?_
            refine x_aload_n dX8_pass_43 rfl ?_
            refine x_iload_n dX8_pass_44 rfl ?_
            refine x_iload_n dX8_pass_45 rfl ?_
            refine x_callV2 lk_X8_360 (m_passes (M := (mI (mI M 1 (nI 0)) 0 (nI 0))) hF _ _ ht hj) ho dX8_pass_46 rfl (Nat.le_of_ble_eq_true rfl) (by omega) (by decide) (by omega) (by omega) ?_
            refine x_ifb_eq (tgt := 64) dX8_pass_49 (by decide) (fun c49 => ?_) (fun c49 => ?_)
            · try (exfalso; first | (simp (disch := omega) [inS_ix, inS_N, ixL_N, ix_nI, hx, hy, e, paB_1] at c49 <;> omega) | (simp (disch := omega) only [e, Int32.le_iff_toInt_le, Int32.lt_iff_toInt_lt, ← Int32.toInt_inj, nI_toInt, Int32.toInt_zero, m1_toInt, Int64.le_iff_toInt_le, Int64.lt_iff_toInt_lt, ← Int64.toInt_inj, pk_lT, i64_toInt, Int64.toInt_zero, eq_self, not_true_eq_false, not_false_eq_true] at c15 c24 c49 <;> omega) | omega)
              all_goals
                skip
                refine x_aload_n dX8_pass_64 rfl ?_
                refine x_bipush (v := nI 9) rfl dX8_pass_65 ?_
                refine x_callV1 lk_X8_327 (m_refuse _) ho dX8_pass_67 rfl (Nat.le_of_ble_eq_true rfl) (by omega) (by decide) (by omega) (by omega) ?_
                refine x_iret hr rfl dX8_pass_70 (by omega) (by omega) (hQ _ _ ?_)
                try dsimp only [mI, mSA] at c15 c24 c49
                exact ⟨by simp [spPass, hx, hy, paB_1 e], by simp [spPass, hx, hy, paB_1 e, paC, mSA_id, mI_mI]⟩
            · cases (paB_1 e).symm.trans c49
        · try (exfalso; first | (simp (disch := omega) [inS_ix, inS_N, ixL_N, ix_nI, hx, hy, e, paB_1] at c24 <;> omega) | (simp (disch := omega) only [e, Int32.le_iff_toInt_le, Int32.lt_iff_toInt_lt, ← Int32.toInt_inj, nI_toInt, Int32.toInt_zero, m1_toInt, Int64.le_iff_toInt_le, Int64.lt_iff_toInt_lt, ← Int64.toInt_inj, pk_lT, i64_toInt, Int64.toInt_zero, eq_self, not_true_eq_false, not_false_eq_true] at c15 c24 <;> omega) | omega)
          all_goals
            skip
            refine x_aload_n dX8_pass_27 rfl ?_
            refine x_iconst (v := nI 2) rfl dX8_pass_28 ?_
            refine x_callV1 lk_X8_327 (m_refuse _) ho dX8_pass_29 rfl (Nat.le_of_ble_eq_true rfl) (by omega) (by decide) (by omega) (by omega) ?_
            refine x_iret hr rfl dX8_pass_32 (by omega) (by omega) (hQ _ _ ?_)
            try dsimp only [mI, mSA] at c15 c24
            exact ⟨by simp [spPass, hx, hy, paB_1 e], by simp [spPass, hx, hy, paB_1 e, paC, mSA_id, mI_mI]⟩
  · skip
    refine CT.of (ini := false) (by decide +kernel) q1968 q164 (Nat.le_of_ble_eq_true rfl) (by decide) ?_
    intro Γ hw ho hL hr hh hini hal hd hmc hms hQ
    subst hw
    show AW Γ cX8_pass 0 0 0 [some (.ref 32), some (.int (nI t)), some (.int (nI j)), none] [] (hM M R)
    have h0 := hF.c0
    have h1 := hF.c1
    have h3 := hF.c3
    have l0 := hF.l0
    have l1 := hF.l1
    have l3 := hF.l3
    refine x_aload_n dX8_pass_0 rfl ?_
    refine x_iconst (v := nI 0) rfl dX8_pass_1 ?_
    refine m_puti (k := 1) (pf_X8_70 (ini := false)) ho hini dX8_pass_2 rfl rfl (by decide) (ms_1 _ _) ?_
    refine x_aload_n dX8_pass_5 rfl ?_
    refine x_iconst (v := nI 0) rfl dX8_pass_6 ?_
    refine m_puti (k := 0) (pf_X8_73 (ini := false)) ho hini dX8_pass_7 rfl rfl (by decide) (ms_0 _ _) ?_
    refine x_aload_n dX8_pass_10 rfl ?_
    refine x_iload_n dX8_pass_11 rfl ?_
    refine x_callV1 lk_X8_344 (m_isTinAt (M := (mI (mI M 1 (nI 0)) 0 (nI 0))) hF _) ho dX8_pass_12 rfl (Nat.le_of_ble_eq_true rfl) (by omega) (by decide) (by omega) (by omega) ?_
    refine x_ifb_eq (tgt := 27) dX8_pass_15 (by decide) (fun c15 => ?_) (fun c15 => ?_)
    · try (exfalso; first | (simp (disch := omega) [inS_ix, inS_N, ixL_N, ix_nI, hx, hy, e] at c15 <;> omega) | (simp (disch := omega) only [h0, h1, h3, Int32.le_iff_toInt_le, Int32.lt_iff_toInt_lt, ← Int32.toInt_inj, nI_toInt, Int32.toInt_zero, m1_toInt, Int64.le_iff_toInt_le, Int64.lt_iff_toInt_lt, ← Int64.toInt_inj, pk_lT, i64_toInt, Int64.toInt_zero, eq_self, not_true_eq_false, not_false_eq_true] at c15 <;> omega) | omega)
      all_goals
        skip
        refine x_aload_n dX8_pass_27 rfl ?_
        refine x_iconst (v := nI 2) rfl dX8_pass_28 ?_
        refine x_callV1 lk_X8_327 (m_refuse _) ho dX8_pass_29 rfl (Nat.le_of_ble_eq_true rfl) (by omega) (by decide) (by omega) (by omega) ?_
        refine x_iret hr rfl dX8_pass_32 (by omega) (by omega) (hQ _ _ ?_)
        try dsimp only [mI, mSA] at c15
        exact ⟨by simp (disch := omega) [spPass, hx, hy, c49, e, cl_nI, paC, upA_s], by simp (disch := omega) [spPass, hx, hy, c49, paC, mSA_id, mI_mI]⟩
    · try (exfalso; first | (simp (disch := omega) [inS_ix, inS_N, ixL_N, ix_nI, hx, hy, e] at c15 <;> omega) | (simp (disch := omega) only [h0, h1, h3, Int32.le_iff_toInt_le, Int32.lt_iff_toInt_lt, ← Int32.toInt_inj, nI_toInt, Int32.toInt_zero, m1_toInt, Int64.le_iff_toInt_le, Int64.lt_iff_toInt_lt, ← Int64.toInt_inj, pk_lT, i64_toInt, Int64.toInt_zero, eq_self, not_true_eq_false, not_false_eq_true] at c15 <;> omega) | omega)
      all_goals
        skip
        refine x_aload_n dX8_pass_18 rfl ?_
        refine x_iload_n dX8_pass_19 rfl ?_
        refine x_i2lN (by omega) dX8_pass_20 ?_
        refine x_callV1 lk_X8_336 (m_isPersonAt (M := (mI (mI M 1 (nI 0)) 0 (nI 0))) hF _) ho dX8_pass_21 rfl (Nat.le_of_ble_eq_true rfl) (by omega) (by decide) (by omega) (by omega) ?_
        refine x_ifb_ne (tgt := 33) dX8_pass_24 (by decide) (fun c24 => ?_) (fun c24 => ?_)
        · try (exfalso; first | (simp (disch := omega) [inS_ix, inS_N, ixL_N, ix_nI, hx, hy, e] at c24 <;> omega) | (simp (disch := omega) only [h0, h1, h3, Int32.le_iff_toInt_le, Int32.lt_iff_toInt_lt, ← Int32.toInt_inj, nI_toInt, Int32.toInt_zero, m1_toInt, Int64.le_iff_toInt_le, Int64.lt_iff_toInt_lt, ← Int64.toInt_inj, pk_lT, i64_toInt, Int64.toInt_zero, eq_self, not_true_eq_false, not_false_eq_true] at c15 c24 <;> omega) | omega)
          all_goals
            skip
            refine x_aload_n dX8_pass_33 rfl ?_
            refine x_getf gf_X8_35 ho dX8_pass_34 rfl rfl ?_
            refine x_bipush (v := nI 42) rfl dX8_pass_37 ?_
            refine x_iload_n dX8_pass_39 rfl ?_
            refine x_iaddN dX8_pass_40 ?_
            refine x_iald dX8_pass_41 rfl (by first | rfl | exact nI_add _ _ | (simp only [nI_add, pk_mul]; rfl)) (by omega) (by decide) ?_
            refine x_ival e ?_
            refine x_ist3 hL (by decide) rfl dX8_pass_42 ?_
            refine x_aload_n dX8_pass_43 rfl ?_
            refine x_iload_n dX8_pass_44 rfl ?_
            refine x_iload_n dX8_pass_45 rfl ?_
            refine x_callV2 lk_X8_360 (m_passes (M := (mI (mI M 1 (nI 0)) 0 (nI 0))) hF _ _ ht hj) ho dX8_pass_46 rfl (Nat.le_of_ble_eq_true rfl) (by omega) (by decide) (by omega) (by omega) ?_
            refine x_ifb_eq (tgt := 64) dX8_pass_49 (by decide) (fun c49 => ?_) (fun c49 => ?_)
            · try (exfalso; first | (simp (disch := omega) [inS_ix, inS_N, ixL_N, ix_nI, hx, hy, e] at c49 <;> omega) | (simp (disch := omega) only [h0, h1, h3, Int32.le_iff_toInt_le, Int32.lt_iff_toInt_lt, ← Int32.toInt_inj, nI_toInt, Int32.toInt_zero, m1_toInt, Int64.le_iff_toInt_le, Int64.lt_iff_toInt_lt, ← Int64.toInt_inj, pk_lT, i64_toInt, Int64.toInt_zero, eq_self, not_true_eq_false, not_false_eq_true] at c15 c24 c49 <;> omega) | omega)
              all_goals
                skip
                refine x_aload_n dX8_pass_64 rfl ?_
                refine x_bipush (v := nI 9) rfl dX8_pass_65 ?_
                refine x_callV1 lk_X8_327 (m_refuse _) ho dX8_pass_67 rfl (Nat.le_of_ble_eq_true rfl) (by omega) (by decide) (by omega) (by omega) ?_
                refine x_iret hr rfl dX8_pass_70 (by omega) (by omega) (hQ _ _ ?_)
                try dsimp only [mI, mSA] at c15 c24 c49
                exact ⟨by simp (disch := omega) [spPass, hx, hy, c49, e, cl_nI, paC, upA_s], by simp (disch := omega) [spPass, hx, hy, c49, paC, mSA_id, mI_mI]⟩
            · try (exfalso; first | (simp (disch := omega) [inS_ix, inS_N, ixL_N, ix_nI, hx, hy, e] at c49 <;> omega) | (simp (disch := omega) only [h0, h1, h3, Int32.le_iff_toInt_le, Int32.lt_iff_toInt_lt, ← Int32.toInt_inj, nI_toInt, Int32.toInt_zero, m1_toInt, Int64.le_iff_toInt_le, Int64.lt_iff_toInt_lt, ← Int64.toInt_inj, pk_lT, i64_toInt, Int64.toInt_zero, eq_self, not_true_eq_false, not_false_eq_true] at c15 c24 c49 <;> omega) | omega)
              all_goals
                skip
                refine x_aload_n dX8_pass_52 rfl ?_
                refine x_getf gf_X8_35 ho dX8_pass_53 rfl rfl ?_
                refine x_bipush (v := nI 26) rfl dX8_pass_56 ?_
                refine x_iload_n dX8_pass_58 rfl ?_
                refine x_iaddN dX8_pass_59 ?_
                refine x_iald dX8_pass_60 rfl (by first | rfl | exact nI_add _ _ | (simp only [nI_add, pk_mul]; rfl)) (by omega) (by decide) ?_
                refine x_goto (tgt := 70) dX8_pass_61 (by decide) ?_
                refine x_iret hr rfl dX8_pass_70 (by omega) (by omega) (hQ _ _ ?_)
                try dsimp only [mI, mSA] at c15 c24 c49
                exact ⟨by simp (disch := omega) [spPass, hx, hy, c49, e, cl_nI, paC, upA_s], by simp (disch := omega) [spPass, hx, hy, c49, paC, mSA_id, mI_mI]⟩
        · try (exfalso; first | (simp (disch := omega) [inS_ix, inS_N, ixL_N, ix_nI, hx, hy, e] at c24 <;> omega) | (simp (disch := omega) only [h0, h1, h3, Int32.le_iff_toInt_le, Int32.lt_iff_toInt_lt, ← Int32.toInt_inj, nI_toInt, Int32.toInt_zero, m1_toInt, Int64.le_iff_toInt_le, Int64.lt_iff_toInt_lt, ← Int64.toInt_inj, pk_lT, i64_toInt, Int64.toInt_zero, eq_self, not_true_eq_false, not_false_eq_true] at c15 c24 <;> omega) | omega)
          all_goals
            skip
            refine x_aload_n dX8_pass_27 rfl ?_
            refine x_iconst (v := nI 2) rfl dX8_pass_28 ?_
            refine x_callV1 lk_X8_327 (m_refuse _) ho dX8_pass_29 rfl (Nat.le_of_ble_eq_true rfl) (by omega) (by decide) (by omega) (by omega) ?_
            refine x_iret hr rfl dX8_pass_32 (by omega) (by omega) (hQ _ _ ?_)
            try dsimp only [mI, mSA] at c15 c24
            exact ⟨by simp (disch := omega) [spPass, hx, hy, c49, e, cl_nI, paC, upA_s], by simp (disch := omega) [spPass, hx, hy, c49, paC, mSA_id, mI_mI]⟩
  · skip
    refine CT.of (ini := false) (by decide +kernel) q1968 q164 (Nat.le_of_ble_eq_true rfl) (by decide) ?_
    intro Γ hw ho hL hr hh hini hal hd hmc hms hQ
    subst hw
    show AW Γ cX8_pass 0 0 0 [some (.ref 32), some (.int t9), some (.int q9), none] [] (hM M R)
    have h0 := hF.c0
    have h1 := hF.c1
    have h3 := hF.c3
    have l0 := hF.l0
    have l1 := hF.l1
    have l3 := hF.l3
    refine x_aload_n dX8_pass_0 rfl ?_
    refine x_iconst (v := nI 0) rfl dX8_pass_1 ?_
    refine m_puti (k := 1) (pf_X8_70 (ini := false)) ho hini dX8_pass_2 rfl rfl (by decide) (ms_1 _ _) ?_
    refine x_aload_n dX8_pass_5 rfl ?_
    refine x_iconst (v := nI 0) rfl dX8_pass_6 ?_
    refine m_puti (k := 0) (pf_X8_73 (ini := false)) ho hini dX8_pass_7 rfl rfl (by decide) (ms_0 _ _) ?_
    refine x_aload_n dX8_pass_10 rfl ?_
    refine x_iload_n dX8_pass_11 rfl ?_
    refine x_callV1 lk_X8_344 (m_isTinAt (M := (mI (mI M 1 (nI 0)) 0 (nI 0))) hF _) ho dX8_pass_12 rfl (Nat.le_of_ble_eq_true rfl) (by omega) (by decide) (by omega) (by omega) ?_
    refine x_ifb_eq (tgt := 27) dX8_pass_15 (by decide) (fun c15 => ?_) (fun c15 => ?_)
    · try (exfalso; first | (simp (disch := omega) [inS_ix, inS_N, ixL_N, ix_nI, hx] at c15 <;> omega) | (simp (disch := omega) only [h0, h1, h3, Int32.le_iff_toInt_le, Int32.lt_iff_toInt_lt, ← Int32.toInt_inj, nI_toInt, Int32.toInt_zero, m1_toInt, Int64.le_iff_toInt_le, Int64.lt_iff_toInt_lt, ← Int64.toInt_inj, pk_lT, i64_toInt, Int64.toInt_zero, eq_self, not_true_eq_false, not_false_eq_true] at c15 <;> omega) | omega)
      all_goals
        skip
        refine x_aload_n dX8_pass_27 rfl ?_
        refine x_iconst (v := nI 2) rfl dX8_pass_28 ?_
        refine x_callV1 lk_X8_327 (m_refuse _) ho dX8_pass_29 rfl (Nat.le_of_ble_eq_true rfl) (by omega) (by decide) (by omega) (by omega) ?_
        refine x_iret hr rfl dX8_pass_32 (by omega) (by omega) (hQ _ _ ?_)
        try dsimp only [mI, mSA] at c15
        exact ⟨by simp [spPass, hx], by simp [spPass, hx, mI_mI, mSA_id]⟩
    · try (exfalso; first | (simp (disch := omega) [inS_ix, inS_N, ixL_N, ix_nI, hx] at c15 <;> omega) | (simp (disch := omega) only [h0, h1, h3, Int32.le_iff_toInt_le, Int32.lt_iff_toInt_lt, ← Int32.toInt_inj, nI_toInt, Int32.toInt_zero, m1_toInt, Int64.le_iff_toInt_le, Int64.lt_iff_toInt_lt, ← Int64.toInt_inj, pk_lT, i64_toInt, Int64.toInt_zero, eq_self, not_true_eq_false, not_false_eq_true] at c15 <;> omega) | omega)
      all_goals
        skip
        refine x_aload_n dX8_pass_18 rfl ?_
        refine x_iload_n dX8_pass_19 rfl ?_
        refine x_i2l dX8_pass_20 ?_
        refine x_callV1 lk_X8_336 (m_isPersonAt (M := (mI (mI M 1 (nI 0)) 0 (nI 0))) hF _) ho dX8_pass_21 rfl (Nat.le_of_ble_eq_true rfl) (by omega) (by decide) (by omega) (by omega) ?_
        refine x_ifb_ne (tgt := 33) dX8_pass_24 (by decide) (fun c24 => ?_) (fun c24 => ?_)
        · try (exfalso; first | (simp (disch := omega) [inS_ix, inS_N, ixL_N, ix_nI, hx] at c24 <;> omega) | (simp (disch := omega) only [h0, h1, h3, Int32.le_iff_toInt_le, Int32.lt_iff_toInt_lt, ← Int32.toInt_inj, nI_toInt, Int32.toInt_zero, m1_toInt, Int64.le_iff_toInt_le, Int64.lt_iff_toInt_lt, ← Int64.toInt_inj, pk_lT, i64_toInt, Int64.toInt_zero, eq_self, not_true_eq_false, not_false_eq_true] at c15 c24 <;> omega) | omega)
          all_goals
            skip
            refine x_aload_n dX8_pass_33 rfl ?_
            refine x_getf gf_X8_35 ho dX8_pass_34 rfl rfl ?_
            refine x_bipush (v := nI 42) rfl dX8_pass_37 ?_
            refine x_iload_n dX8_pass_39 rfl ?_
            refine x_iadd dX8_pass_40 ?_
            refine x_iald dX8_pass_41 rfl (by first | rfl | exact nI_add _ _ | (simp only [nI_add, pk_mul]; rfl)) (by omega) (by decide) ?_
            refine x_ist3 hL (by decide) rfl dX8_pass_42 ?_
            refine x_aload_n dX8_pass_43 rfl ?_
            refine x_iload_n dX8_pass_44 rfl ?_
            refine x_iload_n dX8_pass_45 rfl ?_
            refine x_callV2 lk_X8_360 (m_passes (M := (mI (mI M 1 (nI 0)) 0 (nI 0))) hF _ _ (by omega) (by omega)) ho dX8_pass_46 rfl (Nat.le_of_ble_eq_true rfl) (by omega) (by decide) (by omega) (by omega) ?_
            refine x_ifb_eq (tgt := 64) dX8_pass_49 (by decide) (fun c49 => ?_) (fun c49 => ?_)
            · try (exfalso; first | (simp (disch := omega) [inS_ix, inS_N, ixL_N, ix_nI, hx] at c49 <;> omega) | (simp (disch := omega) only [h0, h1, h3, Int32.le_iff_toInt_le, Int32.lt_iff_toInt_lt, ← Int32.toInt_inj, nI_toInt, Int32.toInt_zero, m1_toInt, Int64.le_iff_toInt_le, Int64.lt_iff_toInt_lt, ← Int64.toInt_inj, pk_lT, i64_toInt, Int64.toInt_zero, eq_self, not_true_eq_false, not_false_eq_true] at c15 c24 c49 <;> omega) | omega)
              all_goals
                skip
                refine x_aload_n dX8_pass_64 rfl ?_
                refine x_bipush (v := nI 9) rfl dX8_pass_65 ?_
                refine x_callV1 lk_X8_327 (m_refuse _) ho dX8_pass_67 rfl (Nat.le_of_ble_eq_true rfl) (by omega) (by decide) (by omega) (by omega) ?_
                refine x_iret hr rfl dX8_pass_70 (by omega) (by omega) (hQ _ _ ?_)
                try dsimp only [mI, mSA] at c15 c24 c49
                exact ⟨by simp [spPass, hx], by simp [spPass, hx, mI_mI, mSA_id]⟩
            · try (exfalso; first | (simp (disch := omega) [inS_ix, inS_N, ixL_N, ix_nI, hx] at c49 <;> omega) | (simp (disch := omega) only [h0, h1, h3, Int32.le_iff_toInt_le, Int32.lt_iff_toInt_lt, ← Int32.toInt_inj, nI_toInt, Int32.toInt_zero, m1_toInt, Int64.le_iff_toInt_le, Int64.lt_iff_toInt_lt, ← Int64.toInt_inj, pk_lT, i64_toInt, Int64.toInt_zero, eq_self, not_true_eq_false, not_false_eq_true] at c15 c24 c49 <;> omega) | omega)
              all_goals
                skip
                refine x_aload_n dX8_pass_52 rfl ?_
                refine x_getf gf_X8_35 ho dX8_pass_53 rfl rfl ?_
                refine x_bipush (v := nI 26) rfl dX8_pass_56 ?_
                refine x_iload_n dX8_pass_58 rfl ?_
                refine x_iadd dX8_pass_59 ?_
                refine x_iald dX8_pass_60 rfl (by first | rfl | exact nI_add _ _ | (simp only [nI_add, pk_mul]; rfl)) (by omega) (by decide) ?_
                refine x_goto (tgt := 70) dX8_pass_61 (by decide) ?_
                refine x_iret hr rfl dX8_pass_70 (by omega) (by omega) (hQ _ _ ?_)
                try dsimp only [mI, mSA] at c15 c24 c49
                exact ⟨by simp [spPass, hx], by simp [spPass, hx, mI_mI, mSA_id]⟩
        · try (exfalso; first | (simp (disch := omega) [inS_ix, inS_N, ixL_N, ix_nI, hx] at c24 <;> omega) | (simp (disch := omega) only [h0, h1, h3, Int32.le_iff_toInt_le, Int32.lt_iff_toInt_lt, ← Int32.toInt_inj, nI_toInt, Int32.toInt_zero, m1_toInt, Int64.le_iff_toInt_le, Int64.lt_iff_toInt_lt, ← Int64.toInt_inj, pk_lT, i64_toInt, Int64.toInt_zero, eq_self, not_true_eq_false, not_false_eq_true] at c15 c24 <;> omega) | omega)
          all_goals
            skip
            refine x_aload_n dX8_pass_27 rfl ?_
            refine x_iconst (v := nI 2) rfl dX8_pass_28 ?_
            refine x_callV1 lk_X8_327 (m_refuse _) ho dX8_pass_29 rfl (Nat.le_of_ble_eq_true rfl) (by omega) (by decide) (by omega) (by omega) ?_
            refine x_iret hr rfl dX8_pass_32 (by omega) (by omega) (hQ _ _ ?_)
            try dsimp only [mI, mSA] at c15 c24
            exact ⟨by simp [spPass, hx], by simp [spPass, hx, mI_mI, mSA_id]⟩
  · skip
    refine CT.of (ini := false) (by decide +kernel) q1968 q164 (Nat.le_of_ble_eq_true rfl) (by decide) ?_
    intro Γ hw ho hL hr hh hini hal hd hmc hms hQ
    subst hw
    show AW Γ cX8_pass 0 0 0 [some (.ref 32), some (.int (nI t)), some (.int q9), none] [] (hM M R)
    have h0 := hF.c0
    have h1 := hF.c1
    have h3 := hF.c3
    have l0 := hF.l0
    have l1 := hF.l1
    have l3 := hF.l3
    refine x_aload_n dX8_pass_0 rfl ?_
    refine x_iconst (v := nI 0) rfl dX8_pass_1 ?_
    refine m_puti (k := 1) (pf_X8_70 (ini := false)) ho hini dX8_pass_2 rfl rfl (by decide) (ms_1 _ _) ?_
    refine x_aload_n dX8_pass_5 rfl ?_
    refine x_iconst (v := nI 0) rfl dX8_pass_6 ?_
    refine m_puti (k := 0) (pf_X8_73 (ini := false)) ho hini dX8_pass_7 rfl rfl (by decide) (ms_0 _ _) ?_
    refine x_aload_n dX8_pass_10 rfl ?_
    refine x_iload_n dX8_pass_11 rfl ?_
    refine x_callV1 lk_X8_344 (m_isTinAt (M := (mI (mI M 1 (nI 0)) 0 (nI 0))) hF _) ho dX8_pass_12 rfl (Nat.le_of_ble_eq_true rfl) (by omega) (by decide) (by omega) (by omega) ?_
    refine x_ifb_eq (tgt := 27) dX8_pass_15 (by decide) (fun c15 => ?_) (fun c15 => ?_)
    · try (exfalso; first | (simp (disch := omega) [inS_ix, inS_N, ixL_N, ix_nI, hx, hy, ixL_i] at c15 <;> omega) | (simp (disch := omega) only [h0, h1, h3, Int32.le_iff_toInt_le, Int32.lt_iff_toInt_lt, ← Int32.toInt_inj, nI_toInt, Int32.toInt_zero, m1_toInt, Int64.le_iff_toInt_le, Int64.lt_iff_toInt_lt, ← Int64.toInt_inj, pk_lT, i64_toInt, Int64.toInt_zero, eq_self, not_true_eq_false, not_false_eq_true] at c15 <;> omega) | omega)
      all_goals
        skip
        refine x_aload_n dX8_pass_27 rfl ?_
        refine x_iconst (v := nI 2) rfl dX8_pass_28 ?_
        refine x_callV1 lk_X8_327 (m_refuse _) ho dX8_pass_29 rfl (Nat.le_of_ble_eq_true rfl) (by omega) (by decide) (by omega) (by omega) ?_
        refine x_iret hr rfl dX8_pass_32 (by omega) (by omega) (hQ _ _ ?_)
        try dsimp only [mI, mSA] at c15
        exact ⟨by simp [spPass, hx, hy], by simp [spPass, hx, hy, mI_mI, mSA_id]⟩
    · try (exfalso; first | (simp (disch := omega) [inS_ix, inS_N, ixL_N, ix_nI, hx, hy, ixL_i] at c15 <;> omega) | (simp (disch := omega) only [h0, h1, h3, Int32.le_iff_toInt_le, Int32.lt_iff_toInt_lt, ← Int32.toInt_inj, nI_toInt, Int32.toInt_zero, m1_toInt, Int64.le_iff_toInt_le, Int64.lt_iff_toInt_lt, ← Int64.toInt_inj, pk_lT, i64_toInt, Int64.toInt_zero, eq_self, not_true_eq_false, not_false_eq_true] at c15 <;> omega) | omega)
      all_goals
        skip
        refine x_aload_n dX8_pass_18 rfl ?_
        refine x_iload_n dX8_pass_19 rfl ?_
        refine x_i2l dX8_pass_20 ?_
        refine x_callV1 lk_X8_336 (m_isPersonAt (M := (mI (mI M 1 (nI 0)) 0 (nI 0))) hF _) ho dX8_pass_21 rfl (Nat.le_of_ble_eq_true rfl) (by omega) (by decide) (by omega) (by omega) ?_
        refine x_ifb_ne (tgt := 33) dX8_pass_24 (by decide) (fun c24 => ?_) (fun c24 => ?_)
        · try (exfalso; first | (simp (disch := omega) [inS_ix, inS_N, ixL_N, ix_nI, hx, hy, ixL_i] at c24 <;> omega) | (simp (disch := omega) only [h0, h1, h3, Int32.le_iff_toInt_le, Int32.lt_iff_toInt_lt, ← Int32.toInt_inj, nI_toInt, Int32.toInt_zero, m1_toInt, Int64.le_iff_toInt_le, Int64.lt_iff_toInt_lt, ← Int64.toInt_inj, pk_lT, i64_toInt, Int64.toInt_zero, eq_self, not_true_eq_false, not_false_eq_true] at c15 c24 <;> omega) | omega)
          all_goals
            skip
            refine x_aload_n dX8_pass_33 rfl ?_
            refine x_getf gf_X8_35 ho dX8_pass_34 rfl rfl ?_
            refine x_bipush (v := nI 42) rfl dX8_pass_37 ?_
            refine x_iload_n dX8_pass_39 rfl ?_
            refine x_iaddN dX8_pass_40 ?_
            refine x_iald dX8_pass_41 rfl (by first | rfl | exact nI_add _ _ | (simp only [nI_add, pk_mul]; rfl)) (by omega) (by decide) ?_
            refine x_ist3 hL (by decide) rfl dX8_pass_42 ?_
            refine x_aload_n dX8_pass_43 rfl ?_
            refine x_iload_n dX8_pass_44 rfl ?_
            refine x_iload_n dX8_pass_45 rfl ?_
            refine x_callV2 lk_X8_360 (m_passes (M := (mI (mI M 1 (nI 0)) 0 (nI 0))) hF _ _ (by omega) (by omega)) ho dX8_pass_46 rfl (Nat.le_of_ble_eq_true rfl) (by omega) (by decide) (by omega) (by omega) ?_
            refine x_ifb_eq (tgt := 64) dX8_pass_49 (by decide) (fun c49 => ?_) (fun c49 => ?_)
            · try (exfalso; first | (simp (disch := omega) [inS_ix, inS_N, ixL_N, ix_nI, hx, hy, ixL_i] at c49 <;> omega) | (simp (disch := omega) only [h0, h1, h3, Int32.le_iff_toInt_le, Int32.lt_iff_toInt_lt, ← Int32.toInt_inj, nI_toInt, Int32.toInt_zero, m1_toInt, Int64.le_iff_toInt_le, Int64.lt_iff_toInt_lt, ← Int64.toInt_inj, pk_lT, i64_toInt, Int64.toInt_zero, eq_self, not_true_eq_false, not_false_eq_true] at c15 c24 c49 <;> omega) | omega)
              all_goals
                skip
                refine x_aload_n dX8_pass_64 rfl ?_
                refine x_bipush (v := nI 9) rfl dX8_pass_65 ?_
                refine x_callV1 lk_X8_327 (m_refuse _) ho dX8_pass_67 rfl (Nat.le_of_ble_eq_true rfl) (by omega) (by decide) (by omega) (by omega) ?_
                refine x_iret hr rfl dX8_pass_70 (by omega) (by omega) (hQ _ _ ?_)
                try dsimp only [mI, mSA] at c15 c24 c49
                exact ⟨by simp [spPass, hx, hy], by simp [spPass, hx, hy, mI_mI, mSA_id]⟩
            · try (exfalso; first | (simp (disch := omega) [inS_ix, inS_N, ixL_N, ix_nI, hx, hy, ixL_i] at c49 <;> omega) | (simp (disch := omega) only [h0, h1, h3, Int32.le_iff_toInt_le, Int32.lt_iff_toInt_lt, ← Int32.toInt_inj, nI_toInt, Int32.toInt_zero, m1_toInt, Int64.le_iff_toInt_le, Int64.lt_iff_toInt_lt, ← Int64.toInt_inj, pk_lT, i64_toInt, Int64.toInt_zero, eq_self, not_true_eq_false, not_false_eq_true] at c15 c24 c49 <;> omega) | omega)
              all_goals
                skip
                refine x_aload_n dX8_pass_52 rfl ?_
                refine x_getf gf_X8_35 ho dX8_pass_53 rfl rfl ?_
                refine x_bipush (v := nI 26) rfl dX8_pass_56 ?_
                refine x_iload_n dX8_pass_58 rfl ?_
                refine x_iadd dX8_pass_59 ?_
                refine x_iald dX8_pass_60 rfl (by first | rfl | exact nI_add _ _ | (simp only [nI_add, pk_mul]; rfl)) (by omega) (by decide) ?_
                refine x_goto (tgt := 70) dX8_pass_61 (by decide) ?_
                refine x_iret hr rfl dX8_pass_70 (by omega) (by omega) (hQ _ _ ?_)
                try dsimp only [mI, mSA] at c15 c24 c49
                exact ⟨by simp [spPass, hx, hy], by simp [spPass, hx, hy, mI_mI, mSA_id]⟩
        · try (exfalso; first | (simp (disch := omega) [inS_ix, inS_N, ixL_N, ix_nI, hx, hy, ixL_i] at c24 <;> omega) | (simp (disch := omega) only [h0, h1, h3, Int32.le_iff_toInt_le, Int32.lt_iff_toInt_lt, ← Int32.toInt_inj, nI_toInt, Int32.toInt_zero, m1_toInt, Int64.le_iff_toInt_le, Int64.lt_iff_toInt_lt, ← Int64.toInt_inj, pk_lT, i64_toInt, Int64.toInt_zero, eq_self, not_true_eq_false, not_false_eq_true] at c15 c24 <;> omega) | omega)
          all_goals
            skip
            refine x_aload_n dX8_pass_27 rfl ?_
            refine x_iconst (v := nI 2) rfl dX8_pass_28 ?_
            refine x_callV1 lk_X8_327 (m_refuse _) ho dX8_pass_29 rfl (Nat.le_of_ble_eq_true rfl) (by omega) (by decide) (by omega) (by omega) ?_
            refine x_iret hr rfl dX8_pass_32 (by omega) (by omega) (hQ _ _ ?_)
            try dsimp only [mI, mSA] at c15 c24
            exact ⟨by simp [spPass, hx, hy], by simp [spPass, hx, hy, mI_mI, mSA_id]⟩
set_option maxHeartbeats 4000000 in
theorem m_finds {w : xW} {M : mS} {R : xH} {tm pm tn G : Nat} (hF : wF (M.2.2.1 5) tm pm tn G) (t : Nat) (ht : t < tn) : CT w yX8_finds cX8_finds 2 none [] false (0) 0 0 [.ref 32, .int (nI t)] (hM M R) (xret none (hM (mSA M 5 (fiC (M.2.2.1 5) t)) R)) := by
  refine CT.of (ini := false) (by decide +kernel) q1988 q164 (Nat.le_of_ble_eq_true rfl) (by decide) ?_
  intro Γ hw ho hL hr hh hini hal hd hmc hms hQ
  subst hw
  show AW Γ cX8_finds 0 0 0 [some (.ref 32), some (.int (nI t))] [] (hM M R)
  have h0 := hF.c0
  have h1 := hF.c1
  have h3 := hF.c3
  have l0 := hF.l0
  have l1 := hF.l1
  have l3 := hF.l3
  refine x_aload_n dX8_finds_0 rfl ?_
  refine x_getf gf_X8_35 ho dX8_finds_1 rfl rfl ?_
  refine x_bipush (v := nI 60) rfl dX8_finds_4 ?_
  refine x_iload_n dX8_finds_6 rfl ?_
  refine x_iaddN dX8_finds_7 ?_
  refine x_iconst (v := nI 1) rfl dX8_finds_8 ?_
  refine m_iast (r := 5) dX8_finds_9 (by decide) (by decide) (fun _ => rfl) (by first | rfl | exact nI_add _ _ | (simp only [nI_add, pk_mul]; rfl)) (by omega) (by decide) ?_
  refine x_aload_n dX8_finds_10 rfl ?_
  refine x_getf gf_X8_35 ho dX8_finds_11 rfl rfl ?_
  refine x_bipush (v := nI 42) rfl dX8_finds_14 ?_
  refine x_iload_n dX8_finds_16 rfl ?_
  refine x_iaddN dX8_finds_17 ?_
  refine x_iconst (v := (-1)) rfl dX8_finds_18 ?_
  refine m_iast (r := 5) dX8_finds_19 (by decide) (by decide) (fun _ => rfl) (by first | rfl | exact nI_add _ _ | (simp only [nI_add, pk_mul]; rfl)) (by omega) (by decide) ?_
  refine x_vret hr dX8_finds_20 (by omega) (by omega) (hQ _ _ ?_)
  exact ⟨rfl, by simp only [fiC, mA_5, mSA_mSA, upA_s]⟩
set_option maxHeartbeats 4000000 in
theorem m_bite {w : xW} {M : mS} {R : xH} {tm pm tn G : Nat} (hF : wF (M.2.2.1 5) tm pm tn G) (t9 : Int32) : CT w yX8_bite cX8_bite 2 (some (.int)) [] false (3) 0 0 [.ref 32, .int t9] (hM M R) (xret (some (.int (spBite (M.2.2.1 5) tn t9).1)) (hM (mSA (mI (mI M 1 (nI 0)) 0 (nI (spBite (M.2.2.1 5) tn t9).2.1)) 5 (spBite (M.2.2.1 5) tn t9).2.2) R)) := by
  have l3 := hF.l3
  rcases ix_or t9 (n := tn) (by omega) with ⟨hx, hx2⟩ | ⟨t, ht, rfl, hx⟩
  · skip
    refine CT.of (ini := false) (by decide +kernel) q1984 q164 (Nat.le_of_ble_eq_true rfl) (by decide) ?_
    intro Γ hw ho hL hr hh hini hal hd hmc hms hQ
    subst hw
    show AW Γ cX8_bite 0 0 0 [some (.ref 32), some (.int t9)] [] (hM M R)
    have h0 := hF.c0
    have h1 := hF.c1
    have h3 := hF.c3
    have l0 := hF.l0
    have l1 := hF.l1
    have l3 := hF.l3
    refine x_aload_n dX8_bite_0 rfl ?_
    refine x_iconst (v := nI 0) rfl dX8_bite_1 ?_
    refine m_puti (k := 1) (pf_X8_70 (ini := false)) ho hini dX8_bite_2 rfl rfl (by decide) (ms_1 _ _) ?_
    refine x_aload_n dX8_bite_5 rfl ?_
    refine x_iconst (v := nI 0) rfl dX8_bite_6 ?_
    refine m_puti (k := 0) (pf_X8_73 (ini := false)) ho hini dX8_bite_7 rfl rfl (by decide) (ms_0 _ _) ?_
    refine x_aload_n dX8_bite_10 rfl ?_
    refine x_iload_n dX8_bite_11 rfl ?_
    refine x_callV1 lk_X8_344 (m_isTinAt (M := (mI (mI M 1 (nI 0)) 0 (nI 0))) hF _) ho dX8_bite_12 rfl (Nat.le_of_ble_eq_true rfl) (by omega) (by decide) (by omega) (by omega) ?_
    refine x_ifb_ne (tgt := 24) dX8_bite_15 (by decide) (fun c15 => ?_) (fun c15 => ?_)
    · try (exfalso; first | (simp (disch := omega) [inS_ix, inS_N, ixL_N, ix_nI, hx] at c15 <;> omega) | (simp (disch := omega) only [h0, h1, h3, Int32.le_iff_toInt_le, Int32.lt_iff_toInt_lt, ← Int32.toInt_inj, nI_toInt, Int32.toInt_zero, m1_toInt, Int64.le_iff_toInt_le, Int64.lt_iff_toInt_lt, ← Int64.toInt_inj, pk_lT, i64_toInt, Int64.toInt_zero, eq_self, not_true_eq_false, not_false_eq_true] at c15 <;> omega) | omega)
      all_goals
        skip
        refine x_aload_n dX8_bite_24 rfl ?_
        refine x_iload_n dX8_bite_25 rfl ?_
        refine x_callV1 lk_X8_310 (m_isGone (M := (mI (mI M 1 (nI 0)) 0 (nI 0))) hF _ (by omega)) ho dX8_bite_26 rfl (Nat.le_of_ble_eq_true rfl) (by omega) (by decide) (by omega) (by omega) ?_
        refine x_ifb_eq (tgt := 39) dX8_bite_29 (by decide) (fun c29 => ?_) (fun c29 => ?_)
        · try (exfalso; first | (simp (disch := omega) [inS_ix, inS_N, ixL_N, ix_nI, hx] at c29 <;> omega) | (simp (disch := omega) only [h0, h1, h3, Int32.le_iff_toInt_le, Int32.lt_iff_toInt_lt, ← Int32.toInt_inj, nI_toInt, Int32.toInt_zero, m1_toInt, Int64.le_iff_toInt_le, Int64.lt_iff_toInt_lt, ← Int64.toInt_inj, pk_lT, i64_toInt, Int64.toInt_zero, eq_self, not_true_eq_false, not_false_eq_true] at c15 c29 <;> omega) | omega)
          all_goals
            skip
            refine x_aload_n dX8_bite_39 rfl ?_
            refine x_getf gf_X8_35 ho dX8_bite_40 rfl rfl ?_
            refine x_bipush (v := nI 51) rfl dX8_bite_43 ?_
            refine x_iload_n dX8_bite_45 rfl ?_
            refine x_iadd dX8_bite_46 ?_
            refine x_iald dX8_bite_47 rfl (by first | rfl | exact nI_add _ _ | (simp only [nI_add, pk_mul]; rfl)) (by omega) (by decide) ?_
            refine x_iconst (v := nI 1) rfl dX8_bite_48 ?_
            refine x_icmp_ne (tgt := 57) dX8_bite_49 (by decide) (fun c49 => ?_) (fun c49 => ?_)
            · try (exfalso; first | (simp (disch := omega) [inS_ix, inS_N, ixL_N, ix_nI, hx] at c49 <;> omega) | (simp (disch := omega) only [h0, h1, h3, Int32.le_iff_toInt_le, Int32.lt_iff_toInt_lt, ← Int32.toInt_inj, nI_toInt, Int32.toInt_zero, m1_toInt, Int64.le_iff_toInt_le, Int64.lt_iff_toInt_lt, ← Int64.toInt_inj, pk_lT, i64_toInt, Int64.toInt_zero, eq_self, not_true_eq_false, not_false_eq_true] at c15 c29 c49 <;> omega) | omega)
              all_goals
                skip
                refine x_aload_n dX8_bite_57 rfl ?_
                refine x_getf gf_X8_35 ho dX8_bite_58 rfl rfl ?_
                refine x_bipush (v := nI 60) rfl dX8_bite_61 ?_
                refine x_iload_n dX8_bite_63 rfl ?_
                refine x_iadd dX8_bite_64 ?_
                refine x_iald dX8_bite_65 rfl (by first | rfl | exact nI_add _ _ | (simp only [nI_add, pk_mul]; rfl)) (by omega) (by decide) ?_
                refine x_iret hr rfl dX8_bite_66 (by omega) (by omega) (hQ _ _ ?_)
                try dsimp only [mI, mSA] at c15 c29 c49
                exact ⟨by simp [spBite, hx], by simp [spBite, hx, mI_mI, mSA_id]⟩
            · try (exfalso; first | (simp (disch := omega) [inS_ix, inS_N, ixL_N, ix_nI, hx] at c49 <;> omega) | (simp (disch := omega) only [h0, h1, h3, Int32.le_iff_toInt_le, Int32.lt_iff_toInt_lt, ← Int32.toInt_inj, nI_toInt, Int32.toInt_zero, m1_toInt, Int64.le_iff_toInt_le, Int64.lt_iff_toInt_lt, ← Int64.toInt_inj, pk_lT, i64_toInt, Int64.toInt_zero, eq_self, not_true_eq_false, not_false_eq_true] at c15 c29 c49 <;> omega) | omega)
              all_goals
                skip
                refine x_aload_n dX8_bite_52 rfl ?_
                refine x_iload_n dX8_bite_53 rfl ?_
                refine x_callV1 lk_X8_363 (m_finds (M := (mI (mI M 1 (nI 0)) 0 (nI 0))) hF _ (by omega)) ho dX8_bite_54 rfl (Nat.le_of_ble_eq_true rfl) (by omega) (by decide) (by omega) (by omega) ?_
                refine x_aload_n dX8_bite_57 rfl ?_
                refine x_getf gf_X8_35 ho dX8_bite_58 rfl rfl ?_
                refine x_bipush (v := nI 60) rfl dX8_bite_61 ?_
                refine x_iload_n dX8_bite_63 rfl ?_
                refine x_iadd dX8_bite_64 ?_
                refine x_iald dX8_bite_65 rfl (by first | rfl | exact nI_add _ _ | (simp only [nI_add, pk_mul]; rfl)) (by omega) (by decide) ?_
                refine x_iret hr rfl dX8_bite_66 (by omega) (by omega) (hQ _ _ ?_)
                try dsimp only [mI, mSA] at c15 c29 c49
                exact ⟨by simp [spBite, hx], by simp [spBite, hx, mI_mI, mSA_id]⟩
        · try (exfalso; first | (simp (disch := omega) [inS_ix, inS_N, ixL_N, ix_nI, hx] at c29 <;> omega) | (simp (disch := omega) only [h0, h1, h3, Int32.le_iff_toInt_le, Int32.lt_iff_toInt_lt, ← Int32.toInt_inj, nI_toInt, Int32.toInt_zero, m1_toInt, Int64.le_iff_toInt_le, Int64.lt_iff_toInt_lt, ← Int64.toInt_inj, pk_lT, i64_toInt, Int64.toInt_zero, eq_self, not_true_eq_false, not_false_eq_true] at c15 c29 <;> omega) | omega)
          all_goals
            skip
            refine x_aload_n dX8_bite_32 rfl ?_
            refine x_bipush (v := nI 9) rfl dX8_bite_33 ?_
            refine x_callV1 lk_X8_327 (m_refuse _) ho dX8_bite_35 rfl (Nat.le_of_ble_eq_true rfl) (by omega) (by decide) (by omega) (by omega) ?_
            refine x_iret hr rfl dX8_bite_38 (by omega) (by omega) (hQ _ _ ?_)
            try dsimp only [mI, mSA] at c15 c29
            exact ⟨by simp [spBite, hx], by simp [spBite, hx, mI_mI, mSA_id]⟩
    · try (exfalso; first | (simp (disch := omega) [inS_ix, inS_N, ixL_N, ix_nI, hx] at c15 <;> omega) | (simp (disch := omega) only [h0, h1, h3, Int32.le_iff_toInt_le, Int32.lt_iff_toInt_lt, ← Int32.toInt_inj, nI_toInt, Int32.toInt_zero, m1_toInt, Int64.le_iff_toInt_le, Int64.lt_iff_toInt_lt, ← Int64.toInt_inj, pk_lT, i64_toInt, Int64.toInt_zero, eq_self, not_true_eq_false, not_false_eq_true] at c15 <;> omega) | omega)
      all_goals
        skip
        refine x_aload_n dX8_bite_18 rfl ?_
        refine x_iconst (v := nI 2) rfl dX8_bite_19 ?_
        refine x_callV1 lk_X8_327 (m_refuse _) ho dX8_bite_20 rfl (Nat.le_of_ble_eq_true rfl) (by omega) (by decide) (by omega) (by omega) ?_
        refine x_iret hr rfl dX8_bite_23 (by omega) (by omega) (hQ _ _ ?_)
        try dsimp only [mI, mSA] at c15
        exact ⟨by simp [spBite, hx], by simp [spBite, hx, mI_mI, mSA_id]⟩
  · skip
    refine CT.of (ini := false) (by decide +kernel) q1984 q164 (Nat.le_of_ble_eq_true rfl) (by decide) ?_
    intro Γ hw ho hL hr hh hini hal hd hmc hms hQ
    subst hw
    show AW Γ cX8_bite 0 0 0 [some (.ref 32), some (.int (nI t))] [] (hM M R)
    have h0 := hF.c0
    have h1 := hF.c1
    have h3 := hF.c3
    have l0 := hF.l0
    have l1 := hF.l1
    have l3 := hF.l3
    refine x_aload_n dX8_bite_0 rfl ?_
    refine x_iconst (v := nI 0) rfl dX8_bite_1 ?_
    refine m_puti (k := 1) (pf_X8_70 (ini := false)) ho hini dX8_bite_2 rfl rfl (by decide) (ms_1 _ _) ?_
    refine x_aload_n dX8_bite_5 rfl ?_
    refine x_iconst (v := nI 0) rfl dX8_bite_6 ?_
    refine m_puti (k := 0) (pf_X8_73 (ini := false)) ho hini dX8_bite_7 rfl rfl (by decide) (ms_0 _ _) ?_
    refine x_aload_n dX8_bite_10 rfl ?_
    refine x_iload_n dX8_bite_11 rfl ?_
    refine x_callV1 lk_X8_344 (m_isTinAt (M := (mI (mI M 1 (nI 0)) 0 (nI 0))) hF _) ho dX8_bite_12 rfl (Nat.le_of_ble_eq_true rfl) (by omega) (by decide) (by omega) (by omega) ?_
    refine x_ifb_ne (tgt := 24) dX8_bite_15 (by decide) (fun c15 => ?_) (fun c15 => ?_)
    · try (exfalso; first | (simp (disch := omega) [inS_ix, inS_N, ixL_N, ix_nI, hx] at c15 <;> omega) | (simp (disch := omega) only [h0, h1, h3, Int32.le_iff_toInt_le, Int32.lt_iff_toInt_lt, ← Int32.toInt_inj, nI_toInt, Int32.toInt_zero, m1_toInt, Int64.le_iff_toInt_le, Int64.lt_iff_toInt_lt, ← Int64.toInt_inj, pk_lT, i64_toInt, Int64.toInt_zero, eq_self, not_true_eq_false, not_false_eq_true] at c15 <;> omega) | omega)
      all_goals
        skip
        refine x_aload_n dX8_bite_24 rfl ?_
        refine x_iload_n dX8_bite_25 rfl ?_
        refine x_callV1 lk_X8_310 (m_isGone (M := (mI (mI M 1 (nI 0)) 0 (nI 0))) hF _ (by omega)) ho dX8_bite_26 rfl (Nat.le_of_ble_eq_true rfl) (by omega) (by decide) (by omega) (by omega) ?_
        refine x_ifb_eq (tgt := 39) dX8_bite_29 (by decide) (fun c29 => ?_) (fun c29 => ?_)
        · try (exfalso; first | (simp (disch := omega) [inS_ix, inS_N, ixL_N, ix_nI, hx] at c29 <;> omega) | (simp (disch := omega) only [h0, h1, h3, Int32.le_iff_toInt_le, Int32.lt_iff_toInt_lt, ← Int32.toInt_inj, nI_toInt, Int32.toInt_zero, m1_toInt, Int64.le_iff_toInt_le, Int64.lt_iff_toInt_lt, ← Int64.toInt_inj, pk_lT, i64_toInt, Int64.toInt_zero, eq_self, not_true_eq_false, not_false_eq_true] at c15 c29 <;> omega) | omega)
          all_goals
            skip
            refine x_aload_n dX8_bite_39 rfl ?_
            refine x_getf gf_X8_35 ho dX8_bite_40 rfl rfl ?_
            refine x_bipush (v := nI 51) rfl dX8_bite_43 ?_
            refine x_iload_n dX8_bite_45 rfl ?_
            refine x_iaddN dX8_bite_46 ?_
            refine x_iald dX8_bite_47 rfl (by first | rfl | exact nI_add _ _ | (simp only [nI_add, pk_mul]; rfl)) (by omega) (by decide) ?_
            refine x_iconst (v := nI 1) rfl dX8_bite_48 ?_
            refine x_icmp_ne (tgt := 57) dX8_bite_49 (by decide) (fun c49 => ?_) (fun c49 => ?_)
            · try (exfalso; first | (simp (disch := omega) [inS_ix, inS_N, ixL_N, ix_nI, hx] at c49 <;> omega) | (simp (disch := omega) only [h0, h1, h3, Int32.le_iff_toInt_le, Int32.lt_iff_toInt_lt, ← Int32.toInt_inj, nI_toInt, Int32.toInt_zero, m1_toInt, Int64.le_iff_toInt_le, Int64.lt_iff_toInt_lt, ← Int64.toInt_inj, pk_lT, i64_toInt, Int64.toInt_zero, eq_self, not_true_eq_false, not_false_eq_true] at c15 c29 c49 <;> omega) | omega)
              all_goals
                skip
                refine x_aload_n dX8_bite_57 rfl ?_
                refine x_getf gf_X8_35 ho dX8_bite_58 rfl rfl ?_
                refine x_bipush (v := nI 60) rfl dX8_bite_61 ?_
                refine x_iload_n dX8_bite_63 rfl ?_
                refine x_iaddN dX8_bite_64 ?_
                refine x_iald dX8_bite_65 rfl (by first | rfl | exact nI_add _ _ | (simp only [nI_add, pk_mul]; rfl)) (by omega) (by decide) ?_
                refine x_iret hr rfl dX8_bite_66 (by omega) (by omega) (hQ _ _ ?_)
                try dsimp only [mI, mSA] at c15 c29 c49
                exact ⟨by simp (disch := omega) [spBite, hx, c15, c29, c49, fiC, upd_s, upd_n, upA_s], by simp (disch := omega) [spBite, hx, c15, c29, c49, mSA_id, mI_mI]⟩
            · try (exfalso; first | (simp (disch := omega) [inS_ix, inS_N, ixL_N, ix_nI, hx] at c49 <;> omega) | (simp (disch := omega) only [h0, h1, h3, Int32.le_iff_toInt_le, Int32.lt_iff_toInt_lt, ← Int32.toInt_inj, nI_toInt, Int32.toInt_zero, m1_toInt, Int64.le_iff_toInt_le, Int64.lt_iff_toInt_lt, ← Int64.toInt_inj, pk_lT, i64_toInt, Int64.toInt_zero, eq_self, not_true_eq_false, not_false_eq_true] at c15 c29 c49 <;> omega) | omega)
              all_goals
                skip
                refine x_aload_n dX8_bite_52 rfl ?_
                refine x_iload_n dX8_bite_53 rfl ?_
                refine x_callV1 lk_X8_363 (m_finds (M := (mI (mI M 1 (nI 0)) 0 (nI 0))) hF _ (by omega)) ho dX8_bite_54 rfl (Nat.le_of_ble_eq_true rfl) (by omega) (by decide) (by omega) (by omega) ?_
                refine x_aload_n dX8_bite_57 rfl ?_
                refine x_getf gf_X8_35 ho dX8_bite_58 rfl rfl ?_
                refine x_bipush (v := nI 60) rfl dX8_bite_61 ?_
                refine x_iload_n dX8_bite_63 rfl ?_
                refine x_iaddN dX8_bite_64 ?_
                refine x_iald dX8_bite_65 rfl (by first | rfl | exact nI_add _ _ | (simp only [nI_add, pk_mul]; rfl)) (by omega) (by decide) ?_
                refine x_iret hr rfl dX8_bite_66 (by omega) (by omega) (hQ _ _ ?_)
                try dsimp only [mI, mSA] at c15 c29 c49
                exact ⟨by simp (disch := omega) [spBite, hx, c15, c29, c49, fiC, upd_s, upd_n, upA_s], by simp (disch := omega) [spBite, hx, c15, c29, c49, mSA_id, mI_mI]⟩
        · try (exfalso; first | (simp (disch := omega) [inS_ix, inS_N, ixL_N, ix_nI, hx] at c29 <;> omega) | (simp (disch := omega) only [h0, h1, h3, Int32.le_iff_toInt_le, Int32.lt_iff_toInt_lt, ← Int32.toInt_inj, nI_toInt, Int32.toInt_zero, m1_toInt, Int64.le_iff_toInt_le, Int64.lt_iff_toInt_lt, ← Int64.toInt_inj, pk_lT, i64_toInt, Int64.toInt_zero, eq_self, not_true_eq_false, not_false_eq_true] at c15 c29 <;> omega) | omega)
          all_goals
            skip
            refine x_aload_n dX8_bite_32 rfl ?_
            refine x_bipush (v := nI 9) rfl dX8_bite_33 ?_
            refine x_callV1 lk_X8_327 (m_refuse _) ho dX8_bite_35 rfl (Nat.le_of_ble_eq_true rfl) (by omega) (by decide) (by omega) (by omega) ?_
            refine x_iret hr rfl dX8_bite_38 (by omega) (by omega) (hQ _ _ ?_)
            try dsimp only [mI, mSA] at c15 c29
            exact ⟨by simp (disch := omega) [spBite, hx, c15, c29, fiC, upd_s, upd_n, upA_s], by simp (disch := omega) [spBite, hx, c15, c29, mSA_id, mI_mI]⟩
    · try (exfalso; first | (simp (disch := omega) [inS_ix, inS_N, ixL_N, ix_nI, hx] at c15 <;> omega) | (simp (disch := omega) only [h0, h1, h3, Int32.le_iff_toInt_le, Int32.lt_iff_toInt_lt, ← Int32.toInt_inj, nI_toInt, Int32.toInt_zero, m1_toInt, Int64.le_iff_toInt_le, Int64.lt_iff_toInt_lt, ← Int64.toInt_inj, pk_lT, i64_toInt, Int64.toInt_zero, eq_self, not_true_eq_false, not_false_eq_true] at c15 <;> omega) | omega)
      all_goals
        skip
        refine x_aload_n dX8_bite_18 rfl ?_
        refine x_iconst (v := nI 2) rfl dX8_bite_19 ?_
        refine x_callV1 lk_X8_327 (m_refuse _) ho dX8_bite_20 rfl (Nat.le_of_ble_eq_true rfl) (by omega) (by decide) (by omega) (by omega) ?_
        refine x_iret hr rfl dX8_bite_23 (by omega) (by omega) (hQ _ _ ?_)
        try dsimp only [mI, mSA] at c15
        exact ⟨by simp (disch := omega) [spBite, hx, c15, fiC, upd_s, upd_n, upA_s], by simp (disch := omega) [spBite, hx, c15, mSA_id, mI_mI]⟩
set_option maxHeartbeats 4000000 in
theorem m_recite {w : xW} {M : mS} {R : xH} {tm pm tn G : Nat} (hF : wF (M.2.2.1 5) tm pm tn G) (t9 q9 : Int32) : CT w yX8_recite cX8_recite 3 (some (.boolean)) [] false (3) 0 0 [.ref 32, .int t9, .int q9] (hM M R) (xret (some (.int (spRecite (M.2.2.1 5) pm tn t9 q9).1)) (hM (mSA (mI (mI M 1 (nI 0)) 0 (nI (spRecite (M.2.2.1 5) pm tn t9 q9).2.1)) 5 (spRecite (M.2.2.1 5) pm tn t9 q9).2.2) R)) := by
  have l0 := hF.l0
  have l1 := hF.l1
  have l3 := hF.l3
  rcases ix_or t9 (n := tn) (by omega) with ⟨hx, hx2⟩ | ⟨t, ht, rfl, hx⟩
  rotate_left 1
  rcases ix_or q9 (n := pm) (by omega) with ⟨hy, hy2⟩ | ⟨j, hj, rfl, hy⟩
  rotate_left 1
  · skip
    refine CT.of (ini := false) (by decide +kernel) q1992 q164 (Nat.le_of_ble_eq_true rfl) (by decide) ?_
    intro Γ hw ho hL hr hh hini hal hd hmc hms hQ
    subst hw
    show AW Γ cX8_recite 0 0 0 [some (.ref 32), some (.int (nI t)), some (.int (nI j))] [] (hM M R)
    have h0 := hF.c0
    have h1 := hF.c1
    have h3 := hF.c3
    have l0 := hF.l0
    have l1 := hF.l1
    have l3 := hF.l3
    refine x_aload_n dX8_recite_0 rfl ?_
    refine x_iconst (v := nI 0) rfl dX8_recite_1 ?_
    refine m_puti (k := 1) (pf_X8_70 (ini := false)) ho hini dX8_recite_2 rfl rfl (by decide) (ms_1 _ _) ?_
    refine x_aload_n dX8_recite_5 rfl ?_
    refine x_iconst (v := nI 0) rfl dX8_recite_6 ?_
    refine m_puti (k := 0) (pf_X8_73 (ini := false)) ho hini dX8_recite_7 rfl rfl (by decide) (ms_0 _ _) ?_
    refine x_aload_n dX8_recite_10 rfl ?_
    refine x_iload_n dX8_recite_11 rfl ?_
    refine x_callV1 lk_X8_344 (m_isTinAt (M := (mI (mI M 1 (nI 0)) 0 (nI 0))) hF _) ho dX8_recite_12 rfl (Nat.le_of_ble_eq_true rfl) (by omega) (by decide) (by omega) (by omega) ?_
    refine x_ifb_eq (tgt := 27) dX8_recite_15 (by decide) (fun c15 => ?_) (fun c15 => ?_)
    · try (exfalso; first | (simp (disch := omega) [inS_ix, inS_N, ixL_N, ix_nI, hx, hy, ixL_i] at c15 <;> omega) | (simp (disch := omega) only [h0, h1, h3, Int32.le_iff_toInt_le, Int32.lt_iff_toInt_lt, ← Int32.toInt_inj, nI_toInt, Int32.toInt_zero, m1_toInt, Int64.le_iff_toInt_le, Int64.lt_iff_toInt_lt, ← Int64.toInt_inj, pk_lT, i64_toInt, Int64.toInt_zero, eq_self, not_true_eq_false, not_false_eq_true] at c15 <;> omega) | omega)
      all_goals
        skip
        refine x_aload_n dX8_recite_27 rfl ?_
        refine x_iconst (v := nI 2) rfl dX8_recite_28 ?_
        refine x_callV1 lk_X8_85 (m_no _) ho dX8_recite_29 rfl (Nat.le_of_ble_eq_true rfl) (by omega) (by decide) (by omega) (by omega) ?_
        refine x_iret hr rfl dX8_recite_32 (by omega) (by omega) (hQ _ _ ?_)
        try dsimp only [mI, mSA] at c15
        exact ⟨by simp (disch := omega) [spRecite, hx, hy, c15], by simp (disch := omega) [spRecite, hx, hy, c15, reC, mA_5, mSA_mSA, mSA_id, upA_s, mI_mI, upd_n]⟩
    · try (exfalso; first | (simp (disch := omega) [inS_ix, inS_N, ixL_N, ix_nI, hx, hy, ixL_i] at c15 <;> omega) | (simp (disch := omega) only [h0, h1, h3, Int32.le_iff_toInt_le, Int32.lt_iff_toInt_lt, ← Int32.toInt_inj, nI_toInt, Int32.toInt_zero, m1_toInt, Int64.le_iff_toInt_le, Int64.lt_iff_toInt_lt, ← Int64.toInt_inj, pk_lT, i64_toInt, Int64.toInt_zero, eq_self, not_true_eq_false, not_false_eq_true] at c15 <;> omega) | omega)
      all_goals
        skip
        refine x_aload_n dX8_recite_18 rfl ?_
        refine x_iload_n dX8_recite_19 rfl ?_
        refine x_i2lN (by omega) dX8_recite_20 ?_
        refine x_callV1 lk_X8_336 (m_isPersonAt (M := (mI (mI M 1 (nI 0)) 0 (nI 0))) hF _) ho dX8_recite_21 rfl (Nat.le_of_ble_eq_true rfl) (by omega) (by decide) (by omega) (by omega) ?_
        refine x_ifb_ne (tgt := 33) dX8_recite_24 (by decide) (fun c24 => ?_) (fun c24 => ?_)
        · try (exfalso; first | (simp (disch := omega) [inS_ix, inS_N, ixL_N, ix_nI, hx, hy, ixL_i] at c24 <;> omega) | (simp (disch := omega) only [h0, h1, h3, Int32.le_iff_toInt_le, Int32.lt_iff_toInt_lt, ← Int32.toInt_inj, nI_toInt, Int32.toInt_zero, m1_toInt, Int64.le_iff_toInt_le, Int64.lt_iff_toInt_lt, ← Int64.toInt_inj, pk_lT, i64_toInt, Int64.toInt_zero, eq_self, not_true_eq_false, not_false_eq_true] at c15 c24 <;> omega) | omega)
          all_goals
            skip
            refine x_aload_n dX8_recite_33 rfl ?_
            refine x_getf gf_X8_35 ho dX8_recite_34 rfl rfl ?_
            refine x_bipush (v := nI 60) rfl dX8_recite_37 ?_
            refine x_iload_n dX8_recite_39 rfl ?_
            refine x_iaddN dX8_recite_40 ?_
            refine x_iald dX8_recite_41 rfl (by first | rfl | exact nI_add _ _ | (simp only [nI_add, pk_mul]; rfl)) (by omega) (by decide) ?_
            refine x_iconst (v := nI 1) rfl dX8_recite_42 ?_
            refine x_icmp_eq (tgt := 68) dX8_recite_43 (by decide) (fun c43 => ?_) (fun c43 => ?_)
            · try (exfalso; first | (simp (disch := omega) [inS_ix, inS_N, ixL_N, ix_nI, hx, hy, ixL_i] at c43 <;> omega) | (simp (disch := omega) only [h0, h1, h3, Int32.le_iff_toInt_le, Int32.lt_iff_toInt_lt, ← Int32.toInt_inj, nI_toInt, Int32.toInt_zero, m1_toInt, Int64.le_iff_toInt_le, Int64.lt_iff_toInt_lt, ← Int64.toInt_inj, pk_lT, i64_toInt, Int64.toInt_zero, eq_self, not_true_eq_false, not_false_eq_true] at c15 c24 c43 <;> omega) | omega)
              all_goals
                skip
                refine x_aload_n dX8_recite_68 rfl ?_
                refine x_bipush (v := nI 9) rfl dX8_recite_69 ?_
                refine x_callV1 lk_X8_85 (m_no _) ho dX8_recite_71 rfl (Nat.le_of_ble_eq_true rfl) (by omega) (by decide) (by omega) (by omega) ?_
                refine x_iret hr rfl dX8_recite_74 (by omega) (by omega) (hQ _ _ ?_)
                try dsimp only [mI, mSA] at c15 c24 c43
                exact ⟨by simp (disch := omega) [spRecite, hx, hy, c15, c24, c43], by simp (disch := omega) [spRecite, hx, hy, c15, c24, c43, reC, mA_5, mSA_mSA, mSA_id, upA_s, mI_mI, upd_n]⟩
            · try (exfalso; first | (simp (disch := omega) [inS_ix, inS_N, ixL_N, ix_nI, hx, hy, ixL_i] at c43 <;> omega) | (simp (disch := omega) only [h0, h1, h3, Int32.le_iff_toInt_le, Int32.lt_iff_toInt_lt, ← Int32.toInt_inj, nI_toInt, Int32.toInt_zero, m1_toInt, Int64.le_iff_toInt_le, Int64.lt_iff_toInt_lt, ← Int64.toInt_inj, pk_lT, i64_toInt, Int64.toInt_zero, eq_self, not_true_eq_false, not_false_eq_true] at c15 c24 c43 <;> omega) | omega)
              all_goals
                skip
                refine x_aload_n dX8_recite_46 rfl ?_
                refine x_iload_n dX8_recite_47 rfl ?_
                refine x_iload_n dX8_recite_48 rfl ?_
                refine x_callV2 lk_X8_354 (m_isTrue (M := (mI (mI M 1 (nI 0)) 0 (nI 0))) hF _ _ (by omega) (by omega)) ho dX8_recite_49 rfl (Nat.le_of_ble_eq_true rfl) (by omega) (by decide) (by omega) (by omega) ?_
                refine x_ifb_eq (tgt := 68) dX8_recite_52 (by decide) (fun c52 => ?_) (fun c52 => ?_)
                · try (exfalso; first | (simp (disch := omega) [inS_ix, inS_N, ixL_N, ix_nI, hx, hy, ixL_i] at c52 <;> omega) | (simp (disch := omega) only [h0, h1, h3, Int32.le_iff_toInt_le, Int32.lt_iff_toInt_lt, ← Int32.toInt_inj, nI_toInt, Int32.toInt_zero, m1_toInt, Int64.le_iff_toInt_le, Int64.lt_iff_toInt_lt, ← Int64.toInt_inj, pk_lT, i64_toInt, Int64.toInt_zero, eq_self, not_true_eq_false, not_false_eq_true] at c15 c24 c43 c52 <;> omega) | omega)
                  all_goals
                    skip
                    refine x_aload_n dX8_recite_68 rfl ?_
                    refine x_bipush (v := nI 9) rfl dX8_recite_69 ?_
                    refine x_callV1 lk_X8_85 (m_no _) ho dX8_recite_71 rfl (Nat.le_of_ble_eq_true rfl) (by omega) (by decide) (by omega) (by omega) ?_
                    refine x_iret hr rfl dX8_recite_74 (by omega) (by omega) (hQ _ _ ?_)
                    try dsimp only [mI, mSA] at c15 c24 c43 c52
                    exact ⟨by simp (disch := omega) [spRecite, hx, hy, c15, c24, c43, c52], by simp (disch := omega) [spRecite, hx, hy, c15, c24, c43, c52, reC, mA_5, mSA_mSA, mSA_id, upA_s, mI_mI, upd_n]⟩
                · try (exfalso; first | (simp (disch := omega) [inS_ix, inS_N, ixL_N, ix_nI, hx, hy, ixL_i] at c52 <;> omega) | (simp (disch := omega) only [h0, h1, h3, Int32.le_iff_toInt_le, Int32.lt_iff_toInt_lt, ← Int32.toInt_inj, nI_toInt, Int32.toInt_zero, m1_toInt, Int64.le_iff_toInt_le, Int64.lt_iff_toInt_lt, ← Int64.toInt_inj, pk_lT, i64_toInt, Int64.toInt_zero, eq_self, not_true_eq_false, not_false_eq_true] at c15 c24 c43 c52 <;> omega) | omega)
                  all_goals
                    skip
                    refine x_aload_n dX8_recite_55 rfl ?_
                    refine x_getf gf_X8_35 ho dX8_recite_56 rfl rfl ?_
                    refine x_bipush (v := nI 42) rfl dX8_recite_59 ?_
                    refine x_iload_n dX8_recite_61 rfl ?_
                    refine x_iaddN dX8_recite_62 ?_
                    refine x_iald dX8_recite_63 rfl (by first | rfl | exact nI_add _ _ | (simp only [nI_add, pk_mul]; rfl)) (by omega) (by decide) ?_
                    refine x_iload_n dX8_recite_64 rfl ?_
                    refine x_icmp_ne (tgt := 75) dX8_recite_65 (by decide) (fun c65 => ?_) (fun c65 => ?_)
                    · try (exfalso; first | (simp (disch := omega) [inS_ix, inS_N, ixL_N, ix_nI, hx, hy, ixL_i] at c65 <;> omega) | (simp (disch := omega) only [h0, h1, h3, Int32.le_iff_toInt_le, Int32.lt_iff_toInt_lt, ← Int32.toInt_inj, nI_toInt, Int32.toInt_zero, m1_toInt, Int64.le_iff_toInt_le, Int64.lt_iff_toInt_lt, ← Int64.toInt_inj, pk_lT, i64_toInt, Int64.toInt_zero, eq_self, not_true_eq_false, not_false_eq_true] at c15 c24 c43 c52 c65 <;> omega) | omega)
                      all_goals
                        skip
                        refine x_aload_n dX8_recite_75 rfl ?_
                        refine x_getf gf_X8_35 ho dX8_recite_76 rfl rfl ?_
                        refine x_bipush (v := nI 42) rfl dX8_recite_79 ?_
                        refine x_iload_n dX8_recite_81 rfl ?_
                        refine x_iaddN dX8_recite_82 ?_
                        refine x_iload_n dX8_recite_83 rfl ?_
                        refine m_iast (r := 5) dX8_recite_84 (by decide) (by decide) (fun _ => rfl) (by first | rfl | exact nI_add _ _ | (simp only [nI_add, pk_mul]; rfl)) (by omega) (by decide) ?_
                        refine x_aload_n dX8_recite_85 rfl ?_
                        refine x_getf gf_X8_35 ho dX8_recite_86 rfl rfl ?_
                        refine x_bipush (v := nI 69) rfl dX8_recite_89 ?_
                        refine x_iload_n dX8_recite_91 rfl ?_
                        refine x_iaddN dX8_recite_92 ?_
                        refine x_dup2 rfl rfl dX8_recite_93 ?_
                        refine x_iald dX8_recite_94 rfl (by first | rfl | exact nI_add _ _ | (simp only [nI_add, pk_mul]; rfl)) (by omega) (by decide) ?_
                        refine x_iconst (v := nI 1) rfl dX8_recite_95 ?_
                        refine x_iload_n dX8_recite_96 rfl ?_
                        refine x_ishl dX8_recite_97 ?_
                        refine x_ior dX8_recite_98 ?_
                        refine m_iast (r := 5) dX8_recite_99 (by decide) (by decide) (fun _ => rfl) (by first | rfl | exact nI_add _ _ | (simp only [nI_add, pk_mul]; rfl)) (by omega) (by decide) ?_
                        refine x_iconst (v := nI 1) rfl dX8_recite_100 ?_
                        refine x_iret hr rfl dX8_recite_101 (by omega) (by omega) (hQ _ _ ?_)
                        try dsimp only [mI, mSA] at c15 c24 c43 c52 c65
                        exact ⟨by simp (disch := omega) [spRecite, hx, hy, c15, c24, c43, c52, c65], by simp (disch := omega) [spRecite, hx, hy, c15, c24, c43, c52, c65, reC, mA_5, mSA_mSA, mSA_id, upA_s, mI_mI, upd_n]⟩
                    · try (exfalso; first | (simp (disch := omega) [inS_ix, inS_N, ixL_N, ix_nI, hx, hy, ixL_i] at c65 <;> omega) | (simp (disch := omega) only [h0, h1, h3, Int32.le_iff_toInt_le, Int32.lt_iff_toInt_lt, ← Int32.toInt_inj, nI_toInt, Int32.toInt_zero, m1_toInt, Int64.le_iff_toInt_le, Int64.lt_iff_toInt_lt, ← Int64.toInt_inj, pk_lT, i64_toInt, Int64.toInt_zero, eq_self, not_true_eq_false, not_false_eq_true] at c15 c24 c43 c52 c65 <;> omega) | omega)
                      all_goals
                        skip
                        refine x_aload_n dX8_recite_68 rfl ?_
                        refine x_bipush (v := nI 9) rfl dX8_recite_69 ?_
                        refine x_callV1 lk_X8_85 (m_no _) ho dX8_recite_71 rfl (Nat.le_of_ble_eq_true rfl) (by omega) (by decide) (by omega) (by omega) ?_
                        refine x_iret hr rfl dX8_recite_74 (by omega) (by omega) (hQ _ _ ?_)
                        try dsimp only [mI, mSA] at c15 c24 c43 c52 c65
                        exact ⟨by simp (disch := omega) [spRecite, hx, hy, c15, c24, c43, c52, c65], by simp (disch := omega) [spRecite, hx, hy, c15, c24, c43, c52, c65, reC, mA_5, mSA_mSA, mSA_id, upA_s, mI_mI, upd_n]⟩
        · try (exfalso; first | (simp (disch := omega) [inS_ix, inS_N, ixL_N, ix_nI, hx, hy, ixL_i] at c24 <;> omega) | (simp (disch := omega) only [h0, h1, h3, Int32.le_iff_toInt_le, Int32.lt_iff_toInt_lt, ← Int32.toInt_inj, nI_toInt, Int32.toInt_zero, m1_toInt, Int64.le_iff_toInt_le, Int64.lt_iff_toInt_lt, ← Int64.toInt_inj, pk_lT, i64_toInt, Int64.toInt_zero, eq_self, not_true_eq_false, not_false_eq_true] at c15 c24 <;> omega) | omega)
          all_goals
            skip
            refine x_aload_n dX8_recite_27 rfl ?_
            refine x_iconst (v := nI 2) rfl dX8_recite_28 ?_
            refine x_callV1 lk_X8_85 (m_no _) ho dX8_recite_29 rfl (Nat.le_of_ble_eq_true rfl) (by omega) (by decide) (by omega) (by omega) ?_
            refine x_iret hr rfl dX8_recite_32 (by omega) (by omega) (hQ _ _ ?_)
            try dsimp only [mI, mSA] at c15 c24
            exact ⟨by simp (disch := omega) [spRecite, hx, hy, c15, c24], by simp (disch := omega) [spRecite, hx, hy, c15, c24, reC, mA_5, mSA_mSA, mSA_id, upA_s, mI_mI, upd_n]⟩
  · skip
    refine CT.of (ini := false) (by decide +kernel) q1992 q164 (Nat.le_of_ble_eq_true rfl) (by decide) ?_
    intro Γ hw ho hL hr hh hini hal hd hmc hms hQ
    subst hw
    show AW Γ cX8_recite 0 0 0 [some (.ref 32), some (.int t9), some (.int q9)] [] (hM M R)
    have h0 := hF.c0
    have h1 := hF.c1
    have h3 := hF.c3
    have l0 := hF.l0
    have l1 := hF.l1
    have l3 := hF.l3
    refine x_aload_n dX8_recite_0 rfl ?_
    refine x_iconst (v := nI 0) rfl dX8_recite_1 ?_
    refine m_puti (k := 1) (pf_X8_70 (ini := false)) ho hini dX8_recite_2 rfl rfl (by decide) (ms_1 _ _) ?_
    refine x_aload_n dX8_recite_5 rfl ?_
    refine x_iconst (v := nI 0) rfl dX8_recite_6 ?_
    refine m_puti (k := 0) (pf_X8_73 (ini := false)) ho hini dX8_recite_7 rfl rfl (by decide) (ms_0 _ _) ?_
    refine x_aload_n dX8_recite_10 rfl ?_
    refine x_iload_n dX8_recite_11 rfl ?_
    refine x_callV1 lk_X8_344 (m_isTinAt (M := (mI (mI M 1 (nI 0)) 0 (nI 0))) hF _) ho dX8_recite_12 rfl (Nat.le_of_ble_eq_true rfl) (by omega) (by decide) (by omega) (by omega) ?_
    refine x_ifb_eq (tgt := 27) dX8_recite_15 (by decide) (fun c15 => ?_) (fun c15 => ?_)
    · try (exfalso; first | (simp (disch := omega) [inS_ix, inS_N, ixL_N, ix_nI, hx] at c15 <;> omega) | (simp (disch := omega) only [h0, h1, h3, Int32.le_iff_toInt_le, Int32.lt_iff_toInt_lt, ← Int32.toInt_inj, nI_toInt, Int32.toInt_zero, m1_toInt, Int64.le_iff_toInt_le, Int64.lt_iff_toInt_lt, ← Int64.toInt_inj, pk_lT, i64_toInt, Int64.toInt_zero, eq_self, not_true_eq_false, not_false_eq_true] at c15 <;> omega) | omega)
      all_goals
        skip
        refine x_aload_n dX8_recite_27 rfl ?_
        refine x_iconst (v := nI 2) rfl dX8_recite_28 ?_
        refine x_callV1 lk_X8_85 (m_no _) ho dX8_recite_29 rfl (Nat.le_of_ble_eq_true rfl) (by omega) (by decide) (by omega) (by omega) ?_
        refine x_iret hr rfl dX8_recite_32 (by omega) (by omega) (hQ _ _ ?_)
        try dsimp only [mI, mSA] at c15
        exact ⟨by simp [spRecite, hx], by simp [spRecite, hx, mI_mI, mSA_id]⟩
    · try (exfalso; first | (simp (disch := omega) [inS_ix, inS_N, ixL_N, ix_nI, hx] at c15 <;> omega) | (simp (disch := omega) only [h0, h1, h3, Int32.le_iff_toInt_le, Int32.lt_iff_toInt_lt, ← Int32.toInt_inj, nI_toInt, Int32.toInt_zero, m1_toInt, Int64.le_iff_toInt_le, Int64.lt_iff_toInt_lt, ← Int64.toInt_inj, pk_lT, i64_toInt, Int64.toInt_zero, eq_self, not_true_eq_false, not_false_eq_true] at c15 <;> omega) | omega)
      all_goals
        skip
        refine x_aload_n dX8_recite_18 rfl ?_
        refine x_iload_n dX8_recite_19 rfl ?_
        refine x_i2l dX8_recite_20 ?_
        refine x_callV1 lk_X8_336 (m_isPersonAt (M := (mI (mI M 1 (nI 0)) 0 (nI 0))) hF _) ho dX8_recite_21 rfl (Nat.le_of_ble_eq_true rfl) (by omega) (by decide) (by omega) (by omega) ?_
        refine x_ifb_ne (tgt := 33) dX8_recite_24 (by decide) (fun c24 => ?_) (fun c24 => ?_)
        · try (exfalso; first | (simp (disch := omega) [inS_ix, inS_N, ixL_N, ix_nI, hx] at c24 <;> omega) | (simp (disch := omega) only [h0, h1, h3, Int32.le_iff_toInt_le, Int32.lt_iff_toInt_lt, ← Int32.toInt_inj, nI_toInt, Int32.toInt_zero, m1_toInt, Int64.le_iff_toInt_le, Int64.lt_iff_toInt_lt, ← Int64.toInt_inj, pk_lT, i64_toInt, Int64.toInt_zero, eq_self, not_true_eq_false, not_false_eq_true] at c15 c24 <;> omega) | omega)
          all_goals
            skip
            refine x_aload_n dX8_recite_33 rfl ?_
            refine x_getf gf_X8_35 ho dX8_recite_34 rfl rfl ?_
            refine x_bipush (v := nI 60) rfl dX8_recite_37 ?_
            refine x_iload_n dX8_recite_39 rfl ?_
            refine x_iadd dX8_recite_40 ?_
            refine x_iald dX8_recite_41 rfl (by first | rfl | exact nI_add _ _ | (simp only [nI_add, pk_mul]; rfl)) (by omega) (by decide) ?_
            refine x_iconst (v := nI 1) rfl dX8_recite_42 ?_
            refine x_icmp_eq (tgt := 68) dX8_recite_43 (by decide) (fun c43 => ?_) (fun c43 => ?_)
            · try (exfalso; first | (simp (disch := omega) [inS_ix, inS_N, ixL_N, ix_nI, hx] at c43 <;> omega) | (simp (disch := omega) only [h0, h1, h3, Int32.le_iff_toInt_le, Int32.lt_iff_toInt_lt, ← Int32.toInt_inj, nI_toInt, Int32.toInt_zero, m1_toInt, Int64.le_iff_toInt_le, Int64.lt_iff_toInt_lt, ← Int64.toInt_inj, pk_lT, i64_toInt, Int64.toInt_zero, eq_self, not_true_eq_false, not_false_eq_true] at c15 c24 c43 <;> omega) | omega)
              all_goals
                skip
                refine x_aload_n dX8_recite_68 rfl ?_
                refine x_bipush (v := nI 9) rfl dX8_recite_69 ?_
                refine x_callV1 lk_X8_85 (m_no _) ho dX8_recite_71 rfl (Nat.le_of_ble_eq_true rfl) (by omega) (by decide) (by omega) (by omega) ?_
                refine x_iret hr rfl dX8_recite_74 (by omega) (by omega) (hQ _ _ ?_)
                try dsimp only [mI, mSA] at c15 c24 c43
                exact ⟨by simp [spRecite, hx], by simp [spRecite, hx, mI_mI, mSA_id]⟩
            · try (exfalso; first | (simp (disch := omega) [inS_ix, inS_N, ixL_N, ix_nI, hx] at c43 <;> omega) | (simp (disch := omega) only [h0, h1, h3, Int32.le_iff_toInt_le, Int32.lt_iff_toInt_lt, ← Int32.toInt_inj, nI_toInt, Int32.toInt_zero, m1_toInt, Int64.le_iff_toInt_le, Int64.lt_iff_toInt_lt, ← Int64.toInt_inj, pk_lT, i64_toInt, Int64.toInt_zero, eq_self, not_true_eq_false, not_false_eq_true] at c15 c24 c43 <;> omega) | omega)
              all_goals
                skip
                refine x_aload_n dX8_recite_46 rfl ?_
                refine x_iload_n dX8_recite_47 rfl ?_
                refine x_iload_n dX8_recite_48 rfl ?_
                refine x_callV2 lk_X8_354 (m_isTrue (M := (mI (mI M 1 (nI 0)) 0 (nI 0))) hF _ _ (by omega) (by omega)) ho dX8_recite_49 rfl (Nat.le_of_ble_eq_true rfl) (by omega) (by decide) (by omega) (by omega) ?_
                refine x_ifb_eq (tgt := 68) dX8_recite_52 (by decide) (fun c52 => ?_) (fun c52 => ?_)
                · try (exfalso; first | (simp (disch := omega) [inS_ix, inS_N, ixL_N, ix_nI, hx] at c52 <;> omega) | (simp (disch := omega) only [h0, h1, h3, Int32.le_iff_toInt_le, Int32.lt_iff_toInt_lt, ← Int32.toInt_inj, nI_toInt, Int32.toInt_zero, m1_toInt, Int64.le_iff_toInt_le, Int64.lt_iff_toInt_lt, ← Int64.toInt_inj, pk_lT, i64_toInt, Int64.toInt_zero, eq_self, not_true_eq_false, not_false_eq_true] at c15 c24 c43 c52 <;> omega) | omega)
                  all_goals
                    skip
                    refine x_aload_n dX8_recite_68 rfl ?_
                    refine x_bipush (v := nI 9) rfl dX8_recite_69 ?_
                    refine x_callV1 lk_X8_85 (m_no _) ho dX8_recite_71 rfl (Nat.le_of_ble_eq_true rfl) (by omega) (by decide) (by omega) (by omega) ?_
                    refine x_iret hr rfl dX8_recite_74 (by omega) (by omega) (hQ _ _ ?_)
                    try dsimp only [mI, mSA] at c15 c24 c43 c52
                    exact ⟨by simp [spRecite, hx], by simp [spRecite, hx, mI_mI, mSA_id]⟩
                · try (exfalso; first | (simp (disch := omega) [inS_ix, inS_N, ixL_N, ix_nI, hx] at c52 <;> omega) | (simp (disch := omega) only [h0, h1, h3, Int32.le_iff_toInt_le, Int32.lt_iff_toInt_lt, ← Int32.toInt_inj, nI_toInt, Int32.toInt_zero, m1_toInt, Int64.le_iff_toInt_le, Int64.lt_iff_toInt_lt, ← Int64.toInt_inj, pk_lT, i64_toInt, Int64.toInt_zero, eq_self, not_true_eq_false, not_false_eq_true] at c15 c24 c43 c52 <;> omega) | omega)
                  all_goals
                    skip
                    refine x_aload_n dX8_recite_55 rfl ?_
                    refine x_getf gf_X8_35 ho dX8_recite_56 rfl rfl ?_
                    refine x_bipush (v := nI 42) rfl dX8_recite_59 ?_
                    refine x_iload_n dX8_recite_61 rfl ?_
                    refine x_iadd dX8_recite_62 ?_
                    refine x_iald dX8_recite_63 rfl (by first | rfl | exact nI_add _ _ | (simp only [nI_add, pk_mul]; rfl)) (by omega) (by decide) ?_
                    refine x_iload_n dX8_recite_64 rfl ?_
                    refine x_icmp_ne (tgt := 75) dX8_recite_65 (by decide) (fun c65 => ?_) (fun c65 => ?_)
                    · try (exfalso; first | (simp (disch := omega) [inS_ix, inS_N, ixL_N, ix_nI, hx] at c65 <;> omega) | (simp (disch := omega) only [h0, h1, h3, Int32.le_iff_toInt_le, Int32.lt_iff_toInt_lt, ← Int32.toInt_inj, nI_toInt, Int32.toInt_zero, m1_toInt, Int64.le_iff_toInt_le, Int64.lt_iff_toInt_lt, ← Int64.toInt_inj, pk_lT, i64_toInt, Int64.toInt_zero, eq_self, not_true_eq_false, not_false_eq_true] at c15 c24 c43 c52 c65 <;> omega) | omega)
                      all_goals
                        skip
                        refine x_aload_n dX8_recite_75 rfl ?_
                        refine x_getf gf_X8_35 ho dX8_recite_76 rfl rfl ?_
                        refine x_bipush (v := nI 42) rfl dX8_recite_79 ?_
                        refine x_iload_n dX8_recite_81 rfl ?_
                        refine x_iadd dX8_recite_82 ?_
                        refine x_iload_n dX8_recite_83 rfl ?_
                        refine m_iast (r := 5) dX8_recite_84 (by decide) (by decide) (fun _ => rfl) (by first | rfl | exact nI_add _ _ | (simp only [nI_add, pk_mul]; rfl)) (by omega) (by decide) ?_
                        refine x_aload_n dX8_recite_85 rfl ?_
                        refine x_getf gf_X8_35 ho dX8_recite_86 rfl rfl ?_
                        refine x_bipush (v := nI 69) rfl dX8_recite_89 ?_
                        refine x_iload_n dX8_recite_91 rfl ?_
                        refine x_iadd dX8_recite_92 ?_
                        refine x_dup2 rfl rfl dX8_recite_93 ?_
                        refine x_iald dX8_recite_94 rfl (by first | rfl | exact nI_add _ _ | (simp only [nI_add, pk_mul]; rfl)) (by omega) (by decide) ?_
                        refine x_iconst (v := nI 1) rfl dX8_recite_95 ?_
                        refine x_iload_n dX8_recite_96 rfl ?_
                        refine x_ishl dX8_recite_97 ?_
                        refine x_ior dX8_recite_98 ?_
                        refine m_iast (r := 5) dX8_recite_99 (by decide) (by decide) (fun _ => rfl) (by first | rfl | exact nI_add _ _ | (simp only [nI_add, pk_mul]; rfl)) (by omega) (by decide) ?_
                        refine x_iconst (v := nI 1) rfl dX8_recite_100 ?_
                        refine x_iret hr rfl dX8_recite_101 (by omega) (by omega) (hQ _ _ ?_)
                        try dsimp only [mI, mSA] at c15 c24 c43 c52 c65
                        exact ⟨by simp [spRecite, hx], by simp [spRecite, hx, mI_mI, mSA_id]⟩
                    · try (exfalso; first | (simp (disch := omega) [inS_ix, inS_N, ixL_N, ix_nI, hx] at c65 <;> omega) | (simp (disch := omega) only [h0, h1, h3, Int32.le_iff_toInt_le, Int32.lt_iff_toInt_lt, ← Int32.toInt_inj, nI_toInt, Int32.toInt_zero, m1_toInt, Int64.le_iff_toInt_le, Int64.lt_iff_toInt_lt, ← Int64.toInt_inj, pk_lT, i64_toInt, Int64.toInt_zero, eq_self, not_true_eq_false, not_false_eq_true] at c15 c24 c43 c52 c65 <;> omega) | omega)
                      all_goals
                        skip
                        refine x_aload_n dX8_recite_68 rfl ?_
                        refine x_bipush (v := nI 9) rfl dX8_recite_69 ?_
                        refine x_callV1 lk_X8_85 (m_no _) ho dX8_recite_71 rfl (Nat.le_of_ble_eq_true rfl) (by omega) (by decide) (by omega) (by omega) ?_
                        refine x_iret hr rfl dX8_recite_74 (by omega) (by omega) (hQ _ _ ?_)
                        try dsimp only [mI, mSA] at c15 c24 c43 c52 c65
                        exact ⟨by simp [spRecite, hx], by simp [spRecite, hx, mI_mI, mSA_id]⟩
        · try (exfalso; first | (simp (disch := omega) [inS_ix, inS_N, ixL_N, ix_nI, hx] at c24 <;> omega) | (simp (disch := omega) only [h0, h1, h3, Int32.le_iff_toInt_le, Int32.lt_iff_toInt_lt, ← Int32.toInt_inj, nI_toInt, Int32.toInt_zero, m1_toInt, Int64.le_iff_toInt_le, Int64.lt_iff_toInt_lt, ← Int64.toInt_inj, pk_lT, i64_toInt, Int64.toInt_zero, eq_self, not_true_eq_false, not_false_eq_true] at c15 c24 <;> omega) | omega)
          all_goals
            skip
            refine x_aload_n dX8_recite_27 rfl ?_
            refine x_iconst (v := nI 2) rfl dX8_recite_28 ?_
            refine x_callV1 lk_X8_85 (m_no _) ho dX8_recite_29 rfl (Nat.le_of_ble_eq_true rfl) (by omega) (by decide) (by omega) (by omega) ?_
            refine x_iret hr rfl dX8_recite_32 (by omega) (by omega) (hQ _ _ ?_)
            try dsimp only [mI, mSA] at c15 c24
            exact ⟨by simp [spRecite, hx], by simp [spRecite, hx, mI_mI, mSA_id]⟩
  · skip
    refine CT.of (ini := false) (by decide +kernel) q1992 q164 (Nat.le_of_ble_eq_true rfl) (by decide) ?_
    intro Γ hw ho hL hr hh hini hal hd hmc hms hQ
    subst hw
    show AW Γ cX8_recite 0 0 0 [some (.ref 32), some (.int (nI t)), some (.int q9)] [] (hM M R)
    have h0 := hF.c0
    have h1 := hF.c1
    have h3 := hF.c3
    have l0 := hF.l0
    have l1 := hF.l1
    have l3 := hF.l3
    refine x_aload_n dX8_recite_0 rfl ?_
    refine x_iconst (v := nI 0) rfl dX8_recite_1 ?_
    refine m_puti (k := 1) (pf_X8_70 (ini := false)) ho hini dX8_recite_2 rfl rfl (by decide) (ms_1 _ _) ?_
    refine x_aload_n dX8_recite_5 rfl ?_
    refine x_iconst (v := nI 0) rfl dX8_recite_6 ?_
    refine m_puti (k := 0) (pf_X8_73 (ini := false)) ho hini dX8_recite_7 rfl rfl (by decide) (ms_0 _ _) ?_
    refine x_aload_n dX8_recite_10 rfl ?_
    refine x_iload_n dX8_recite_11 rfl ?_
    refine x_callV1 lk_X8_344 (m_isTinAt (M := (mI (mI M 1 (nI 0)) 0 (nI 0))) hF _) ho dX8_recite_12 rfl (Nat.le_of_ble_eq_true rfl) (by omega) (by decide) (by omega) (by omega) ?_
    refine x_ifb_eq (tgt := 27) dX8_recite_15 (by decide) (fun c15 => ?_) (fun c15 => ?_)
    · try (exfalso; first | (simp (disch := omega) [inS_ix, inS_N, ixL_N, ix_nI, hx, hy, ixL_i] at c15 <;> omega) | (simp (disch := omega) only [h0, h1, h3, Int32.le_iff_toInt_le, Int32.lt_iff_toInt_lt, ← Int32.toInt_inj, nI_toInt, Int32.toInt_zero, m1_toInt, Int64.le_iff_toInt_le, Int64.lt_iff_toInt_lt, ← Int64.toInt_inj, pk_lT, i64_toInt, Int64.toInt_zero, eq_self, not_true_eq_false, not_false_eq_true] at c15 <;> omega) | omega)
      all_goals
        skip
        refine x_aload_n dX8_recite_27 rfl ?_
        refine x_iconst (v := nI 2) rfl dX8_recite_28 ?_
        refine x_callV1 lk_X8_85 (m_no _) ho dX8_recite_29 rfl (Nat.le_of_ble_eq_true rfl) (by omega) (by decide) (by omega) (by omega) ?_
        refine x_iret hr rfl dX8_recite_32 (by omega) (by omega) (hQ _ _ ?_)
        try dsimp only [mI, mSA] at c15
        exact ⟨by simp [spRecite, hx, hy], by simp [spRecite, hx, hy, mI_mI, mSA_id]⟩
    · try (exfalso; first | (simp (disch := omega) [inS_ix, inS_N, ixL_N, ix_nI, hx, hy, ixL_i] at c15 <;> omega) | (simp (disch := omega) only [h0, h1, h3, Int32.le_iff_toInt_le, Int32.lt_iff_toInt_lt, ← Int32.toInt_inj, nI_toInt, Int32.toInt_zero, m1_toInt, Int64.le_iff_toInt_le, Int64.lt_iff_toInt_lt, ← Int64.toInt_inj, pk_lT, i64_toInt, Int64.toInt_zero, eq_self, not_true_eq_false, not_false_eq_true] at c15 <;> omega) | omega)
      all_goals
        skip
        refine x_aload_n dX8_recite_18 rfl ?_
        refine x_iload_n dX8_recite_19 rfl ?_
        refine x_i2l dX8_recite_20 ?_
        refine x_callV1 lk_X8_336 (m_isPersonAt (M := (mI (mI M 1 (nI 0)) 0 (nI 0))) hF _) ho dX8_recite_21 rfl (Nat.le_of_ble_eq_true rfl) (by omega) (by decide) (by omega) (by omega) ?_
        refine x_ifb_ne (tgt := 33) dX8_recite_24 (by decide) (fun c24 => ?_) (fun c24 => ?_)
        · try (exfalso; first | (simp (disch := omega) [inS_ix, inS_N, ixL_N, ix_nI, hx, hy, ixL_i] at c24 <;> omega) | (simp (disch := omega) only [h0, h1, h3, Int32.le_iff_toInt_le, Int32.lt_iff_toInt_lt, ← Int32.toInt_inj, nI_toInt, Int32.toInt_zero, m1_toInt, Int64.le_iff_toInt_le, Int64.lt_iff_toInt_lt, ← Int64.toInt_inj, pk_lT, i64_toInt, Int64.toInt_zero, eq_self, not_true_eq_false, not_false_eq_true] at c15 c24 <;> omega) | omega)
          all_goals
            skip
            refine x_aload_n dX8_recite_33 rfl ?_
            refine x_getf gf_X8_35 ho dX8_recite_34 rfl rfl ?_
            refine x_bipush (v := nI 60) rfl dX8_recite_37 ?_
            refine x_iload_n dX8_recite_39 rfl ?_
            refine x_iaddN dX8_recite_40 ?_
            refine x_iald dX8_recite_41 rfl (by first | rfl | exact nI_add _ _ | (simp only [nI_add, pk_mul]; rfl)) (by omega) (by decide) ?_
            refine x_iconst (v := nI 1) rfl dX8_recite_42 ?_
            refine x_icmp_eq (tgt := 68) dX8_recite_43 (by decide) (fun c43 => ?_) (fun c43 => ?_)
            · try (exfalso; first | (simp (disch := omega) [inS_ix, inS_N, ixL_N, ix_nI, hx, hy, ixL_i] at c43 <;> omega) | (simp (disch := omega) only [h0, h1, h3, Int32.le_iff_toInt_le, Int32.lt_iff_toInt_lt, ← Int32.toInt_inj, nI_toInt, Int32.toInt_zero, m1_toInt, Int64.le_iff_toInt_le, Int64.lt_iff_toInt_lt, ← Int64.toInt_inj, pk_lT, i64_toInt, Int64.toInt_zero, eq_self, not_true_eq_false, not_false_eq_true] at c15 c24 c43 <;> omega) | omega)
              all_goals
                skip
                refine x_aload_n dX8_recite_68 rfl ?_
                refine x_bipush (v := nI 9) rfl dX8_recite_69 ?_
                refine x_callV1 lk_X8_85 (m_no _) ho dX8_recite_71 rfl (Nat.le_of_ble_eq_true rfl) (by omega) (by decide) (by omega) (by omega) ?_
                refine x_iret hr rfl dX8_recite_74 (by omega) (by omega) (hQ _ _ ?_)
                try dsimp only [mI, mSA] at c15 c24 c43
                exact ⟨by simp [spRecite, hx, hy], by simp [spRecite, hx, hy, mI_mI, mSA_id]⟩
            · try (exfalso; first | (simp (disch := omega) [inS_ix, inS_N, ixL_N, ix_nI, hx, hy, ixL_i] at c43 <;> omega) | (simp (disch := omega) only [h0, h1, h3, Int32.le_iff_toInt_le, Int32.lt_iff_toInt_lt, ← Int32.toInt_inj, nI_toInt, Int32.toInt_zero, m1_toInt, Int64.le_iff_toInt_le, Int64.lt_iff_toInt_lt, ← Int64.toInt_inj, pk_lT, i64_toInt, Int64.toInt_zero, eq_self, not_true_eq_false, not_false_eq_true] at c15 c24 c43 <;> omega) | omega)
              all_goals
                skip
                refine x_aload_n dX8_recite_46 rfl ?_
                refine x_iload_n dX8_recite_47 rfl ?_
                refine x_iload_n dX8_recite_48 rfl ?_
                refine x_callV2 lk_X8_354 (m_isTrue (M := (mI (mI M 1 (nI 0)) 0 (nI 0))) hF _ _ (by omega) (by omega)) ho dX8_recite_49 rfl (Nat.le_of_ble_eq_true rfl) (by omega) (by decide) (by omega) (by omega) ?_
                refine x_ifb_eq (tgt := 68) dX8_recite_52 (by decide) (fun c52 => ?_) (fun c52 => ?_)
                · try (exfalso; first | (simp (disch := omega) [inS_ix, inS_N, ixL_N, ix_nI, hx, hy, ixL_i] at c52 <;> omega) | (simp (disch := omega) only [h0, h1, h3, Int32.le_iff_toInt_le, Int32.lt_iff_toInt_lt, ← Int32.toInt_inj, nI_toInt, Int32.toInt_zero, m1_toInt, Int64.le_iff_toInt_le, Int64.lt_iff_toInt_lt, ← Int64.toInt_inj, pk_lT, i64_toInt, Int64.toInt_zero, eq_self, not_true_eq_false, not_false_eq_true] at c15 c24 c43 c52 <;> omega) | omega)
                  all_goals
                    skip
                    refine x_aload_n dX8_recite_68 rfl ?_
                    refine x_bipush (v := nI 9) rfl dX8_recite_69 ?_
                    refine x_callV1 lk_X8_85 (m_no _) ho dX8_recite_71 rfl (Nat.le_of_ble_eq_true rfl) (by omega) (by decide) (by omega) (by omega) ?_
                    refine x_iret hr rfl dX8_recite_74 (by omega) (by omega) (hQ _ _ ?_)
                    try dsimp only [mI, mSA] at c15 c24 c43 c52
                    exact ⟨by simp [spRecite, hx, hy], by simp [spRecite, hx, hy, mI_mI, mSA_id]⟩
                · try (exfalso; first | (simp (disch := omega) [inS_ix, inS_N, ixL_N, ix_nI, hx, hy, ixL_i] at c52 <;> omega) | (simp (disch := omega) only [h0, h1, h3, Int32.le_iff_toInt_le, Int32.lt_iff_toInt_lt, ← Int32.toInt_inj, nI_toInt, Int32.toInt_zero, m1_toInt, Int64.le_iff_toInt_le, Int64.lt_iff_toInt_lt, ← Int64.toInt_inj, pk_lT, i64_toInt, Int64.toInt_zero, eq_self, not_true_eq_false, not_false_eq_true] at c15 c24 c43 c52 <;> omega) | omega)
                  all_goals
                    skip
                    refine x_aload_n dX8_recite_55 rfl ?_
                    refine x_getf gf_X8_35 ho dX8_recite_56 rfl rfl ?_
                    refine x_bipush (v := nI 42) rfl dX8_recite_59 ?_
                    refine x_iload_n dX8_recite_61 rfl ?_
                    refine x_iaddN dX8_recite_62 ?_
                    refine x_iald dX8_recite_63 rfl (by first | rfl | exact nI_add _ _ | (simp only [nI_add, pk_mul]; rfl)) (by omega) (by decide) ?_
                    refine x_iload_n dX8_recite_64 rfl ?_
                    refine x_icmp_ne (tgt := 75) dX8_recite_65 (by decide) (fun c65 => ?_) (fun c65 => ?_)
                    · try (exfalso; first | (simp (disch := omega) [inS_ix, inS_N, ixL_N, ix_nI, hx, hy, ixL_i] at c65 <;> omega) | (simp (disch := omega) only [h0, h1, h3, Int32.le_iff_toInt_le, Int32.lt_iff_toInt_lt, ← Int32.toInt_inj, nI_toInt, Int32.toInt_zero, m1_toInt, Int64.le_iff_toInt_le, Int64.lt_iff_toInt_lt, ← Int64.toInt_inj, pk_lT, i64_toInt, Int64.toInt_zero, eq_self, not_true_eq_false, not_false_eq_true] at c15 c24 c43 c52 c65 <;> omega) | omega)
                      all_goals
                        skip
                        refine x_aload_n dX8_recite_75 rfl ?_
                        refine x_getf gf_X8_35 ho dX8_recite_76 rfl rfl ?_
                        refine x_bipush (v := nI 42) rfl dX8_recite_79 ?_
                        refine x_iload_n dX8_recite_81 rfl ?_
                        refine x_iaddN dX8_recite_82 ?_
                        refine x_iload_n dX8_recite_83 rfl ?_
                        refine m_iast (r := 5) dX8_recite_84 (by decide) (by decide) (fun _ => rfl) (by first | rfl | exact nI_add _ _ | (simp only [nI_add, pk_mul]; rfl)) (by omega) (by decide) ?_
                        refine x_aload_n dX8_recite_85 rfl ?_
                        refine x_getf gf_X8_35 ho dX8_recite_86 rfl rfl ?_
                        refine x_bipush (v := nI 69) rfl dX8_recite_89 ?_
                        refine x_iload_n dX8_recite_91 rfl ?_
                        refine x_iaddN dX8_recite_92 ?_
                        refine x_dup2 rfl rfl dX8_recite_93 ?_
                        refine x_iald dX8_recite_94 rfl (by first | rfl | exact nI_add _ _ | (simp only [nI_add, pk_mul]; rfl)) (by omega) (by decide) ?_
                        refine x_iconst (v := nI 1) rfl dX8_recite_95 ?_
                        refine x_iload_n dX8_recite_96 rfl ?_
                        refine x_ishl dX8_recite_97 ?_
                        refine x_ior dX8_recite_98 ?_
                        refine m_iast (r := 5) dX8_recite_99 (by decide) (by decide) (fun _ => rfl) (by first | rfl | exact nI_add _ _ | (simp only [nI_add, pk_mul]; rfl)) (by omega) (by decide) ?_
                        refine x_iconst (v := nI 1) rfl dX8_recite_100 ?_
                        refine x_iret hr rfl dX8_recite_101 (by omega) (by omega) (hQ _ _ ?_)
                        try dsimp only [mI, mSA] at c15 c24 c43 c52 c65
                        exact ⟨by simp [spRecite, hx, hy], by simp [spRecite, hx, hy, mI_mI, mSA_id]⟩
                    · try (exfalso; first | (simp (disch := omega) [inS_ix, inS_N, ixL_N, ix_nI, hx, hy, ixL_i] at c65 <;> omega) | (simp (disch := omega) only [h0, h1, h3, Int32.le_iff_toInt_le, Int32.lt_iff_toInt_lt, ← Int32.toInt_inj, nI_toInt, Int32.toInt_zero, m1_toInt, Int64.le_iff_toInt_le, Int64.lt_iff_toInt_lt, ← Int64.toInt_inj, pk_lT, i64_toInt, Int64.toInt_zero, eq_self, not_true_eq_false, not_false_eq_true] at c15 c24 c43 c52 c65 <;> omega) | omega)
                      all_goals
                        skip
                        refine x_aload_n dX8_recite_68 rfl ?_
                        refine x_bipush (v := nI 9) rfl dX8_recite_69 ?_
                        refine x_callV1 lk_X8_85 (m_no _) ho dX8_recite_71 rfl (Nat.le_of_ble_eq_true rfl) (by omega) (by decide) (by omega) (by omega) ?_
                        refine x_iret hr rfl dX8_recite_74 (by omega) (by omega) (hQ _ _ ?_)
                        try dsimp only [mI, mSA] at c15 c24 c43 c52 c65
                        exact ⟨by simp [spRecite, hx, hy], by simp [spRecite, hx, hy, mI_mI, mSA_id]⟩
        · try (exfalso; first | (simp (disch := omega) [inS_ix, inS_N, ixL_N, ix_nI, hx, hy, ixL_i] at c24 <;> omega) | (simp (disch := omega) only [h0, h1, h3, Int32.le_iff_toInt_le, Int32.lt_iff_toInt_lt, ← Int32.toInt_inj, nI_toInt, Int32.toInt_zero, m1_toInt, Int64.le_iff_toInt_le, Int64.lt_iff_toInt_lt, ← Int64.toInt_inj, pk_lT, i64_toInt, Int64.toInt_zero, eq_self, not_true_eq_false, not_false_eq_true] at c15 c24 <;> omega) | omega)
          all_goals
            skip
            refine x_aload_n dX8_recite_27 rfl ?_
            refine x_iconst (v := nI 2) rfl dX8_recite_28 ?_
            refine x_callV1 lk_X8_85 (m_no _) ho dX8_recite_29 rfl (Nat.le_of_ble_eq_true rfl) (by omega) (by decide) (by omega) (by omega) ?_
            refine x_iret hr rfl dX8_recite_32 (by omega) (by omega) (hQ _ _ ?_)
            try dsimp only [mI, mSA] at c15 c24
            exact ⟨by simp [spRecite, hx, hy], by simp [spRecite, hx, hy, mI_mI, mSA_id]⟩
set_option maxHeartbeats 4000000 in
theorem m_drop {w : xW} {M : mS} {R : xH} {tm pm tn G : Nat} (hF : wF (M.2.2.1 5) tm pm tn G) (t9 : Int32) : CT w yX8_drop cX8_drop 3 (some (.int)) [] false (3) 0 0 [.ref 32, .int t9] (hM M R) (xret (some (.int (spDrop (M.2.2.1 5) tn t9).1)) (hM (mSA (mI (mI M 1 (nI 0)) 0 (nI (spDrop (M.2.2.1 5) tn t9).2.1)) 5 (spDrop (M.2.2.1 5) tn t9).2.2) R)) := by
  have l3 := hF.l3
  rcases ix_or t9 (n := tn) (by omega) with ⟨hx, hx2⟩ | ⟨t, ht, rfl, hx⟩
  · skip
    refine CT.of (ini := false) (by decide +kernel) q1996 q164 (Nat.le_of_ble_eq_true rfl) (by decide) ?_
    intro Γ hw ho hL hr hh hini hal hd hmc hms hQ
    subst hw
    show AW Γ cX8_drop 0 0 0 [some (.ref 32), some (.int t9), none] [] (hM M R)
    have h0 := hF.c0
    have h1 := hF.c1
    have h3 := hF.c3
    have l0 := hF.l0
    have l1 := hF.l1
    have l3 := hF.l3
    refine x_aload_n dX8_drop_0 rfl ?_
    refine x_iconst (v := nI 0) rfl dX8_drop_1 ?_
    refine m_puti (k := 1) (pf_X8_70 (ini := false)) ho hini dX8_drop_2 rfl rfl (by decide) (ms_1 _ _) ?_
    refine x_aload_n dX8_drop_5 rfl ?_
    refine x_iconst (v := nI 0) rfl dX8_drop_6 ?_
    refine m_puti (k := 0) (pf_X8_73 (ini := false)) ho hini dX8_drop_7 rfl rfl (by decide) (ms_0 _ _) ?_
    refine x_aload_n dX8_drop_10 rfl ?_
    refine x_iload_n dX8_drop_11 rfl ?_
    refine x_callV1 lk_X8_344 (m_isTinAt (M := (mI (mI M 1 (nI 0)) 0 (nI 0))) hF _) ho dX8_drop_12 rfl (Nat.le_of_ble_eq_true rfl) (by omega) (by decide) (by omega) (by omega) ?_
    refine x_ifb_ne (tgt := 24) dX8_drop_15 (by decide) (fun c15 => ?_) (fun c15 => ?_)
    · try (exfalso; first | (simp (disch := omega) [inS_ix, inS_N, ixL_N, ix_nI, hx] at c15 <;> omega) | (simp (disch := omega) only [h0, h1, h3, Int32.le_iff_toInt_le, Int32.lt_iff_toInt_lt, ← Int32.toInt_inj, nI_toInt, Int32.toInt_zero, m1_toInt, Int64.le_iff_toInt_le, Int64.lt_iff_toInt_lt, ← Int64.toInt_inj, pk_lT, i64_toInt, Int64.toInt_zero, eq_self, not_true_eq_false, not_false_eq_true] at c15 <;> omega) | omega)
      all_goals
        skip
        refine x_aload_n dX8_drop_24 rfl ?_
        refine x_iload_n dX8_drop_25 rfl ?_
        refine x_callV1 lk_X8_310 (m_isGone (M := (mI (mI M 1 (nI 0)) 0 (nI 0))) hF _ (by omega)) ho dX8_drop_26 rfl (Nat.le_of_ble_eq_true rfl) (by omega) (by decide) (by omega) (by omega) ?_
        refine x_ifb_eq (tgt := 39) dX8_drop_29 (by decide) (fun c29 => ?_) (fun c29 => ?_)
        · try (exfalso; first | (simp (disch := omega) [inS_ix, inS_N, ixL_N, ix_nI, hx] at c29 <;> omega) | (simp (disch := omega) only [h0, h1, h3, Int32.le_iff_toInt_le, Int32.lt_iff_toInt_lt, ← Int32.toInt_inj, nI_toInt, Int32.toInt_zero, m1_toInt, Int64.le_iff_toInt_le, Int64.lt_iff_toInt_lt, ← Int64.toInt_inj, pk_lT, i64_toInt, Int64.toInt_zero, eq_self, not_true_eq_false, not_false_eq_true] at c15 c29 <;> omega) | omega)
          all_goals
            skip
            refine x_aload_n dX8_drop_39 rfl ?_
            refine x_getf gf_X8_35 ho dX8_drop_40 rfl rfl ?_
            refine x_bipush (v := nI 42) rfl dX8_drop_43 ?_
            refine x_iload_n dX8_drop_45 rfl ?_
            refine x_iadd dX8_drop_46 ?_
            refine x_iald dX8_drop_47 rfl (by first | rfl | exact nI_add _ _ | (simp only [nI_add, pk_mul]; rfl)) (by omega) (by decide) ?_
            refine x_ist2 hL (by decide) rfl dX8_drop_48 ?_
            refine x_aload_n dX8_drop_49 rfl ?_
            refine x_getf gf_X8_35 ho dX8_drop_50 rfl rfl ?_
            refine x_bipush (v := nI 42) rfl dX8_drop_53 ?_
            refine x_iload_n dX8_drop_55 rfl ?_
            refine x_iadd dX8_drop_56 ?_
            refine x_iconst (v := (-1)) rfl dX8_drop_57 ?_
            refine m_iast (r := 5) dX8_drop_58 (by decide) (by decide) (fun _ => rfl) (by first | rfl | exact nI_add _ _ | (simp only [nI_add, pk_mul]; rfl)) (by omega) (by decide) ?_
            refine x_iload_n dX8_drop_59 rfl ?_
            refine x_iret hr rfl dX8_drop_60 (by omega) (by omega) (hQ _ _ ?_)
            try dsimp only [mI, mSA] at c15 c29
            exact ⟨by simp [spDrop, hx], by simp [spDrop, hx, mI_mI, mSA_id]⟩
        · try (exfalso; first | (simp (disch := omega) [inS_ix, inS_N, ixL_N, ix_nI, hx] at c29 <;> omega) | (simp (disch := omega) only [h0, h1, h3, Int32.le_iff_toInt_le, Int32.lt_iff_toInt_lt, ← Int32.toInt_inj, nI_toInt, Int32.toInt_zero, m1_toInt, Int64.le_iff_toInt_le, Int64.lt_iff_toInt_lt, ← Int64.toInt_inj, pk_lT, i64_toInt, Int64.toInt_zero, eq_self, not_true_eq_false, not_false_eq_true] at c15 c29 <;> omega) | omega)
          all_goals
            skip
            refine x_aload_n dX8_drop_32 rfl ?_
            refine x_bipush (v := nI 9) rfl dX8_drop_33 ?_
            refine x_callV1 lk_X8_327 (m_refuse _) ho dX8_drop_35 rfl (Nat.le_of_ble_eq_true rfl) (by omega) (by decide) (by omega) (by omega) ?_
            refine x_iret hr rfl dX8_drop_38 (by omega) (by omega) (hQ _ _ ?_)
            try dsimp only [mI, mSA] at c15 c29
            exact ⟨by simp [spDrop, hx], by simp [spDrop, hx, mI_mI, mSA_id]⟩
    · try (exfalso; first | (simp (disch := omega) [inS_ix, inS_N, ixL_N, ix_nI, hx] at c15 <;> omega) | (simp (disch := omega) only [h0, h1, h3, Int32.le_iff_toInt_le, Int32.lt_iff_toInt_lt, ← Int32.toInt_inj, nI_toInt, Int32.toInt_zero, m1_toInt, Int64.le_iff_toInt_le, Int64.lt_iff_toInt_lt, ← Int64.toInt_inj, pk_lT, i64_toInt, Int64.toInt_zero, eq_self, not_true_eq_false, not_false_eq_true] at c15 <;> omega) | omega)
      all_goals
        skip
        refine x_aload_n dX8_drop_18 rfl ?_
        refine x_iconst (v := nI 2) rfl dX8_drop_19 ?_
        refine x_callV1 lk_X8_327 (m_refuse _) ho dX8_drop_20 rfl (Nat.le_of_ble_eq_true rfl) (by omega) (by decide) (by omega) (by omega) ?_
        refine x_iret hr rfl dX8_drop_23 (by omega) (by omega) (hQ _ _ ?_)
        try dsimp only [mI, mSA] at c15
        exact ⟨by simp [spDrop, hx], by simp [spDrop, hx, mI_mI, mSA_id]⟩
  · skip
    refine CT.of (ini := false) (by decide +kernel) q1996 q164 (Nat.le_of_ble_eq_true rfl) (by decide) ?_
    intro Γ hw ho hL hr hh hini hal hd hmc hms hQ
    subst hw
    show AW Γ cX8_drop 0 0 0 [some (.ref 32), some (.int (nI t)), none] [] (hM M R)
    have h0 := hF.c0
    have h1 := hF.c1
    have h3 := hF.c3
    have l0 := hF.l0
    have l1 := hF.l1
    have l3 := hF.l3
    refine x_aload_n dX8_drop_0 rfl ?_
    refine x_iconst (v := nI 0) rfl dX8_drop_1 ?_
    refine m_puti (k := 1) (pf_X8_70 (ini := false)) ho hini dX8_drop_2 rfl rfl (by decide) (ms_1 _ _) ?_
    refine x_aload_n dX8_drop_5 rfl ?_
    refine x_iconst (v := nI 0) rfl dX8_drop_6 ?_
    refine m_puti (k := 0) (pf_X8_73 (ini := false)) ho hini dX8_drop_7 rfl rfl (by decide) (ms_0 _ _) ?_
    refine x_aload_n dX8_drop_10 rfl ?_
    refine x_iload_n dX8_drop_11 rfl ?_
    refine x_callV1 lk_X8_344 (m_isTinAt (M := (mI (mI M 1 (nI 0)) 0 (nI 0))) hF _) ho dX8_drop_12 rfl (Nat.le_of_ble_eq_true rfl) (by omega) (by decide) (by omega) (by omega) ?_
    refine x_ifb_ne (tgt := 24) dX8_drop_15 (by decide) (fun c15 => ?_) (fun c15 => ?_)
    · try (exfalso; first | (simp (disch := omega) [inS_ix, inS_N, ixL_N, ix_nI, hx] at c15 <;> omega) | (simp (disch := omega) only [h0, h1, h3, Int32.le_iff_toInt_le, Int32.lt_iff_toInt_lt, ← Int32.toInt_inj, nI_toInt, Int32.toInt_zero, m1_toInt, Int64.le_iff_toInt_le, Int64.lt_iff_toInt_lt, ← Int64.toInt_inj, pk_lT, i64_toInt, Int64.toInt_zero, eq_self, not_true_eq_false, not_false_eq_true] at c15 <;> omega) | omega)
      all_goals
        skip
        refine x_aload_n dX8_drop_24 rfl ?_
        refine x_iload_n dX8_drop_25 rfl ?_
        refine x_callV1 lk_X8_310 (m_isGone (M := (mI (mI M 1 (nI 0)) 0 (nI 0))) hF _ (by omega)) ho dX8_drop_26 rfl (Nat.le_of_ble_eq_true rfl) (by omega) (by decide) (by omega) (by omega) ?_
        refine x_ifb_eq (tgt := 39) dX8_drop_29 (by decide) (fun c29 => ?_) (fun c29 => ?_)
        · try (exfalso; first | (simp (disch := omega) [inS_ix, inS_N, ixL_N, ix_nI, hx] at c29 <;> omega) | (simp (disch := omega) only [h0, h1, h3, Int32.le_iff_toInt_le, Int32.lt_iff_toInt_lt, ← Int32.toInt_inj, nI_toInt, Int32.toInt_zero, m1_toInt, Int64.le_iff_toInt_le, Int64.lt_iff_toInt_lt, ← Int64.toInt_inj, pk_lT, i64_toInt, Int64.toInt_zero, eq_self, not_true_eq_false, not_false_eq_true] at c15 c29 <;> omega) | omega)
          all_goals
            skip
            refine x_aload_n dX8_drop_39 rfl ?_
            refine x_getf gf_X8_35 ho dX8_drop_40 rfl rfl ?_
            refine x_bipush (v := nI 42) rfl dX8_drop_43 ?_
            refine x_iload_n dX8_drop_45 rfl ?_
            refine x_iaddN dX8_drop_46 ?_
            refine x_iald dX8_drop_47 rfl (by first | rfl | exact nI_add _ _ | (simp only [nI_add, pk_mul]; rfl)) (by omega) (by decide) ?_
            refine x_ist2 hL (by decide) rfl dX8_drop_48 ?_
            refine x_aload_n dX8_drop_49 rfl ?_
            refine x_getf gf_X8_35 ho dX8_drop_50 rfl rfl ?_
            refine x_bipush (v := nI 42) rfl dX8_drop_53 ?_
            refine x_iload_n dX8_drop_55 rfl ?_
            refine x_iaddN dX8_drop_56 ?_
            refine x_iconst (v := (-1)) rfl dX8_drop_57 ?_
            refine m_iast (r := 5) dX8_drop_58 (by decide) (by decide) (fun _ => rfl) (by first | rfl | exact nI_add _ _ | (simp only [nI_add, pk_mul]; rfl)) (by omega) (by decide) ?_
            refine x_iload_n dX8_drop_59 rfl ?_
            refine x_iret hr rfl dX8_drop_60 (by omega) (by omega) (hQ _ _ ?_)
            try dsimp only [mI, mSA] at c15 c29
            exact ⟨by simp (disch := omega) [spDrop, hx, c15, c29], by simp (disch := omega) [spDrop, hx, c15, c29, mA_5, mSA_mSA, mSA_id, upA_s, mI_mI]⟩
        · try (exfalso; first | (simp (disch := omega) [inS_ix, inS_N, ixL_N, ix_nI, hx] at c29 <;> omega) | (simp (disch := omega) only [h0, h1, h3, Int32.le_iff_toInt_le, Int32.lt_iff_toInt_lt, ← Int32.toInt_inj, nI_toInt, Int32.toInt_zero, m1_toInt, Int64.le_iff_toInt_le, Int64.lt_iff_toInt_lt, ← Int64.toInt_inj, pk_lT, i64_toInt, Int64.toInt_zero, eq_self, not_true_eq_false, not_false_eq_true] at c15 c29 <;> omega) | omega)
          all_goals
            skip
            refine x_aload_n dX8_drop_32 rfl ?_
            refine x_bipush (v := nI 9) rfl dX8_drop_33 ?_
            refine x_callV1 lk_X8_327 (m_refuse _) ho dX8_drop_35 rfl (Nat.le_of_ble_eq_true rfl) (by omega) (by decide) (by omega) (by omega) ?_
            refine x_iret hr rfl dX8_drop_38 (by omega) (by omega) (hQ _ _ ?_)
            try dsimp only [mI, mSA] at c15 c29
            exact ⟨by simp (disch := omega) [spDrop, hx, c15, c29], by simp (disch := omega) [spDrop, hx, c15, c29, mA_5, mSA_mSA, mSA_id, upA_s, mI_mI]⟩
    · try (exfalso; first | (simp (disch := omega) [inS_ix, inS_N, ixL_N, ix_nI, hx] at c15 <;> omega) | (simp (disch := omega) only [h0, h1, h3, Int32.le_iff_toInt_le, Int32.lt_iff_toInt_lt, ← Int32.toInt_inj, nI_toInt, Int32.toInt_zero, m1_toInt, Int64.le_iff_toInt_le, Int64.lt_iff_toInt_lt, ← Int64.toInt_inj, pk_lT, i64_toInt, Int64.toInt_zero, eq_self, not_true_eq_false, not_false_eq_true] at c15 <;> omega) | omega)
      all_goals
        skip
        refine x_aload_n dX8_drop_18 rfl ?_
        refine x_iconst (v := nI 2) rfl dX8_drop_19 ?_
        refine x_callV1 lk_X8_327 (m_refuse _) ho dX8_drop_20 rfl (Nat.le_of_ble_eq_true rfl) (by omega) (by decide) (by omega) (by omega) ?_
        refine x_iret hr rfl dX8_drop_23 (by omega) (by omega) (hQ _ _ ?_)
        try dsimp only [mI, mSA] at c15
        exact ⟨by simp (disch := omega) [spDrop, hx, c15], by simp (disch := omega) [spDrop, hx, c15, mA_5, mSA_mSA, mSA_id, upA_s, mI_mI]⟩
set_option maxHeartbeats 4000000 in
theorem m_strikes {w : xW} {M : mS} {R : xH} {tm pm tn G : Nat} (hF : wF (M.2.2.1 5) tm pm tn G) (b t p : Nat) (k l : Int32) (hb : b < 5) (ht : t < 9) (hp : p < 7) : CT w yX8_strikes cX8_strikes 7 none [] false (0) 0 0 [.ref 32, .int (nI b), .int (nI t), .int k, .int (nI p), .int l] (hM M R) (xret none (hM (mSA M 5 (stC (M.2.2.1 5) (359 * b) t k p l)) R)) := by
  refine CT.of (ini := false) (by decide +kernel) q1864 q164 (Nat.le_of_ble_eq_true rfl) (by decide) ?_
  intro Γ hw ho hL hr hh hini hal hd hmc hms hQ
  subst hw
  show AW Γ cX8_strikes 0 0 0 [some (.ref 32), some (.int (nI b)), some (.int (nI t)), some (.int k), some (.int (nI p)), some (.int l), none] [] (hM M R)
  have h0 := hF.c0
  have h1 := hF.c1
  have h3 := hF.c3
  have l0 := hF.l0
  have l1 := hF.l1
  have l3 := hF.l3
  refine x_sipush (v := nI 359) rfl dX8_strikes_0 ?_
  refine x_iload_n dX8_strikes_3 rfl ?_
  refine x_imulN dX8_strikes_4 ?_
  refine x_ist6 hL (by decide) rfl dX8_strikes_5 ?_
  refine x_aload_n dX8_strikes_7 rfl ?_
  refine x_getf gf_X8_35 ho dX8_strikes_8 rfl rfl ?_
  refine x_iload dX8_strikes_11 rfl ?_
  refine x_bipush (v := nI 33) rfl dX8_strikes_13 ?_
  refine x_iaddN dX8_strikes_15 ?_
  refine x_iload_n dX8_strikes_16 rfl ?_
  refine x_iaddN dX8_strikes_17 ?_
  refine x_iload_n dX8_strikes_18 rfl ?_
  refine m_iast (r := 5) dX8_strikes_19 (by decide) (by decide) (fun _ => rfl) (by first | rfl | exact nI_add _ _ | (simp only [nI_add, pk_mul]; rfl)) (by omega) (by decide) ?_
  refine x_aload_n dX8_strikes_20 rfl ?_
  refine x_getf gf_X8_35 ho dX8_strikes_21 rfl rfl ?_
  refine x_iload dX8_strikes_24 rfl ?_
  refine x_bipush (v := nI 42) rfl dX8_strikes_26 ?_
  refine x_iaddN dX8_strikes_28 ?_
  refine x_iload_n dX8_strikes_29 rfl ?_
  refine x_iaddN dX8_strikes_30 ?_
  refine x_iload dX8_strikes_31 rfl ?_
  refine m_iast (r := 5) dX8_strikes_33 (by decide) (by decide) (fun _ => rfl) (by first | rfl | exact nI_add _ _ | (simp only [nI_add, pk_mul]; rfl)) (by omega) (by decide) ?_
  refine x_aload_n dX8_strikes_34 rfl ?_
  refine x_getf gf_X8_35 ho dX8_strikes_35 rfl rfl ?_
  refine x_iload dX8_strikes_38 rfl ?_
  refine x_bipush (v := nI 51) rfl dX8_strikes_40 ?_
  refine x_iaddN dX8_strikes_42 ?_
  refine x_iload_n dX8_strikes_43 rfl ?_
  refine x_iaddN dX8_strikes_44 ?_
  refine x_iload dX8_strikes_45 rfl ?_
  refine m_iast (r := 5) dX8_strikes_47 (by decide) (by decide) (fun _ => rfl) (by first | rfl | exact nI_add _ _ | (simp only [nI_add, pk_mul]; rfl)) (by omega) (by decide) ?_
  refine x_aload_n dX8_strikes_48 rfl ?_
  refine x_getf gf_X8_35 ho dX8_strikes_49 rfl rfl ?_
  refine x_iload dX8_strikes_52 rfl ?_
  refine x_bipush (v := nI 60) rfl dX8_strikes_54 ?_
  refine x_iaddN dX8_strikes_56 ?_
  refine x_iload_n dX8_strikes_57 rfl ?_
  refine x_iaddN dX8_strikes_58 ?_
  refine x_iconst (v := nI 0) rfl dX8_strikes_59 ?_
  refine m_iast (r := 5) dX8_strikes_60 (by decide) (by decide) (fun _ => rfl) (by first | rfl | exact nI_add _ _ | (simp only [nI_add, pk_mul]; rfl)) (by omega) (by decide) ?_
  refine x_aload_n dX8_strikes_61 rfl ?_
  refine x_getf gf_X8_35 ho dX8_strikes_62 rfl rfl ?_
  refine x_iload dX8_strikes_65 rfl ?_
  refine x_bipush (v := nI 69) rfl dX8_strikes_67 ?_
  refine x_iaddN dX8_strikes_69 ?_
  refine x_iload_n dX8_strikes_70 rfl ?_
  refine x_iaddN dX8_strikes_71 ?_
  refine x_iconst (v := nI 1) rfl dX8_strikes_72 ?_
  refine x_iload dX8_strikes_73 rfl ?_
  refine x_ishl dX8_strikes_75 ?_
  refine m_iast (r := 5) dX8_strikes_76 (by decide) (by decide) (fun _ => rfl) (by first | rfl | exact nI_add _ _ | (simp only [nI_add, pk_mul]; rfl)) (by omega) (by decide) ?_
  refine x_aload_n dX8_strikes_77 rfl ?_
  refine x_getf gf_X8_35 ho dX8_strikes_78 rfl rfl ?_
  refine x_iload dX8_strikes_81 rfl ?_
  refine x_bipush (v := nI 78) rfl dX8_strikes_83 ?_
  refine x_iaddN dX8_strikes_85 ?_
  refine x_iload_n dX8_strikes_86 rfl ?_
  refine x_iaddN dX8_strikes_87 ?_
  refine x_iconst (v := nI 0) rfl dX8_strikes_88 ?_
  refine m_iast (r := 5) dX8_strikes_89 (by decide) (by decide) (fun _ => rfl) (by first | rfl | exact nI_add _ _ | (simp only [nI_add, pk_mul]; rfl)) (by omega) (by decide) ?_
  refine x_aload_n dX8_strikes_90 rfl ?_
  refine x_getf gf_X8_35 ho dX8_strikes_91 rfl rfl ?_
  refine x_iload dX8_strikes_94 rfl ?_
  refine x_iconst (v := nI 3) rfl dX8_strikes_96 ?_
  refine x_iaddN dX8_strikes_97 ?_
  refine x_iload_n dX8_strikes_98 rfl ?_
  refine x_iconst (v := nI 1) rfl dX8_strikes_99 ?_
  refine x_iaddN dX8_strikes_100 ?_
  refine m_iast (r := 5) dX8_strikes_101 (by decide) (by decide) (fun _ => rfl) (by first | rfl | exact nI_add _ _ | (simp only [nI_add, pk_mul]; rfl)) (by omega) (by decide) ?_
  refine x_vret hr dX8_strikes_102 (by omega) (by omega) (hQ _ _ ?_)
  exact ⟨rfl, by simp only [stC, mA_5, mSA_mSA, upA_s]⟩
set_option maxHeartbeats 4000000 in
theorem m_meet {w : xW} {M : mS} {R : xH} {tm pm tn G : Nat} (hF : wF (M.2.2.1 5) tm pm tn G) (b p q : Nat) (hb : b < 5) (hp : p < 7) (hq : q < 7) : CT w yX8_meet cX8_meet 5 none [] false (0) 0 0 [.ref 32, .int (nI b), .int (nI p), .int (nI q)] (hM M R) (xret none (hM (mSA M 5 (meC (M.2.2.1 5) (359 * b) p q)) R)) := by
  refine CT.of (ini := false) (by decide +kernel) q1856 q164 (Nat.le_of_ble_eq_true rfl) (by decide) ?_
  intro Γ hw ho hL hr hh hini hal hd hmc hms hQ
  subst hw
  show AW Γ cX8_meet 0 0 0 [some (.ref 32), some (.int (nI b)), some (.int (nI p)), some (.int (nI q)), none] [] (hM M R)
  have h0 := hF.c0
  have h1 := hF.c1
  have h3 := hF.c3
  have l0 := hF.l0
  have l1 := hF.l1
  have l3 := hF.l3
  refine x_sipush (v := nI 359) rfl dX8_meet_0 ?_
  refine x_iload_n dX8_meet_3 rfl ?_
  refine x_imulN dX8_meet_4 ?_
  refine x_ist4 hL (by decide) rfl dX8_meet_5 ?_
  refine x_aload_n dX8_meet_7 rfl ?_
  refine x_getf gf_X8_35 ho dX8_meet_8 rfl rfl ?_
  refine x_iload dX8_meet_11 rfl ?_
  refine x_bipush (v := nI 19) rfl dX8_meet_13 ?_
  refine x_iaddN dX8_meet_15 ?_
  refine x_iload_n dX8_meet_16 rfl ?_
  refine x_iaddN dX8_meet_17 ?_
  refine x_dup2 rfl rfl dX8_meet_18 ?_
  refine x_iald dX8_meet_19 rfl (by first | rfl | exact nI_add _ _ | (simp only [nI_add, pk_mul]; rfl)) (by omega) (by decide) ?_
  refine x_iconst (v := nI 1) rfl dX8_meet_20 ?_
  refine x_iload_n dX8_meet_21 rfl ?_
  refine x_ishl dX8_meet_22 ?_
  refine x_ior dX8_meet_23 ?_
  refine m_iast (r := 5) dX8_meet_24 (by decide) (by decide) (fun _ => rfl) (by first | rfl | exact nI_add _ _ | (simp only [nI_add, pk_mul]; rfl)) (by omega) (by decide) ?_
  refine x_aload_n dX8_meet_25 rfl ?_
  refine x_getf gf_X8_35 ho dX8_meet_26 rfl rfl ?_
  refine x_iload dX8_meet_29 rfl ?_
  refine x_bipush (v := nI 19) rfl dX8_meet_31 ?_
  refine x_iaddN dX8_meet_33 ?_
  refine x_iload_n dX8_meet_34 rfl ?_
  refine x_iaddN dX8_meet_35 ?_
  refine x_dup2 rfl rfl dX8_meet_36 ?_
  refine x_iald dX8_meet_37 rfl (by first | rfl | exact nI_add _ _ | (simp only [nI_add, pk_mul]; rfl)) (by omega) (by decide) ?_
  refine x_iconst (v := nI 1) rfl dX8_meet_38 ?_
  refine x_iload_n dX8_meet_39 rfl ?_
  refine x_ishl dX8_meet_40 ?_
  refine x_ior dX8_meet_41 ?_
  refine m_iast (r := 5) dX8_meet_42 (by decide) (by decide) (fun _ => rfl) (by first | rfl | exact nI_add _ _ | (simp only [nI_add, pk_mul]; rfl)) (by omega) (by decide) ?_
  refine x_aload_n dX8_meet_43 rfl ?_
  refine x_getf gf_X8_35 ho dX8_meet_44 rfl rfl ?_
  refine x_iload dX8_meet_47 rfl ?_
  refine x_iconst (v := nI 2) rfl dX8_meet_49 ?_
  refine x_iaddN dX8_meet_50 ?_
  refine x_dup2 rfl rfl dX8_meet_51 ?_
  refine x_iald dX8_meet_52 rfl (by first | rfl | exact nI_add _ _ | (simp only [nI_add, pk_mul]; rfl)) (by omega) (by decide) ?_
  refine x_iconst (v := nI 1) rfl dX8_meet_53 ?_
  refine x_iadd dX8_meet_54 ?_
  refine m_iast (r := 5) dX8_meet_55 (by decide) (by decide) (fun _ => rfl) (by first | rfl | exact nI_add _ _ | (simp only [nI_add, pk_mul]; rfl)) (by omega) (by decide) ?_
  refine x_vret hr dX8_meet_56 (by omega) (by omega) (hQ _ _ ?_)
  exact ⟨rfl, by simp (disch := omega) only [meC, mA_5, mSA_mSA, upA_s, upd_n]⟩
set_option maxHeartbeats 4000000 in
theorem m_teaches {w : xW} {M : mS} {R : xH} {tm pm tn G : Nat} (hF : wF (M.2.2.1 5) tm pm tn G) (p : Nat) (k : Int32) (b : Bool) (hp : p < pm) : CT w yX8_teaches cX8_teaches 4 (some (.boolean)) [] false (1) 0 0 [.ref 32, .int (nI p), .int k, .int (xb b)] (hM M R) (xret (some (.int (xb (teB (M.2.2.1 5) p k b)))) (hM (mSA M 5 (teC (M.2.2.1 5) p k b)) R)) := by
  refine CT.of (ini := false) (by decide +kernel) q2008 q164 (Nat.le_of_ble_eq_true rfl) (by decide) ?_
  intro Γ hw ho hL hr hh hini hal hd hmc hms hQ
  subst hw
  show AW Γ cX8_teaches 0 0 0 [some (.ref 32), some (.int (nI p)), some (.int k), some (.int (xb b))] [] (hM M R)
  have h0 := hF.c0
  have h1 := hF.c1
  have h3 := hF.c3
  have l0 := hF.l0
  have l1 := hF.l1
  have l3 := hF.l3
  refine x_aload_n dX8_teaches_0 rfl ?_
  refine x_getf gf_X8_35 ho dX8_teaches_1 rfl rfl ?_
  refine x_bipush (v := nI 12) rfl dX8_teaches_4 ?_
  refine x_iload_n dX8_teaches_6 rfl ?_
  refine x_iaddN dX8_teaches_7 ?_
  refine x_iald dX8_teaches_8 rfl (by first | rfl | exact nI_add _ _ | (simp only [nI_add, pk_mul]; rfl)) (by omega) (by decide) ?_
  refine x_iload_n dX8_teaches_9 rfl ?_
  refine x_callS2 lk_X8_109 (m_has _ _) ho dX8_teaches_10 (Nat.le_of_ble_eq_true rfl) (by omega) (by decide) (by omega) (by omega) ?_
  refine x_iload_n dX8_teaches_13 rfl ?_
  refine x_icmp_ne (tgt := 19) dX8_teaches_14 (by decide) (fun c14 => ?_) (fun c14 => ?_)
  · try (exfalso; first | (simp (disch := omega) only [h0, h1, h3, Int32.le_iff_toInt_le, Int32.lt_iff_toInt_lt, ← Int32.toInt_inj, nI_toInt, Int32.toInt_zero, m1_toInt, Int64.le_iff_toInt_le, Int64.lt_iff_toInt_lt, ← Int64.toInt_inj, pk_lT, i64_toInt, Int64.toInt_zero, eq_self, not_true_eq_false, not_false_eq_true] at c14 <;> omega) | omega)
    all_goals
      skip
      refine x_aload_n dX8_teaches_19 rfl ?_
      refine x_getf gf_X8_35 ho dX8_teaches_20 rfl rfl ?_
      refine x_bipush (v := nI 12) rfl dX8_teaches_23 ?_
      refine x_iload_n dX8_teaches_25 rfl ?_
      refine x_iaddN dX8_teaches_26 ?_
      refine x_dup2 rfl rfl dX8_teaches_27 ?_
      refine x_iald dX8_teaches_28 rfl (by first | rfl | exact nI_add _ _ | (simp only [nI_add, pk_mul]; rfl)) (by omega) (by decide) ?_
      refine x_iconst (v := nI 1) rfl dX8_teaches_29 ?_
      refine x_iload_n dX8_teaches_30 rfl ?_
      refine x_ishl dX8_teaches_31 ?_
      refine x_ixor dX8_teaches_32 ?_
      refine m_iast (r := 5) dX8_teaches_33 (by decide) (by decide) (fun _ => rfl) (by first | rfl | exact nI_add _ _ | (simp only [nI_add, pk_mul]; rfl)) (by omega) (by decide) ?_
      refine x_iconst (v := nI 1) rfl dX8_teaches_34 ?_
      refine x_iret hr rfl dX8_teaches_35 (by omega) (by omega) (hQ _ _ ?_)
      try dsimp only [mI, mSA] at c14
      exact ⟨by simp [teB, show hs (M.2.2.1 5 (12 + p)) k = !b from teN c14]; rfl, by simp [teC, teB, show hs (M.2.2.1 5 (12 + p)) k = !b from teN c14, mA_5]⟩
  · try (exfalso; first | (simp (disch := omega) only [h0, h1, h3, Int32.le_iff_toInt_le, Int32.lt_iff_toInt_lt, ← Int32.toInt_inj, nI_toInt, Int32.toInt_zero, m1_toInt, Int64.le_iff_toInt_le, Int64.lt_iff_toInt_lt, ← Int64.toInt_inj, pk_lT, i64_toInt, Int64.toInt_zero, eq_self, not_true_eq_false, not_false_eq_true] at c14 <;> omega) | omega)
    all_goals
      skip
      refine x_iconst (v := nI 0) rfl dX8_teaches_17 ?_
      refine x_iret hr rfl dX8_teaches_18 (by omega) (by omega) (hQ _ _ ?_)
      try dsimp only [mI, mSA] at c14
      exact ⟨by simp [teB, xb_eq.mp c14]; rfl, by simp [teC, teB, xb_eq.mp c14, mSA_id]⟩
set_option maxHeartbeats 4000000 in
theorem m_price {w : xW} {M : mS} {R : xH} {tm pm tn G : Nat} (hF : wF (M.2.2.1 5) tm pm tn G) (k9 w9 : Int32) : CT w yX8_price cX8_price 3 (some (.boolean)) [] false (2) 0 0 [.ref 32, .int k9, .int w9] (hM M R) (xret (some (.int (spPrice (M.2.2.1 5) tm k9 w9).1)) (hM (mSA (mI (mI M 1 (nI 0)) 0 (nI (spPrice (M.2.2.1 5) tm k9 w9).2.1)) 5 (spPrice (M.2.2.1 5) tm k9 w9).2.2) R)) := by
  have l0 := hF.l0
  have l1 := hF.l1
  have l3 := hF.l3
  rcases ix_or k9 (n := tm) (by omega) with ⟨hx, hx2⟩ | ⟨t, ht, rfl, hx⟩
  rotate_left 1
  rcases ix_or w9 (n := 100) (by omega) with ⟨hy, hy2⟩ | ⟨j, hj, rfl, hy⟩
  rotate_left 1
  · skip
    refine CT.of (ini := false) (by decide +kernel) q2016 q164 (Nat.le_of_ble_eq_true rfl) (by decide) ?_
    intro Γ hw ho hL hr hh hini hal hd hmc hms hQ
    subst hw
    show AW Γ cX8_price 0 0 0 [some (.ref 32), some (.int (nI t)), some (.int (nI j))] [] (hM M R)
    have h0 := hF.c0
    have h1 := hF.c1
    have h3 := hF.c3
    have l0 := hF.l0
    have l1 := hF.l1
    have l3 := hF.l3
    refine x_aload_n dX8_price_0 rfl ?_
    refine x_iconst (v := nI 0) rfl dX8_price_1 ?_
    refine m_puti (k := 1) (pf_X8_70 (ini := false)) ho hini dX8_price_2 rfl rfl (by decide) (ms_1 _ _) ?_
    refine x_aload_n dX8_price_5 rfl ?_
    refine x_iconst (v := nI 0) rfl dX8_price_6 ?_
    refine m_puti (k := 0) (pf_X8_73 (ini := false)) ho hini dX8_price_7 rfl rfl (by decide) (ms_0 _ _) ?_
    refine x_aload_n dX8_price_10 rfl ?_
    refine x_iload_n dX8_price_11 rfl ?_
    refine x_callV1 lk_X8_333 (m_isTraitAt (M := (mI (mI M 1 (nI 0)) 0 (nI 0))) hF _) ho dX8_price_12 rfl (Nat.le_of_ble_eq_true rfl) (by omega) (by decide) (by omega) (by omega) ?_
    refine x_ifb_ne (tgt := 24) dX8_price_15 (by decide) (fun c15 => ?_) (fun c15 => ?_)
    · try (exfalso; first | (simp (disch := omega) [inS_ix, inS_N, ixL_N, ix_nI, hx, hy] at c15 <;> omega) | (simp (disch := omega) only [h0, h1, h3, Int32.le_iff_toInt_le, Int32.lt_iff_toInt_lt, ← Int32.toInt_inj, nI_toInt, Int32.toInt_zero, m1_toInt, Int64.le_iff_toInt_le, Int64.lt_iff_toInt_lt, ← Int64.toInt_inj, pk_lT, i64_toInt, Int64.toInt_zero, eq_self, not_true_eq_false, not_false_eq_true] at c15 <;> omega) | omega)
      all_goals
        skip
        refine x_iload_n dX8_price_24 rfl ?_
        refine x_i2lN (by omega) dX8_price_25 ?_
        refine x_lconst (v := lN 0) rfl dX8_price_26 ?_
        refine x_ldc2 (v := lN 99) ho q2017 dX8_price_27 ?_
        refine x_callS3 lk_X8_105 (m_isIn _ _ _) ho dX8_price_30 (Nat.le_of_ble_eq_true rfl) (by omega) (by decide) (by omega) (by omega) ?_
        refine x_ifb_ne (tgt := 42) dX8_price_33 (by decide) (fun c33 => ?_) (fun c33 => ?_)
        · try (exfalso; first | (simp (disch := omega) [inS_ix, inS_N, ixL_N, ix_nI, hx, hy] at c33 <;> omega) | (simp (disch := omega) only [h0, h1, h3, Int32.le_iff_toInt_le, Int32.lt_iff_toInt_lt, ← Int32.toInt_inj, nI_toInt, Int32.toInt_zero, m1_toInt, Int64.le_iff_toInt_le, Int64.lt_iff_toInt_lt, ← Int64.toInt_inj, pk_lT, i64_toInt, Int64.toInt_zero, eq_self, not_true_eq_false, not_false_eq_true] at c15 c33 <;> omega) | omega)
          all_goals
            skip
            refine x_aload_n dX8_price_42 rfl ?_
            refine x_getf gf_X8_35 ho dX8_price_43 rfl rfl ?_
            refine x_bipush (v := nI 6) rfl dX8_price_46 ?_
            refine x_iload_n dX8_price_48 rfl ?_
            refine x_iaddN dX8_price_49 ?_
            refine x_iload_n dX8_price_50 rfl ?_
            refine m_iast (r := 5) dX8_price_51 (by decide) (by decide) (fun _ => rfl) (by first | rfl | exact nI_add _ _ | (simp only [nI_add, pk_mul]; rfl)) (by omega) (by decide) ?_
            refine x_iconst (v := nI 1) rfl dX8_price_52 ?_
            refine x_iret hr rfl dX8_price_53 (by omega) (by omega) (hQ _ _ ?_)
            try dsimp only [mI, mSA] at c15 c33
            exact ⟨by simp [spPrice, hx, hy], by simp [spPrice, hx, hy, mA_5, mSA_mSA, mSA_id, upA_s, mI_mI]⟩
        · try (exfalso; first | (simp (disch := omega) [inS_ix, inS_N, ixL_N, ix_nI, hx, hy] at c33 <;> omega) | (simp (disch := omega) only [h0, h1, h3, Int32.le_iff_toInt_le, Int32.lt_iff_toInt_lt, ← Int32.toInt_inj, nI_toInt, Int32.toInt_zero, m1_toInt, Int64.le_iff_toInt_le, Int64.lt_iff_toInt_lt, ← Int64.toInt_inj, pk_lT, i64_toInt, Int64.toInt_zero, eq_self, not_true_eq_false, not_false_eq_true] at c15 c33 <;> omega) | omega)
          all_goals
            skip
            refine x_aload_n dX8_price_36 rfl ?_
            refine x_iconst (v := nI 5) rfl dX8_price_37 ?_
            refine x_callV1 lk_X8_85 (m_no _) ho dX8_price_38 rfl (Nat.le_of_ble_eq_true rfl) (by omega) (by decide) (by omega) (by omega) ?_
            refine x_iret hr rfl dX8_price_41 (by omega) (by omega) (hQ _ _ ?_)
            try dsimp only [mI, mSA] at c15 c33
            exact ⟨by simp [spPrice, hx, hy], by simp [spPrice, hx, hy, mA_5, mSA_mSA, mSA_id, upA_s, mI_mI]⟩
    · try (exfalso; first | (simp (disch := omega) [inS_ix, inS_N, ixL_N, ix_nI, hx, hy] at c15 <;> omega) | (simp (disch := omega) only [h0, h1, h3, Int32.le_iff_toInt_le, Int32.lt_iff_toInt_lt, ← Int32.toInt_inj, nI_toInt, Int32.toInt_zero, m1_toInt, Int64.le_iff_toInt_le, Int64.lt_iff_toInt_lt, ← Int64.toInt_inj, pk_lT, i64_toInt, Int64.toInt_zero, eq_self, not_true_eq_false, not_false_eq_true] at c15 <;> omega) | omega)
      all_goals
        skip
        refine x_aload_n dX8_price_18 rfl ?_
        refine x_iconst (v := nI 2) rfl dX8_price_19 ?_
        refine x_callV1 lk_X8_85 (m_no _) ho dX8_price_20 rfl (Nat.le_of_ble_eq_true rfl) (by omega) (by decide) (by omega) (by omega) ?_
        refine x_iret hr rfl dX8_price_23 (by omega) (by omega) (hQ _ _ ?_)
        try dsimp only [mI, mSA] at c15
        exact ⟨by simp [spPrice, hx, hy], by simp [spPrice, hx, hy, mA_5, mSA_mSA, mSA_id, upA_s, mI_mI]⟩
  · skip
    refine CT.of (ini := false) (by decide +kernel) q2016 q164 (Nat.le_of_ble_eq_true rfl) (by decide) ?_
    intro Γ hw ho hL hr hh hini hal hd hmc hms hQ
    subst hw
    show AW Γ cX8_price 0 0 0 [some (.ref 32), some (.int k9), some (.int w9)] [] (hM M R)
    have h0 := hF.c0
    have h1 := hF.c1
    have h3 := hF.c3
    have l0 := hF.l0
    have l1 := hF.l1
    have l3 := hF.l3
    refine x_aload_n dX8_price_0 rfl ?_
    refine x_iconst (v := nI 0) rfl dX8_price_1 ?_
    refine m_puti (k := 1) (pf_X8_70 (ini := false)) ho hini dX8_price_2 rfl rfl (by decide) (ms_1 _ _) ?_
    refine x_aload_n dX8_price_5 rfl ?_
    refine x_iconst (v := nI 0) rfl dX8_price_6 ?_
    refine m_puti (k := 0) (pf_X8_73 (ini := false)) ho hini dX8_price_7 rfl rfl (by decide) (ms_0 _ _) ?_
    refine x_aload_n dX8_price_10 rfl ?_
    refine x_iload_n dX8_price_11 rfl ?_
    refine x_callV1 lk_X8_333 (m_isTraitAt (M := (mI (mI M 1 (nI 0)) 0 (nI 0))) hF _) ho dX8_price_12 rfl (Nat.le_of_ble_eq_true rfl) (by omega) (by decide) (by omega) (by omega) ?_
    refine x_ifb_ne (tgt := 24) dX8_price_15 (by decide) (fun c15 => ?_) (fun c15 => ?_)
    · try (exfalso; first | (simp (disch := omega) [inS_ix, inS_N, ixL_N, ix_nI, hx] at c15 <;> omega) | (simp (disch := omega) only [h0, h1, h3, Int32.le_iff_toInt_le, Int32.lt_iff_toInt_lt, ← Int32.toInt_inj, nI_toInt, Int32.toInt_zero, m1_toInt, Int64.le_iff_toInt_le, Int64.lt_iff_toInt_lt, ← Int64.toInt_inj, pk_lT, i64_toInt, Int64.toInt_zero, eq_self, not_true_eq_false, not_false_eq_true] at c15 <;> omega) | omega)
      all_goals
        skip
        refine x_iload_n dX8_price_24 rfl ?_
        refine x_i2l dX8_price_25 ?_
        refine x_lconst (v := lN 0) rfl dX8_price_26 ?_
        refine x_ldc2 (v := lN 99) ho q2017 dX8_price_27 ?_
        refine x_callS3 lk_X8_105 (m_isIn _ _ _) ho dX8_price_30 (Nat.le_of_ble_eq_true rfl) (by omega) (by decide) (by omega) (by omega) ?_
        refine x_ifb_ne (tgt := 42) dX8_price_33 (by decide) (fun c33 => ?_) (fun c33 => ?_)
        · try (exfalso; first | (simp (disch := omega) [inS_ix, inS_N, ixL_N, ix_nI, hx] at c33 <;> omega) | (simp (disch := omega) only [h0, h1, h3, Int32.le_iff_toInt_le, Int32.lt_iff_toInt_lt, ← Int32.toInt_inj, nI_toInt, Int32.toInt_zero, m1_toInt, Int64.le_iff_toInt_le, Int64.lt_iff_toInt_lt, ← Int64.toInt_inj, pk_lT, i64_toInt, Int64.toInt_zero, eq_self, not_true_eq_false, not_false_eq_true] at c15 c33 <;> omega) | omega)
          all_goals
            skip
            refine x_aload_n dX8_price_42 rfl ?_
            refine x_getf gf_X8_35 ho dX8_price_43 rfl rfl ?_
            refine x_bipush (v := nI 6) rfl dX8_price_46 ?_
            refine x_iload_n dX8_price_48 rfl ?_
            refine x_iadd dX8_price_49 ?_
            refine x_iload_n dX8_price_50 rfl ?_
            refine m_iast (r := 5) dX8_price_51 (by decide) (by decide) (fun _ => rfl) (by first | rfl | exact nI_add _ _ | (simp only [nI_add, pk_mul]; rfl)) (by omega) (by decide) ?_
            refine x_iconst (v := nI 1) rfl dX8_price_52 ?_
            refine x_iret hr rfl dX8_price_53 (by omega) (by omega) (hQ _ _ ?_)
            try dsimp only [mI, mSA] at c15 c33
            exact ⟨by simp [spPrice, hx], by simp [spPrice, hx, mI_mI, mSA_id]⟩
        · try (exfalso; first | (simp (disch := omega) [inS_ix, inS_N, ixL_N, ix_nI, hx] at c33 <;> omega) | (simp (disch := omega) only [h0, h1, h3, Int32.le_iff_toInt_le, Int32.lt_iff_toInt_lt, ← Int32.toInt_inj, nI_toInt, Int32.toInt_zero, m1_toInt, Int64.le_iff_toInt_le, Int64.lt_iff_toInt_lt, ← Int64.toInt_inj, pk_lT, i64_toInt, Int64.toInt_zero, eq_self, not_true_eq_false, not_false_eq_true] at c15 c33 <;> omega) | omega)
          all_goals
            skip
            refine x_aload_n dX8_price_36 rfl ?_
            refine x_iconst (v := nI 5) rfl dX8_price_37 ?_
            refine x_callV1 lk_X8_85 (m_no _) ho dX8_price_38 rfl (Nat.le_of_ble_eq_true rfl) (by omega) (by decide) (by omega) (by omega) ?_
            refine x_iret hr rfl dX8_price_41 (by omega) (by omega) (hQ _ _ ?_)
            try dsimp only [mI, mSA] at c15 c33
            exact ⟨by simp [spPrice, hx], by simp [spPrice, hx, mI_mI, mSA_id]⟩
    · try (exfalso; first | (simp (disch := omega) [inS_ix, inS_N, ixL_N, ix_nI, hx] at c15 <;> omega) | (simp (disch := omega) only [h0, h1, h3, Int32.le_iff_toInt_le, Int32.lt_iff_toInt_lt, ← Int32.toInt_inj, nI_toInt, Int32.toInt_zero, m1_toInt, Int64.le_iff_toInt_le, Int64.lt_iff_toInt_lt, ← Int64.toInt_inj, pk_lT, i64_toInt, Int64.toInt_zero, eq_self, not_true_eq_false, not_false_eq_true] at c15 <;> omega) | omega)
      all_goals
        skip
        refine x_aload_n dX8_price_18 rfl ?_
        refine x_iconst (v := nI 2) rfl dX8_price_19 ?_
        refine x_callV1 lk_X8_85 (m_no _) ho dX8_price_20 rfl (Nat.le_of_ble_eq_true rfl) (by omega) (by decide) (by omega) (by omega) ?_
        refine x_iret hr rfl dX8_price_23 (by omega) (by omega) (hQ _ _ ?_)
        try dsimp only [mI, mSA] at c15
        exact ⟨by simp [spPrice, hx], by simp [spPrice, hx, mI_mI, mSA_id]⟩
  · skip
    refine CT.of (ini := false) (by decide +kernel) q2016 q164 (Nat.le_of_ble_eq_true rfl) (by decide) ?_
    intro Γ hw ho hL hr hh hini hal hd hmc hms hQ
    subst hw
    show AW Γ cX8_price 0 0 0 [some (.ref 32), some (.int (nI t)), some (.int w9)] [] (hM M R)
    have h0 := hF.c0
    have h1 := hF.c1
    have h3 := hF.c3
    have l0 := hF.l0
    have l1 := hF.l1
    have l3 := hF.l3
    refine x_aload_n dX8_price_0 rfl ?_
    refine x_iconst (v := nI 0) rfl dX8_price_1 ?_
    refine m_puti (k := 1) (pf_X8_70 (ini := false)) ho hini dX8_price_2 rfl rfl (by decide) (ms_1 _ _) ?_
    refine x_aload_n dX8_price_5 rfl ?_
    refine x_iconst (v := nI 0) rfl dX8_price_6 ?_
    refine m_puti (k := 0) (pf_X8_73 (ini := false)) ho hini dX8_price_7 rfl rfl (by decide) (ms_0 _ _) ?_
    refine x_aload_n dX8_price_10 rfl ?_
    refine x_iload_n dX8_price_11 rfl ?_
    refine x_callV1 lk_X8_333 (m_isTraitAt (M := (mI (mI M 1 (nI 0)) 0 (nI 0))) hF _) ho dX8_price_12 rfl (Nat.le_of_ble_eq_true rfl) (by omega) (by decide) (by omega) (by omega) ?_
    refine x_ifb_ne (tgt := 24) dX8_price_15 (by decide) (fun c15 => ?_) (fun c15 => ?_)
    · try (exfalso; first | (simp (disch := omega) [inS_ix, inS_N, ixL_N, ix_nI, hx, hy] at c15 <;> omega) | (simp (disch := omega) only [h0, h1, h3, Int32.le_iff_toInt_le, Int32.lt_iff_toInt_lt, ← Int32.toInt_inj, nI_toInt, Int32.toInt_zero, m1_toInt, Int64.le_iff_toInt_le, Int64.lt_iff_toInt_lt, ← Int64.toInt_inj, pk_lT, i64_toInt, Int64.toInt_zero, eq_self, not_true_eq_false, not_false_eq_true] at c15 <;> omega) | omega)
      all_goals
        skip
        refine x_iload_n dX8_price_24 rfl ?_
        refine x_i2l dX8_price_25 ?_
        refine x_lconst (v := lN 0) rfl dX8_price_26 ?_
        refine x_ldc2 (v := lN 99) ho q2017 dX8_price_27 ?_
        refine x_callS3 lk_X8_105 (m_isIn _ _ _) ho dX8_price_30 (Nat.le_of_ble_eq_true rfl) (by omega) (by decide) (by omega) (by omega) ?_
        refine x_ifb_ne (tgt := 42) dX8_price_33 (by decide) (fun c33 => ?_) (fun c33 => ?_)
        · try (exfalso; first | (simp (disch := omega) [inS_ix, inS_N, ixL_N, ix_nI, hx, hy] at c33 <;> omega) | (simp (disch := omega) only [h0, h1, h3, Int32.le_iff_toInt_le, Int32.lt_iff_toInt_lt, ← Int32.toInt_inj, nI_toInt, Int32.toInt_zero, m1_toInt, Int64.le_iff_toInt_le, Int64.lt_iff_toInt_lt, ← Int64.toInt_inj, pk_lT, i64_toInt, Int64.toInt_zero, eq_self, not_true_eq_false, not_false_eq_true] at c15 c33 <;> omega) | omega)
          all_goals
            skip
            refine x_aload_n dX8_price_42 rfl ?_
            refine x_getf gf_X8_35 ho dX8_price_43 rfl rfl ?_
            refine x_bipush (v := nI 6) rfl dX8_price_46 ?_
            refine x_iload_n dX8_price_48 rfl ?_
            refine x_iaddN dX8_price_49 ?_
            refine x_iload_n dX8_price_50 rfl ?_
            refine m_iast (r := 5) dX8_price_51 (by decide) (by decide) (fun _ => rfl) (by first | rfl | exact nI_add _ _ | (simp only [nI_add, pk_mul]; rfl)) (by omega) (by decide) ?_
            refine x_iconst (v := nI 1) rfl dX8_price_52 ?_
            refine x_iret hr rfl dX8_price_53 (by omega) (by omega) (hQ _ _ ?_)
            try dsimp only [mI, mSA] at c15 c33
            exact ⟨by simp [spPrice, hx, hy], by simp [spPrice, hx, hy, mI_mI, mSA_id]⟩
        · try (exfalso; first | (simp (disch := omega) [inS_ix, inS_N, ixL_N, ix_nI, hx, hy] at c33 <;> omega) | (simp (disch := omega) only [h0, h1, h3, Int32.le_iff_toInt_le, Int32.lt_iff_toInt_lt, ← Int32.toInt_inj, nI_toInt, Int32.toInt_zero, m1_toInt, Int64.le_iff_toInt_le, Int64.lt_iff_toInt_lt, ← Int64.toInt_inj, pk_lT, i64_toInt, Int64.toInt_zero, eq_self, not_true_eq_false, not_false_eq_true] at c15 c33 <;> omega) | omega)
          all_goals
            skip
            refine x_aload_n dX8_price_36 rfl ?_
            refine x_iconst (v := nI 5) rfl dX8_price_37 ?_
            refine x_callV1 lk_X8_85 (m_no _) ho dX8_price_38 rfl (Nat.le_of_ble_eq_true rfl) (by omega) (by decide) (by omega) (by omega) ?_
            refine x_iret hr rfl dX8_price_41 (by omega) (by omega) (hQ _ _ ?_)
            try dsimp only [mI, mSA] at c15 c33
            exact ⟨by simp [spPrice, hx, hy], by simp [spPrice, hx, hy, mI_mI, mSA_id]⟩
    · try (exfalso; first | (simp (disch := omega) [inS_ix, inS_N, ixL_N, ix_nI, hx, hy] at c15 <;> omega) | (simp (disch := omega) only [h0, h1, h3, Int32.le_iff_toInt_le, Int32.lt_iff_toInt_lt, ← Int32.toInt_inj, nI_toInt, Int32.toInt_zero, m1_toInt, Int64.le_iff_toInt_le, Int64.lt_iff_toInt_lt, ← Int64.toInt_inj, pk_lT, i64_toInt, Int64.toInt_zero, eq_self, not_true_eq_false, not_false_eq_true] at c15 <;> omega) | omega)
      all_goals
        skip
        refine x_aload_n dX8_price_18 rfl ?_
        refine x_iconst (v := nI 2) rfl dX8_price_19 ?_
        refine x_callV1 lk_X8_85 (m_no _) ho dX8_price_20 rfl (Nat.le_of_ble_eq_true rfl) (by omega) (by decide) (by omega) (by omega) ?_
        refine x_iret hr rfl dX8_price_23 (by omega) (by omega) (hQ _ _ ?_)
        try dsimp only [mI, mSA] at c15
        exact ⟨by simp [spPrice, hx, hy], by simp [spPrice, hx, hy, mI_mI, mSA_id]⟩
set_option maxHeartbeats 4000000 in
theorem m_rule {w : xW} {M : mS} {R : xH} {tm pm tn G : Nat} (hF : wF (M.2.2.1 5) tm pm tn G) (w9 : Int32) : CT w yX8_rule cX8_rule 2 (some (.boolean)) [] false (2) 0 0 [.ref 32, .int w9] (hM M R) (xret (some (.int (spRule (M.2.2.1 5) w9).1)) (hM (mSA (mI (mI M 1 (nI 0)) 0 (nI (spRule (M.2.2.1 5) w9).2.1)) 5 (spRule (M.2.2.1 5) w9).2.2) R)) := by
  rcases ix_or w9 (n := 17) (by omega) with ⟨hx, hx2⟩ | ⟨t, ht, rfl, hx⟩
  · skip
    refine CT.of (ini := false) (by decide +kernel) q2021 q164 (Nat.le_of_ble_eq_true rfl) (by decide) ?_
    intro Γ hw ho hL hr hh hini hal hd hmc hms hQ
    subst hw
    show AW Γ cX8_rule 0 0 0 [some (.ref 32), some (.int w9)] [] (hM M R)
    have h0 := hF.c0
    have h1 := hF.c1
    have h3 := hF.c3
    have l0 := hF.l0
    have l1 := hF.l1
    have l3 := hF.l3
    refine x_aload_n dX8_rule_0 rfl ?_
    refine x_iconst (v := nI 0) rfl dX8_rule_1 ?_
    refine m_puti (k := 1) (pf_X8_70 (ini := false)) ho hini dX8_rule_2 rfl rfl (by decide) (ms_1 _ _) ?_
    refine x_aload_n dX8_rule_5 rfl ?_
    refine x_iconst (v := nI 0) rfl dX8_rule_6 ?_
    refine m_puti (k := 0) (pf_X8_73 (ini := false)) ho hini dX8_rule_7 rfl rfl (by decide) (ms_0 _ _) ?_
    refine x_iload_n dX8_rule_10 rfl ?_
    refine x_i2l dX8_rule_11 ?_
    refine x_lconst (v := lN 0) rfl dX8_rule_12 ?_
    refine x_ldc2 (v := lN 16) ho q2022 dX8_rule_13 ?_
    refine x_callS3 lk_X8_105 (m_isIn _ _ _) ho dX8_rule_16 (Nat.le_of_ble_eq_true rfl) (by omega) (by decide) (by omega) (by omega) ?_
    refine x_ifb_ne (tgt := 28) dX8_rule_19 (by decide) (fun c19 => ?_) (fun c19 => ?_)
    · try (exfalso; first | (simp (disch := omega) [inS_ix, inS_N, ixL_N, ix_nI, hx] at c19 <;> omega) | (simp (disch := omega) only [h0, h1, h3, Int32.le_iff_toInt_le, Int32.lt_iff_toInt_lt, ← Int32.toInt_inj, nI_toInt, Int32.toInt_zero, m1_toInt, Int64.le_iff_toInt_le, Int64.lt_iff_toInt_lt, ← Int64.toInt_inj, pk_lT, i64_toInt, Int64.toInt_zero, eq_self, not_true_eq_false, not_false_eq_true] at c19 <;> omega) | omega)
      all_goals
        skip
        refine x_aload_n dX8_rule_28 rfl ?_
        refine x_getf gf_X8_35 ho dX8_rule_29 rfl rfl ?_
        refine x_iconst (v := nI 4) rfl dX8_rule_32 ?_
        refine x_iload_n dX8_rule_33 rfl ?_
        refine m_iast (r := 5) dX8_rule_34 (by decide) (by decide) (fun _ => rfl) (by first | rfl | exact nI_add _ _ | (simp only [nI_add, pk_mul]; rfl)) (by omega) (by decide) ?_
        refine x_iconst (v := nI 1) rfl dX8_rule_35 ?_
        refine x_iret hr rfl dX8_rule_36 (by omega) (by omega) (hQ _ _ ?_)
        try dsimp only [mI, mSA] at c19
        exact ⟨by simp [spRule, hx], by simp [spRule, hx, mI_mI, mSA_id]⟩
    · try (exfalso; first | (simp (disch := omega) [inS_ix, inS_N, ixL_N, ix_nI, hx] at c19 <;> omega) | (simp (disch := omega) only [h0, h1, h3, Int32.le_iff_toInt_le, Int32.lt_iff_toInt_lt, ← Int32.toInt_inj, nI_toInt, Int32.toInt_zero, m1_toInt, Int64.le_iff_toInt_le, Int64.lt_iff_toInt_lt, ← Int64.toInt_inj, pk_lT, i64_toInt, Int64.toInt_zero, eq_self, not_true_eq_false, not_false_eq_true] at c19 <;> omega) | omega)
      all_goals
        skip
        refine x_aload_n dX8_rule_22 rfl ?_
        refine x_iconst (v := nI 5) rfl dX8_rule_23 ?_
        refine x_callV1 lk_X8_85 (m_no _) ho dX8_rule_24 rfl (Nat.le_of_ble_eq_true rfl) (by omega) (by decide) (by omega) (by omega) ?_
        refine x_iret hr rfl dX8_rule_27 (by omega) (by omega) (hQ _ _ ?_)
        try dsimp only [mI, mSA] at c19
        exact ⟨by simp [spRule, hx], by simp [spRule, hx, mI_mI, mSA_id]⟩
  · skip
    refine CT.of (ini := false) (by decide +kernel) q2021 q164 (Nat.le_of_ble_eq_true rfl) (by decide) ?_
    intro Γ hw ho hL hr hh hini hal hd hmc hms hQ
    subst hw
    show AW Γ cX8_rule 0 0 0 [some (.ref 32), some (.int (nI t))] [] (hM M R)
    have h0 := hF.c0
    have h1 := hF.c1
    have h3 := hF.c3
    have l0 := hF.l0
    have l1 := hF.l1
    have l3 := hF.l3
    refine x_aload_n dX8_rule_0 rfl ?_
    refine x_iconst (v := nI 0) rfl dX8_rule_1 ?_
    refine m_puti (k := 1) (pf_X8_70 (ini := false)) ho hini dX8_rule_2 rfl rfl (by decide) (ms_1 _ _) ?_
    refine x_aload_n dX8_rule_5 rfl ?_
    refine x_iconst (v := nI 0) rfl dX8_rule_6 ?_
    refine m_puti (k := 0) (pf_X8_73 (ini := false)) ho hini dX8_rule_7 rfl rfl (by decide) (ms_0 _ _) ?_
    refine x_iload_n dX8_rule_10 rfl ?_
    refine x_i2lN (by omega) dX8_rule_11 ?_
    refine x_lconst (v := lN 0) rfl dX8_rule_12 ?_
    refine x_ldc2 (v := lN 16) ho q2022 dX8_rule_13 ?_
    refine x_callS3 lk_X8_105 (m_isIn _ _ _) ho dX8_rule_16 (Nat.le_of_ble_eq_true rfl) (by omega) (by decide) (by omega) (by omega) ?_
    refine x_ifb_ne (tgt := 28) dX8_rule_19 (by decide) (fun c19 => ?_) (fun c19 => ?_)
    · try (exfalso; first | (simp (disch := omega) [inS_ix, inS_N, ixL_N, ix_nI, hx] at c19 <;> omega) | (simp (disch := omega) only [h0, h1, h3, Int32.le_iff_toInt_le, Int32.lt_iff_toInt_lt, ← Int32.toInt_inj, nI_toInt, Int32.toInt_zero, m1_toInt, Int64.le_iff_toInt_le, Int64.lt_iff_toInt_lt, ← Int64.toInt_inj, pk_lT, i64_toInt, Int64.toInt_zero, eq_self, not_true_eq_false, not_false_eq_true] at c19 <;> omega) | omega)
      all_goals
        skip
        refine x_aload_n dX8_rule_28 rfl ?_
        refine x_getf gf_X8_35 ho dX8_rule_29 rfl rfl ?_
        refine x_iconst (v := nI 4) rfl dX8_rule_32 ?_
        refine x_iload_n dX8_rule_33 rfl ?_
        refine m_iast (r := 5) dX8_rule_34 (by decide) (by decide) (fun _ => rfl) (by first | rfl | exact nI_add _ _ | (simp only [nI_add, pk_mul]; rfl)) (by omega) (by decide) ?_
        refine x_iconst (v := nI 1) rfl dX8_rule_35 ?_
        refine x_iret hr rfl dX8_rule_36 (by omega) (by omega) (hQ _ _ ?_)
        try dsimp only [mI, mSA] at c19
        exact ⟨by simp [spRule, hx], by simp [spRule, hx, mA_5, mSA_mSA, mSA_id, upA_s, mI_mI]⟩
    · try (exfalso; first | (simp (disch := omega) [inS_ix, inS_N, ixL_N, ix_nI, hx] at c19 <;> omega) | (simp (disch := omega) only [h0, h1, h3, Int32.le_iff_toInt_le, Int32.lt_iff_toInt_lt, ← Int32.toInt_inj, nI_toInt, Int32.toInt_zero, m1_toInt, Int64.le_iff_toInt_le, Int64.lt_iff_toInt_lt, ← Int64.toInt_inj, pk_lT, i64_toInt, Int64.toInt_zero, eq_self, not_true_eq_false, not_false_eq_true] at c19 <;> omega) | omega)
      all_goals
        skip
        refine x_aload_n dX8_rule_22 rfl ?_
        refine x_iconst (v := nI 5) rfl dX8_rule_23 ?_
        refine x_callV1 lk_X8_85 (m_no _) ho dX8_rule_24 rfl (Nat.le_of_ble_eq_true rfl) (by omega) (by decide) (by omega) (by omega) ?_
        refine x_iret hr rfl dX8_rule_27 (by omega) (by omega) (hQ _ _ ?_)
        try dsimp only [mI, mSA] at c19
        exact ⟨by simp [spRule, hx], by simp [spRule, hx, mA_5, mSA_mSA, mSA_id, upA_s, mI_mI]⟩
set_option maxHeartbeats 4000000 in
theorem m_namesFrom {w : xW} {h : xH} (k : Nat) (hk : k < 4) : CT w yX8_namesFrom cX8_namesFrom 1 (some (.int)) [] false (0) 0 0 [.int (nI k)] (h) (xret (some (.int (nI (naS k)))) (h)) := by
  rcases (show k = 0 ∨ k = 1 ∨ k = 2 ∨ k = 3 by omega) with rfl | rfl | rfl | rfl
  · skip
    refine CT.of (ini := false) (by decide +kernel) q1824 q164 (Nat.le_of_ble_eq_true rfl) (by decide) ?_
    intro Γ hw ho hL hr hh hini hal hd hmc hms hQ
    subst hw
    show AW Γ cX8_namesFrom 0 0 0 [some (.int (nI 0))] [] (h)
    refine x_iload_n dX8_namesFrom_0 rfl ?_
    refine x_if_ne (tgt := 8) dX8_namesFrom_1 (by decide) (fun c1 => ?_) (fun c1 => ?_)
    · try (exfalso; first | (simp (disch := omega) only [Int32.le_iff_toInt_le, Int32.lt_iff_toInt_lt, ← Int32.toInt_inj, nI_toInt, Int32.toInt_zero, m1_toInt, Int64.le_iff_toInt_le, Int64.lt_iff_toInt_lt, ← Int64.toInt_inj, pk_lT, i64_toInt, Int64.toInt_zero, eq_self, not_true_eq_false, not_false_eq_true] at c1 <;> omega) | omega)
      all_goals
        skip
        refine x_iload_n dX8_namesFrom_8 rfl ?_
        refine x_iconst (v := nI 1) rfl dX8_namesFrom_9 ?_
        refine x_icmp_ne (tgt := 18) dX8_namesFrom_10 (by decide) (fun c10 => ?_) (fun c10 => ?_)
        · try (exfalso; first | (simp (disch := omega) only [Int32.le_iff_toInt_le, Int32.lt_iff_toInt_lt, ← Int32.toInt_inj, nI_toInt, Int32.toInt_zero, m1_toInt, Int64.le_iff_toInt_le, Int64.lt_iff_toInt_lt, ← Int64.toInt_inj, pk_lT, i64_toInt, Int64.toInt_zero, eq_self, not_true_eq_false, not_false_eq_true] at c1 c10 <;> omega) | omega)
          all_goals
            skip
            refine x_bipush (v := nI 13) rfl dX8_namesFrom_18 ?_
            refine x_iret hr rfl dX8_namesFrom_20 (by omega) (by omega) (hQ _ _ ?_)
            exact ⟨by first | rfl | (simp [c1, c10]; done), rfl⟩
        · try (exfalso; first | (simp (disch := omega) only [Int32.le_iff_toInt_le, Int32.lt_iff_toInt_lt, ← Int32.toInt_inj, nI_toInt, Int32.toInt_zero, m1_toInt, Int64.le_iff_toInt_le, Int64.lt_iff_toInt_lt, ← Int64.toInt_inj, pk_lT, i64_toInt, Int64.toInt_zero, eq_self, not_true_eq_false, not_false_eq_true] at c1 c10 <;> omega) | omega)
          all_goals
            skip
            refine x_bipush (v := nI 6) rfl dX8_namesFrom_13 ?_
            refine x_goto (tgt := 20) dX8_namesFrom_15 (by decide) ?_
            refine x_iret hr rfl dX8_namesFrom_20 (by omega) (by omega) (hQ _ _ ?_)
            exact ⟨by first | rfl | (simp [c1, c10]; done), rfl⟩
    · try (exfalso; first | (simp (disch := omega) only [Int32.le_iff_toInt_le, Int32.lt_iff_toInt_lt, ← Int32.toInt_inj, nI_toInt, Int32.toInt_zero, m1_toInt, Int64.le_iff_toInt_le, Int64.lt_iff_toInt_lt, ← Int64.toInt_inj, pk_lT, i64_toInt, Int64.toInt_zero, eq_self, not_true_eq_false, not_false_eq_true] at c1 <;> omega) | omega)
      all_goals
        skip
        refine x_iconst (v := nI 0) rfl dX8_namesFrom_4 ?_
        refine x_goto (tgt := 20) dX8_namesFrom_5 (by decide) ?_
        refine x_iret hr rfl dX8_namesFrom_20 (by omega) (by omega) (hQ _ _ ?_)
        exact ⟨by first | rfl | (simp [c1]; done), rfl⟩
  · skip
    refine CT.of (ini := false) (by decide +kernel) q1824 q164 (Nat.le_of_ble_eq_true rfl) (by decide) ?_
    intro Γ hw ho hL hr hh hini hal hd hmc hms hQ
    subst hw
    show AW Γ cX8_namesFrom 0 0 0 [some (.int (nI 1))] [] (h)
    refine x_iload_n dX8_namesFrom_0 rfl ?_
    refine x_if_ne (tgt := 8) dX8_namesFrom_1 (by decide) (fun c1 => ?_) (fun c1 => ?_)
    · try (exfalso; first | (simp (disch := omega) only [Int32.le_iff_toInt_le, Int32.lt_iff_toInt_lt, ← Int32.toInt_inj, nI_toInt, Int32.toInt_zero, m1_toInt, Int64.le_iff_toInt_le, Int64.lt_iff_toInt_lt, ← Int64.toInt_inj, pk_lT, i64_toInt, Int64.toInt_zero, eq_self, not_true_eq_false, not_false_eq_true] at c1 <;> omega) | omega)
      all_goals
        skip
        refine x_iload_n dX8_namesFrom_8 rfl ?_
        refine x_iconst (v := nI 1) rfl dX8_namesFrom_9 ?_
        refine x_icmp_ne (tgt := 18) dX8_namesFrom_10 (by decide) (fun c10 => ?_) (fun c10 => ?_)
        · try (exfalso; first | (simp (disch := omega) only [Int32.le_iff_toInt_le, Int32.lt_iff_toInt_lt, ← Int32.toInt_inj, nI_toInt, Int32.toInt_zero, m1_toInt, Int64.le_iff_toInt_le, Int64.lt_iff_toInt_lt, ← Int64.toInt_inj, pk_lT, i64_toInt, Int64.toInt_zero, eq_self, not_true_eq_false, not_false_eq_true] at c1 c10 <;> omega) | omega)
          all_goals
            skip
            refine x_bipush (v := nI 13) rfl dX8_namesFrom_18 ?_
            refine x_iret hr rfl dX8_namesFrom_20 (by omega) (by omega) (hQ _ _ ?_)
            exact ⟨by first | rfl | (simp [c1, c10]; done), rfl⟩
        · try (exfalso; first | (simp (disch := omega) only [Int32.le_iff_toInt_le, Int32.lt_iff_toInt_lt, ← Int32.toInt_inj, nI_toInt, Int32.toInt_zero, m1_toInt, Int64.le_iff_toInt_le, Int64.lt_iff_toInt_lt, ← Int64.toInt_inj, pk_lT, i64_toInt, Int64.toInt_zero, eq_self, not_true_eq_false, not_false_eq_true] at c1 c10 <;> omega) | omega)
          all_goals
            skip
            refine x_bipush (v := nI 6) rfl dX8_namesFrom_13 ?_
            refine x_goto (tgt := 20) dX8_namesFrom_15 (by decide) ?_
            refine x_iret hr rfl dX8_namesFrom_20 (by omega) (by omega) (hQ _ _ ?_)
            exact ⟨by first | rfl | (simp [c1, c10]; done), rfl⟩
    · try (exfalso; first | (simp (disch := omega) only [Int32.le_iff_toInt_le, Int32.lt_iff_toInt_lt, ← Int32.toInt_inj, nI_toInt, Int32.toInt_zero, m1_toInt, Int64.le_iff_toInt_le, Int64.lt_iff_toInt_lt, ← Int64.toInt_inj, pk_lT, i64_toInt, Int64.toInt_zero, eq_self, not_true_eq_false, not_false_eq_true] at c1 <;> omega) | omega)
      all_goals
        skip
        refine x_iconst (v := nI 0) rfl dX8_namesFrom_4 ?_
        refine x_goto (tgt := 20) dX8_namesFrom_5 (by decide) ?_
        refine x_iret hr rfl dX8_namesFrom_20 (by omega) (by omega) (hQ _ _ ?_)
        exact ⟨by first | rfl | (simp [c1]; done), rfl⟩
  · skip
    refine CT.of (ini := false) (by decide +kernel) q1824 q164 (Nat.le_of_ble_eq_true rfl) (by decide) ?_
    intro Γ hw ho hL hr hh hini hal hd hmc hms hQ
    subst hw
    show AW Γ cX8_namesFrom 0 0 0 [some (.int (nI 2))] [] (h)
    refine x_iload_n dX8_namesFrom_0 rfl ?_
    refine x_if_ne (tgt := 8) dX8_namesFrom_1 (by decide) (fun c1 => ?_) (fun c1 => ?_)
    · try (exfalso; first | (simp (disch := omega) only [Int32.le_iff_toInt_le, Int32.lt_iff_toInt_lt, ← Int32.toInt_inj, nI_toInt, Int32.toInt_zero, m1_toInt, Int64.le_iff_toInt_le, Int64.lt_iff_toInt_lt, ← Int64.toInt_inj, pk_lT, i64_toInt, Int64.toInt_zero, eq_self, not_true_eq_false, not_false_eq_true] at c1 <;> omega) | omega)
      all_goals
        skip
        refine x_iload_n dX8_namesFrom_8 rfl ?_
        refine x_iconst (v := nI 1) rfl dX8_namesFrom_9 ?_
        refine x_icmp_ne (tgt := 18) dX8_namesFrom_10 (by decide) (fun c10 => ?_) (fun c10 => ?_)
        · try (exfalso; first | (simp (disch := omega) only [Int32.le_iff_toInt_le, Int32.lt_iff_toInt_lt, ← Int32.toInt_inj, nI_toInt, Int32.toInt_zero, m1_toInt, Int64.le_iff_toInt_le, Int64.lt_iff_toInt_lt, ← Int64.toInt_inj, pk_lT, i64_toInt, Int64.toInt_zero, eq_self, not_true_eq_false, not_false_eq_true] at c1 c10 <;> omega) | omega)
          all_goals
            skip
            refine x_bipush (v := nI 13) rfl dX8_namesFrom_18 ?_
            refine x_iret hr rfl dX8_namesFrom_20 (by omega) (by omega) (hQ _ _ ?_)
            exact ⟨by first | rfl | (simp [c1, c10]; done), rfl⟩
        · try (exfalso; first | (simp (disch := omega) only [Int32.le_iff_toInt_le, Int32.lt_iff_toInt_lt, ← Int32.toInt_inj, nI_toInt, Int32.toInt_zero, m1_toInt, Int64.le_iff_toInt_le, Int64.lt_iff_toInt_lt, ← Int64.toInt_inj, pk_lT, i64_toInt, Int64.toInt_zero, eq_self, not_true_eq_false, not_false_eq_true] at c1 c10 <;> omega) | omega)
          all_goals
            skip
            refine x_bipush (v := nI 6) rfl dX8_namesFrom_13 ?_
            refine x_goto (tgt := 20) dX8_namesFrom_15 (by decide) ?_
            refine x_iret hr rfl dX8_namesFrom_20 (by omega) (by omega) (hQ _ _ ?_)
            exact ⟨by first | rfl | (simp [c1, c10]; done), rfl⟩
    · try (exfalso; first | (simp (disch := omega) only [Int32.le_iff_toInt_le, Int32.lt_iff_toInt_lt, ← Int32.toInt_inj, nI_toInt, Int32.toInt_zero, m1_toInt, Int64.le_iff_toInt_le, Int64.lt_iff_toInt_lt, ← Int64.toInt_inj, pk_lT, i64_toInt, Int64.toInt_zero, eq_self, not_true_eq_false, not_false_eq_true] at c1 <;> omega) | omega)
      all_goals
        skip
        refine x_iconst (v := nI 0) rfl dX8_namesFrom_4 ?_
        refine x_goto (tgt := 20) dX8_namesFrom_5 (by decide) ?_
        refine x_iret hr rfl dX8_namesFrom_20 (by omega) (by omega) (hQ _ _ ?_)
        exact ⟨by first | rfl | (simp [c1]; done), rfl⟩
  · skip
    refine CT.of (ini := false) (by decide +kernel) q1824 q164 (Nat.le_of_ble_eq_true rfl) (by decide) ?_
    intro Γ hw ho hL hr hh hini hal hd hmc hms hQ
    subst hw
    show AW Γ cX8_namesFrom 0 0 0 [some (.int (nI 3))] [] (h)
    refine x_iload_n dX8_namesFrom_0 rfl ?_
    refine x_if_ne (tgt := 8) dX8_namesFrom_1 (by decide) (fun c1 => ?_) (fun c1 => ?_)
    · try (exfalso; first | (simp (disch := omega) only [Int32.le_iff_toInt_le, Int32.lt_iff_toInt_lt, ← Int32.toInt_inj, nI_toInt, Int32.toInt_zero, m1_toInt, Int64.le_iff_toInt_le, Int64.lt_iff_toInt_lt, ← Int64.toInt_inj, pk_lT, i64_toInt, Int64.toInt_zero, eq_self, not_true_eq_false, not_false_eq_true] at c1 <;> omega) | omega)
      all_goals
        skip
        refine x_iload_n dX8_namesFrom_8 rfl ?_
        refine x_iconst (v := nI 1) rfl dX8_namesFrom_9 ?_
        refine x_icmp_ne (tgt := 18) dX8_namesFrom_10 (by decide) (fun c10 => ?_) (fun c10 => ?_)
        · try (exfalso; first | (simp (disch := omega) only [Int32.le_iff_toInt_le, Int32.lt_iff_toInt_lt, ← Int32.toInt_inj, nI_toInt, Int32.toInt_zero, m1_toInt, Int64.le_iff_toInt_le, Int64.lt_iff_toInt_lt, ← Int64.toInt_inj, pk_lT, i64_toInt, Int64.toInt_zero, eq_self, not_true_eq_false, not_false_eq_true] at c1 c10 <;> omega) | omega)
          all_goals
            skip
            refine x_bipush (v := nI 13) rfl dX8_namesFrom_18 ?_
            refine x_iret hr rfl dX8_namesFrom_20 (by omega) (by omega) (hQ _ _ ?_)
            exact ⟨by first | rfl | (simp [c1, c10]; done), rfl⟩
        · try (exfalso; first | (simp (disch := omega) only [Int32.le_iff_toInt_le, Int32.lt_iff_toInt_lt, ← Int32.toInt_inj, nI_toInt, Int32.toInt_zero, m1_toInt, Int64.le_iff_toInt_le, Int64.lt_iff_toInt_lt, ← Int64.toInt_inj, pk_lT, i64_toInt, Int64.toInt_zero, eq_self, not_true_eq_false, not_false_eq_true] at c1 c10 <;> omega) | omega)
          all_goals
            skip
            refine x_bipush (v := nI 6) rfl dX8_namesFrom_13 ?_
            refine x_goto (tgt := 20) dX8_namesFrom_15 (by decide) ?_
            refine x_iret hr rfl dX8_namesFrom_20 (by omega) (by omega) (hQ _ _ ?_)
            exact ⟨by first | rfl | (simp [c1, c10]; done), rfl⟩
    · try (exfalso; first | (simp (disch := omega) only [Int32.le_iff_toInt_le, Int32.lt_iff_toInt_lt, ← Int32.toInt_inj, nI_toInt, Int32.toInt_zero, m1_toInt, Int64.le_iff_toInt_le, Int64.lt_iff_toInt_lt, ← Int64.toInt_inj, pk_lT, i64_toInt, Int64.toInt_zero, eq_self, not_true_eq_false, not_false_eq_true] at c1 <;> omega) | omega)
      all_goals
        skip
        refine x_iconst (v := nI 0) rfl dX8_namesFrom_4 ?_
        refine x_goto (tgt := 20) dX8_namesFrom_5 (by decide) ?_
        refine x_iret hr rfl dX8_namesFrom_20 (by omega) (by omega) (hQ _ _ ?_)
        exact ⟨by first | rfl | (simp [c1]; done), rfl⟩
set_option maxHeartbeats 4000000 in
theorem m_teach {w : xW} {M : mS} {R : xH} {tm pm tn G : Nat} (hF : wF (M.2.2.1 5) tm pm tn G) (p9 k9 : Int32) (b : Bool) : CT w yX8_teach cX8_teach 4 (some (.boolean)) [] false (3) 0 0 [.ref 32, .int p9, .int k9, .int (xb b)] (hM M R) (xret (some (.int (spTeach (M.2.2.1 5) tm pm p9 k9 b).1)) (hM (mSA (mI (mI M 1 (nI 0)) 0 (nI (spTeach (M.2.2.1 5) tm pm p9 k9 b).2.1)) 5 (spTeach (M.2.2.1 5) tm pm p9 k9 b).2.2) R)) := by
  have l0 := hF.l0
  have l1 := hF.l1
  have l3 := hF.l3
  rcases ix_or p9 (n := pm) (by omega) with ⟨hx, hx2⟩ | ⟨t, ht, rfl, hx⟩
  rotate_left 1
  rcases ix_or k9 (n := tm) (by omega) with ⟨hy, hy2⟩ | ⟨j, hj, rfl, hy⟩
  rotate_left 1
  · skip
    refine CT.of (ini := false) (by decide +kernel) q2004 q164 (Nat.le_of_ble_eq_true rfl) (by decide) ?_
    intro Γ hw ho hL hr hh hini hal hd hmc hms hQ
    subst hw
    show AW Γ cX8_teach 0 0 0 [some (.ref 32), some (.int (nI t)), some (.int (nI j)), some (.int (xb b))] [] (hM M R)
    have h0 := hF.c0
    have h1 := hF.c1
    have h3 := hF.c3
    have l0 := hF.l0
    have l1 := hF.l1
    have l3 := hF.l3
    refine x_aload_n dX8_teach_0 rfl ?_
    refine x_iconst (v := nI 0) rfl dX8_teach_1 ?_
    refine m_puti (k := 1) (pf_X8_70 (ini := false)) ho hini dX8_teach_2 rfl rfl (by decide) (ms_1 _ _) ?_
    refine x_aload_n dX8_teach_5 rfl ?_
    refine x_iconst (v := nI 0) rfl dX8_teach_6 ?_
    refine m_puti (k := 0) (pf_X8_73 (ini := false)) ho hini dX8_teach_7 rfl rfl (by decide) (ms_0 _ _) ?_
    refine x_aload_n dX8_teach_10 rfl ?_
    refine x_iload_n dX8_teach_11 rfl ?_
    refine x_i2lN (by omega) dX8_teach_12 ?_
    refine x_callV1 lk_X8_336 (m_isPersonAt (M := (mI (mI M 1 (nI 0)) 0 (nI 0))) hF _) ho dX8_teach_13 rfl (Nat.le_of_ble_eq_true rfl) (by omega) (by decide) (by omega) (by omega) ?_
    refine x_ifb_eq (tgt := 27) dX8_teach_16 (by decide) (fun c16 => ?_) (fun c16 => ?_)
    · try (exfalso; first | (simp (disch := omega) [inS_ix, inS_N, ixL_N, ix_nI, hx, hy, ixL_i] at c16 <;> omega) | (simp (disch := omega) only [h0, h1, h3, Int32.le_iff_toInt_le, Int32.lt_iff_toInt_lt, ← Int32.toInt_inj, nI_toInt, Int32.toInt_zero, m1_toInt, Int64.le_iff_toInt_le, Int64.lt_iff_toInt_lt, ← Int64.toInt_inj, pk_lT, i64_toInt, Int64.toInt_zero, eq_self, not_true_eq_false, not_false_eq_true] at c16 <;> omega) | omega)
      all_goals
        skip
        refine x_aload_n dX8_teach_27 rfl ?_
        refine x_iconst (v := nI 2) rfl dX8_teach_28 ?_
        refine x_callV1 lk_X8_85 (m_no _) ho dX8_teach_29 rfl (Nat.le_of_ble_eq_true rfl) (by omega) (by decide) (by omega) (by omega) ?_
        refine x_iret hr rfl dX8_teach_32 (by omega) (by omega) (hQ _ _ ?_)
        try dsimp only [mI, mSA] at c16
        exact ⟨by simp (disch := omega) [spTeach, hx, hy, c16, xb], by simp (disch := omega) [spTeach, hx, hy, c16, teC, mSA_id, mI_mI]⟩
    · try (exfalso; first | (simp (disch := omega) [inS_ix, inS_N, ixL_N, ix_nI, hx, hy, ixL_i] at c16 <;> omega) | (simp (disch := omega) only [h0, h1, h3, Int32.le_iff_toInt_le, Int32.lt_iff_toInt_lt, ← Int32.toInt_inj, nI_toInt, Int32.toInt_zero, m1_toInt, Int64.le_iff_toInt_le, Int64.lt_iff_toInt_lt, ← Int64.toInt_inj, pk_lT, i64_toInt, Int64.toInt_zero, eq_self, not_true_eq_false, not_false_eq_true] at c16 <;> omega) | omega)
      all_goals
        skip
        refine x_aload_n dX8_teach_19 rfl ?_
        refine x_iload_n dX8_teach_20 rfl ?_
        refine x_callV1 lk_X8_333 (m_isTraitAt (M := (mI (mI M 1 (nI 0)) 0 (nI 0))) hF _) ho dX8_teach_21 rfl (Nat.le_of_ble_eq_true rfl) (by omega) (by decide) (by omega) (by omega) ?_
        refine x_ifb_ne (tgt := 33) dX8_teach_24 (by decide) (fun c24 => ?_) (fun c24 => ?_)
        · try (exfalso; first | (simp (disch := omega) [inS_ix, inS_N, ixL_N, ix_nI, hx, hy, ixL_i] at c24 <;> omega) | (simp (disch := omega) only [h0, h1, h3, Int32.le_iff_toInt_le, Int32.lt_iff_toInt_lt, ← Int32.toInt_inj, nI_toInt, Int32.toInt_zero, m1_toInt, Int64.le_iff_toInt_le, Int64.lt_iff_toInt_lt, ← Int64.toInt_inj, pk_lT, i64_toInt, Int64.toInt_zero, eq_self, not_true_eq_false, not_false_eq_true] at c16 c24 <;> omega) | omega)
          all_goals
            skip
            refine x_aload_n dX8_teach_33 rfl ?_
            refine x_iload_n dX8_teach_34 rfl ?_
            refine x_iload_n dX8_teach_35 rfl ?_
            refine x_iload_n dX8_teach_36 rfl ?_
            refine x_callV3 lk_X8_366 (m_teaches (M := (mI (mI M 1 (nI 0)) 0 (nI 0))) hF _ _ _ (by omega)) ho dX8_teach_37 rfl (Nat.le_of_ble_eq_true rfl) (by omega) (by decide) (by omega) (by omega) ?_
            refine x_ifb_ne (tgt := 52) dX8_teach_40 (by decide) (fun c40 => ?_) (fun c40 => ?_)
            · try (exfalso; first | (simp (disch := omega) [inS_ix, inS_N, ixL_N, ix_nI, hx, hy, ixL_i] at c40 <;> omega) | (simp (disch := omega) only [h0, h1, h3, Int32.le_iff_toInt_le, Int32.lt_iff_toInt_lt, ← Int32.toInt_inj, nI_toInt, Int32.toInt_zero, m1_toInt, Int64.le_iff_toInt_le, Int64.lt_iff_toInt_lt, ← Int64.toInt_inj, pk_lT, i64_toInt, Int64.toInt_zero, eq_self, not_true_eq_false, not_false_eq_true] at c16 c24 c40 <;> omega) | omega)
              all_goals
                skip
                refine x_iconst (v := nI 1) rfl dX8_teach_52 ?_
                refine x_goto (tgt := 57) dX8_teach_53 (by decide) ?_
                refine x_iret hr rfl dX8_teach_57 (by omega) (by omega) (hQ _ _ ?_)
                try dsimp only [mI, mSA] at c16 c24 c40
                exact ⟨by simp (disch := omega) [spTeach, hx, hy, c16, c24, c40, xb], by simp (disch := omega) [spTeach, hx, hy, c16, c24, c40, teC, mSA_id, mI_mI]⟩
            · try (exfalso; first | (simp (disch := omega) [inS_ix, inS_N, ixL_N, ix_nI, hx, hy, ixL_i] at c40 <;> omega) | (simp (disch := omega) only [h0, h1, h3, Int32.le_iff_toInt_le, Int32.lt_iff_toInt_lt, ← Int32.toInt_inj, nI_toInt, Int32.toInt_zero, m1_toInt, Int64.le_iff_toInt_le, Int64.lt_iff_toInt_lt, ← Int64.toInt_inj, pk_lT, i64_toInt, Int64.toInt_zero, eq_self, not_true_eq_false, not_false_eq_true] at c16 c24 c40 <;> omega) | omega)
              all_goals
                skip
                refine x_aload_n dX8_teach_43 rfl ?_
                refine x_bipush (v := nI 9) rfl dX8_teach_44 ?_
                refine x_callV1 lk_X8_85 (m_no _) ho dX8_teach_46 rfl (Nat.le_of_ble_eq_true rfl) (by omega) (by decide) (by omega) (by omega) ?_
                refine x_if_eq (tgt := 56) dX8_teach_49 (by decide) (fun c49 => ?_) (fun c49 => ?_)
                · try (exfalso; first | (simp (disch := omega) [inS_ix, inS_N, ixL_N, ix_nI, hx, hy, ixL_i] at c49 <;> omega) | (simp (disch := omega) only [h0, h1, h3, Int32.le_iff_toInt_le, Int32.lt_iff_toInt_lt, ← Int32.toInt_inj, nI_toInt, Int32.toInt_zero, m1_toInt, Int64.le_iff_toInt_le, Int64.lt_iff_toInt_lt, ← Int64.toInt_inj, pk_lT, i64_toInt, Int64.toInt_zero, eq_self, not_true_eq_false, not_false_eq_true] at c16 c24 c40 c49 <;> omega) | omega)
                  all_goals
                    skip
                    refine x_iconst (v := nI 0) rfl dX8_teach_56 ?_
                    refine x_iret hr rfl dX8_teach_57 (by omega) (by omega) (hQ _ _ ?_)
                    try dsimp only [mI, mSA] at c16 c24 c40 c49
                    exact ⟨by simp (disch := omega) [spTeach, hx, hy, c16, c24, c40, c49, xb], by simp (disch := omega) [spTeach, hx, hy, c16, c24, c40, c49, teC, mSA_id, mI_mI]⟩
                · try (exfalso; first | (simp (disch := omega) [inS_ix, inS_N, ixL_N, ix_nI, hx, hy, ixL_i] at c49 <;> omega) | (simp (disch := omega) only [h0, h1, h3, Int32.le_iff_toInt_le, Int32.lt_iff_toInt_lt, ← Int32.toInt_inj, nI_toInt, Int32.toInt_zero, m1_toInt, Int64.le_iff_toInt_le, Int64.lt_iff_toInt_lt, ← Int64.toInt_inj, pk_lT, i64_toInt, Int64.toInt_zero, eq_self, not_true_eq_false, not_false_eq_true] at c16 c24 c40 c49 <;> omega) | omega)
                  all_goals
                    skip
                    refine x_iconst (v := nI 1) rfl dX8_teach_52 ?_
                    refine x_goto (tgt := 57) dX8_teach_53 (by decide) ?_
                    refine x_iret hr rfl dX8_teach_57 (by omega) (by omega) (hQ _ _ ?_)
                    try dsimp only [mI, mSA] at c16 c24 c40 c49
                    exact ⟨by simp (disch := omega) [spTeach, hx, hy, c16, c24, c40, c49, xb], by simp (disch := omega) [spTeach, hx, hy, c16, c24, c40, c49, teC, mSA_id, mI_mI]⟩
        · try (exfalso; first | (simp (disch := omega) [inS_ix, inS_N, ixL_N, ix_nI, hx, hy, ixL_i] at c24 <;> omega) | (simp (disch := omega) only [h0, h1, h3, Int32.le_iff_toInt_le, Int32.lt_iff_toInt_lt, ← Int32.toInt_inj, nI_toInt, Int32.toInt_zero, m1_toInt, Int64.le_iff_toInt_le, Int64.lt_iff_toInt_lt, ← Int64.toInt_inj, pk_lT, i64_toInt, Int64.toInt_zero, eq_self, not_true_eq_false, not_false_eq_true] at c16 c24 <;> omega) | omega)
          all_goals
            skip
            refine x_aload_n dX8_teach_27 rfl ?_
            refine x_iconst (v := nI 2) rfl dX8_teach_28 ?_
            refine x_callV1 lk_X8_85 (m_no _) ho dX8_teach_29 rfl (Nat.le_of_ble_eq_true rfl) (by omega) (by decide) (by omega) (by omega) ?_
            refine x_iret hr rfl dX8_teach_32 (by omega) (by omega) (hQ _ _ ?_)
            try dsimp only [mI, mSA] at c16 c24
            exact ⟨by simp (disch := omega) [spTeach, hx, hy, c16, c24, xb], by simp (disch := omega) [spTeach, hx, hy, c16, c24, teC, mSA_id, mI_mI]⟩
  · skip
    refine CT.of (ini := false) (by decide +kernel) q2004 q164 (Nat.le_of_ble_eq_true rfl) (by decide) ?_
    intro Γ hw ho hL hr hh hini hal hd hmc hms hQ
    subst hw
    show AW Γ cX8_teach 0 0 0 [some (.ref 32), some (.int p9), some (.int k9), some (.int (xb b))] [] (hM M R)
    have h0 := hF.c0
    have h1 := hF.c1
    have h3 := hF.c3
    have l0 := hF.l0
    have l1 := hF.l1
    have l3 := hF.l3
    refine x_aload_n dX8_teach_0 rfl ?_
    refine x_iconst (v := nI 0) rfl dX8_teach_1 ?_
    refine m_puti (k := 1) (pf_X8_70 (ini := false)) ho hini dX8_teach_2 rfl rfl (by decide) (ms_1 _ _) ?_
    refine x_aload_n dX8_teach_5 rfl ?_
    refine x_iconst (v := nI 0) rfl dX8_teach_6 ?_
    refine m_puti (k := 0) (pf_X8_73 (ini := false)) ho hini dX8_teach_7 rfl rfl (by decide) (ms_0 _ _) ?_
    refine x_aload_n dX8_teach_10 rfl ?_
    refine x_iload_n dX8_teach_11 rfl ?_
    refine x_i2l dX8_teach_12 ?_
    refine x_callV1 lk_X8_336 (m_isPersonAt (M := (mI (mI M 1 (nI 0)) 0 (nI 0))) hF _) ho dX8_teach_13 rfl (Nat.le_of_ble_eq_true rfl) (by omega) (by decide) (by omega) (by omega) ?_
    refine x_ifb_eq (tgt := 27) dX8_teach_16 (by decide) (fun c16 => ?_) (fun c16 => ?_)
    · try (exfalso; first | (simp (disch := omega) [inS_ix, inS_N, ixL_N, ix_nI, hx, ixL_i] at c16 <;> omega) | (simp (disch := omega) only [h0, h1, h3, Int32.le_iff_toInt_le, Int32.lt_iff_toInt_lt, ← Int32.toInt_inj, nI_toInt, Int32.toInt_zero, m1_toInt, Int64.le_iff_toInt_le, Int64.lt_iff_toInt_lt, ← Int64.toInt_inj, pk_lT, i64_toInt, Int64.toInt_zero, eq_self, not_true_eq_false, not_false_eq_true] at c16 <;> omega) | omega)
      all_goals
        skip
        refine x_aload_n dX8_teach_27 rfl ?_
        refine x_iconst (v := nI 2) rfl dX8_teach_28 ?_
        refine x_callV1 lk_X8_85 (m_no _) ho dX8_teach_29 rfl (Nat.le_of_ble_eq_true rfl) (by omega) (by decide) (by omega) (by omega) ?_
        refine x_iret hr rfl dX8_teach_32 (by omega) (by omega) (hQ _ _ ?_)
        try dsimp only [mI, mSA] at c16
        exact ⟨by simp [spTeach, hx], by simp [spTeach, hx, mI_mI, mSA_id]⟩
    · try (exfalso; first | (simp (disch := omega) [inS_ix, inS_N, ixL_N, ix_nI, hx, ixL_i] at c16 <;> omega) | (simp (disch := omega) only [h0, h1, h3, Int32.le_iff_toInt_le, Int32.lt_iff_toInt_lt, ← Int32.toInt_inj, nI_toInt, Int32.toInt_zero, m1_toInt, Int64.le_iff_toInt_le, Int64.lt_iff_toInt_lt, ← Int64.toInt_inj, pk_lT, i64_toInt, Int64.toInt_zero, eq_self, not_true_eq_false, not_false_eq_true] at c16 <;> omega) | omega)
      all_goals
        skip
        refine x_aload_n dX8_teach_19 rfl ?_
        refine x_iload_n dX8_teach_20 rfl ?_
        refine x_callV1 lk_X8_333 (m_isTraitAt (M := (mI (mI M 1 (nI 0)) 0 (nI 0))) hF _) ho dX8_teach_21 rfl (Nat.le_of_ble_eq_true rfl) (by omega) (by decide) (by omega) (by omega) ?_
        refine x_ifb_ne (tgt := 33) dX8_teach_24 (by decide) (fun c24 => ?_) (fun c24 => ?_)
        · try (exfalso; first | (simp (disch := omega) [inS_ix, inS_N, ixL_N, ix_nI, hx, ixL_i] at c24 <;> omega) | (simp (disch := omega) only [h0, h1, h3, Int32.le_iff_toInt_le, Int32.lt_iff_toInt_lt, ← Int32.toInt_inj, nI_toInt, Int32.toInt_zero, m1_toInt, Int64.le_iff_toInt_le, Int64.lt_iff_toInt_lt, ← Int64.toInt_inj, pk_lT, i64_toInt, Int64.toInt_zero, eq_self, not_true_eq_false, not_false_eq_true] at c16 c24 <;> omega) | omega)
          all_goals
            skip
            refine x_aload_n dX8_teach_33 rfl ?_
            refine x_iload_n dX8_teach_34 rfl ?_
            refine x_iload_n dX8_teach_35 rfl ?_
            refine x_iload_n dX8_teach_36 rfl ?_
            refine x_callV3 lk_X8_366 (m_teaches (M := (mI (mI M 1 (nI 0)) 0 (nI 0))) hF _ _ _ (by omega)) ho dX8_teach_37 rfl (Nat.le_of_ble_eq_true rfl) (by omega) (by decide) (by omega) (by omega) ?_
            refine x_ifb_ne (tgt := 52) dX8_teach_40 (by decide) (fun c40 => ?_) (fun c40 => ?_)
            · try (exfalso; first | (simp (disch := omega) [inS_ix, inS_N, ixL_N, ix_nI, hx, ixL_i] at c40 <;> omega) | (simp (disch := omega) only [h0, h1, h3, Int32.le_iff_toInt_le, Int32.lt_iff_toInt_lt, ← Int32.toInt_inj, nI_toInt, Int32.toInt_zero, m1_toInt, Int64.le_iff_toInt_le, Int64.lt_iff_toInt_lt, ← Int64.toInt_inj, pk_lT, i64_toInt, Int64.toInt_zero, eq_self, not_true_eq_false, not_false_eq_true] at c16 c24 c40 <;> omega) | omega)
              all_goals
                skip
                refine x_iconst (v := nI 1) rfl dX8_teach_52 ?_
                refine x_goto (tgt := 57) dX8_teach_53 (by decide) ?_
                refine x_iret hr rfl dX8_teach_57 (by omega) (by omega) (hQ _ _ ?_)
                try dsimp only [mI, mSA] at c16 c24 c40
                exact ⟨by simp [spTeach, hx], by simp [spTeach, hx, mI_mI, mSA_id]⟩
            · try (exfalso; first | (simp (disch := omega) [inS_ix, inS_N, ixL_N, ix_nI, hx, ixL_i] at c40 <;> omega) | (simp (disch := omega) only [h0, h1, h3, Int32.le_iff_toInt_le, Int32.lt_iff_toInt_lt, ← Int32.toInt_inj, nI_toInt, Int32.toInt_zero, m1_toInt, Int64.le_iff_toInt_le, Int64.lt_iff_toInt_lt, ← Int64.toInt_inj, pk_lT, i64_toInt, Int64.toInt_zero, eq_self, not_true_eq_false, not_false_eq_true] at c16 c24 c40 <;> omega) | omega)
              all_goals
                skip
                refine x_aload_n dX8_teach_43 rfl ?_
                refine x_bipush (v := nI 9) rfl dX8_teach_44 ?_
                refine x_callV1 lk_X8_85 (m_no _) ho dX8_teach_46 rfl (Nat.le_of_ble_eq_true rfl) (by omega) (by decide) (by omega) (by omega) ?_
                refine x_if_eq (tgt := 56) dX8_teach_49 (by decide) (fun c49 => ?_) (fun c49 => ?_)
                · try (exfalso; first | (simp (disch := omega) [inS_ix, inS_N, ixL_N, ix_nI, hx, ixL_i] at c49 <;> omega) | (simp (disch := omega) only [h0, h1, h3, Int32.le_iff_toInt_le, Int32.lt_iff_toInt_lt, ← Int32.toInt_inj, nI_toInt, Int32.toInt_zero, m1_toInt, Int64.le_iff_toInt_le, Int64.lt_iff_toInt_lt, ← Int64.toInt_inj, pk_lT, i64_toInt, Int64.toInt_zero, eq_self, not_true_eq_false, not_false_eq_true] at c16 c24 c40 c49 <;> omega) | omega)
                  all_goals
                    skip
                    refine x_iconst (v := nI 0) rfl dX8_teach_56 ?_
                    refine x_iret hr rfl dX8_teach_57 (by omega) (by omega) (hQ _ _ ?_)
                    try dsimp only [mI, mSA] at c16 c24 c40 c49
                    exact ⟨by simp [spTeach, hx], by simp [spTeach, hx, mI_mI, mSA_id]⟩
                · try (exfalso; first | (simp (disch := omega) [inS_ix, inS_N, ixL_N, ix_nI, hx, ixL_i] at c49 <;> omega) | (simp (disch := omega) only [h0, h1, h3, Int32.le_iff_toInt_le, Int32.lt_iff_toInt_lt, ← Int32.toInt_inj, nI_toInt, Int32.toInt_zero, m1_toInt, Int64.le_iff_toInt_le, Int64.lt_iff_toInt_lt, ← Int64.toInt_inj, pk_lT, i64_toInt, Int64.toInt_zero, eq_self, not_true_eq_false, not_false_eq_true] at c16 c24 c40 c49 <;> omega) | omega)
                  all_goals
                    skip
                    refine x_iconst (v := nI 1) rfl dX8_teach_52 ?_
                    refine x_goto (tgt := 57) dX8_teach_53 (by decide) ?_
                    refine x_iret hr rfl dX8_teach_57 (by omega) (by omega) (hQ _ _ ?_)
                    try dsimp only [mI, mSA] at c16 c24 c40 c49
                    exact ⟨by simp [spTeach, hx], by simp [spTeach, hx, mI_mI, mSA_id]⟩
        · try (exfalso; first | (simp (disch := omega) [inS_ix, inS_N, ixL_N, ix_nI, hx, ixL_i] at c24 <;> omega) | (simp (disch := omega) only [h0, h1, h3, Int32.le_iff_toInt_le, Int32.lt_iff_toInt_lt, ← Int32.toInt_inj, nI_toInt, Int32.toInt_zero, m1_toInt, Int64.le_iff_toInt_le, Int64.lt_iff_toInt_lt, ← Int64.toInt_inj, pk_lT, i64_toInt, Int64.toInt_zero, eq_self, not_true_eq_false, not_false_eq_true] at c16 c24 <;> omega) | omega)
          all_goals
            skip
            refine x_aload_n dX8_teach_27 rfl ?_
            refine x_iconst (v := nI 2) rfl dX8_teach_28 ?_
            refine x_callV1 lk_X8_85 (m_no _) ho dX8_teach_29 rfl (Nat.le_of_ble_eq_true rfl) (by omega) (by decide) (by omega) (by omega) ?_
            refine x_iret hr rfl dX8_teach_32 (by omega) (by omega) (hQ _ _ ?_)
            try dsimp only [mI, mSA] at c16 c24
            exact ⟨by simp [spTeach, hx], by simp [spTeach, hx, mI_mI, mSA_id]⟩
  · skip
    refine CT.of (ini := false) (by decide +kernel) q2004 q164 (Nat.le_of_ble_eq_true rfl) (by decide) ?_
    intro Γ hw ho hL hr hh hini hal hd hmc hms hQ
    subst hw
    show AW Γ cX8_teach 0 0 0 [some (.ref 32), some (.int (nI t)), some (.int k9), some (.int (xb b))] [] (hM M R)
    have h0 := hF.c0
    have h1 := hF.c1
    have h3 := hF.c3
    have l0 := hF.l0
    have l1 := hF.l1
    have l3 := hF.l3
    refine x_aload_n dX8_teach_0 rfl ?_
    refine x_iconst (v := nI 0) rfl dX8_teach_1 ?_
    refine m_puti (k := 1) (pf_X8_70 (ini := false)) ho hini dX8_teach_2 rfl rfl (by decide) (ms_1 _ _) ?_
    refine x_aload_n dX8_teach_5 rfl ?_
    refine x_iconst (v := nI 0) rfl dX8_teach_6 ?_
    refine m_puti (k := 0) (pf_X8_73 (ini := false)) ho hini dX8_teach_7 rfl rfl (by decide) (ms_0 _ _) ?_
    refine x_aload_n dX8_teach_10 rfl ?_
    refine x_iload_n dX8_teach_11 rfl ?_
    refine x_i2lN (by omega) dX8_teach_12 ?_
    refine x_callV1 lk_X8_336 (m_isPersonAt (M := (mI (mI M 1 (nI 0)) 0 (nI 0))) hF _) ho dX8_teach_13 rfl (Nat.le_of_ble_eq_true rfl) (by omega) (by decide) (by omega) (by omega) ?_
    refine x_ifb_eq (tgt := 27) dX8_teach_16 (by decide) (fun c16 => ?_) (fun c16 => ?_)
    · try (exfalso; first | (simp (disch := omega) [inS_ix, inS_N, ixL_N, ix_nI, hx, hy, ixL_i] at c16 <;> omega) | (simp (disch := omega) only [h0, h1, h3, Int32.le_iff_toInt_le, Int32.lt_iff_toInt_lt, ← Int32.toInt_inj, nI_toInt, Int32.toInt_zero, m1_toInt, Int64.le_iff_toInt_le, Int64.lt_iff_toInt_lt, ← Int64.toInt_inj, pk_lT, i64_toInt, Int64.toInt_zero, eq_self, not_true_eq_false, not_false_eq_true] at c16 <;> omega) | omega)
      all_goals
        skip
        refine x_aload_n dX8_teach_27 rfl ?_
        refine x_iconst (v := nI 2) rfl dX8_teach_28 ?_
        refine x_callV1 lk_X8_85 (m_no _) ho dX8_teach_29 rfl (Nat.le_of_ble_eq_true rfl) (by omega) (by decide) (by omega) (by omega) ?_
        refine x_iret hr rfl dX8_teach_32 (by omega) (by omega) (hQ _ _ ?_)
        try dsimp only [mI, mSA] at c16
        exact ⟨by simp [spTeach, hx, hy], by simp [spTeach, hx, hy, mI_mI, mSA_id]⟩
    · try (exfalso; first | (simp (disch := omega) [inS_ix, inS_N, ixL_N, ix_nI, hx, hy, ixL_i] at c16 <;> omega) | (simp (disch := omega) only [h0, h1, h3, Int32.le_iff_toInt_le, Int32.lt_iff_toInt_lt, ← Int32.toInt_inj, nI_toInt, Int32.toInt_zero, m1_toInt, Int64.le_iff_toInt_le, Int64.lt_iff_toInt_lt, ← Int64.toInt_inj, pk_lT, i64_toInt, Int64.toInt_zero, eq_self, not_true_eq_false, not_false_eq_true] at c16 <;> omega) | omega)
      all_goals
        skip
        refine x_aload_n dX8_teach_19 rfl ?_
        refine x_iload_n dX8_teach_20 rfl ?_
        refine x_callV1 lk_X8_333 (m_isTraitAt (M := (mI (mI M 1 (nI 0)) 0 (nI 0))) hF _) ho dX8_teach_21 rfl (Nat.le_of_ble_eq_true rfl) (by omega) (by decide) (by omega) (by omega) ?_
        refine x_ifb_ne (tgt := 33) dX8_teach_24 (by decide) (fun c24 => ?_) (fun c24 => ?_)
        · try (exfalso; first | (simp (disch := omega) [inS_ix, inS_N, ixL_N, ix_nI, hx, hy, ixL_i] at c24 <;> omega) | (simp (disch := omega) only [h0, h1, h3, Int32.le_iff_toInt_le, Int32.lt_iff_toInt_lt, ← Int32.toInt_inj, nI_toInt, Int32.toInt_zero, m1_toInt, Int64.le_iff_toInt_le, Int64.lt_iff_toInt_lt, ← Int64.toInt_inj, pk_lT, i64_toInt, Int64.toInt_zero, eq_self, not_true_eq_false, not_false_eq_true] at c16 c24 <;> omega) | omega)
          all_goals
            skip
            refine x_aload_n dX8_teach_33 rfl ?_
            refine x_iload_n dX8_teach_34 rfl ?_
            refine x_iload_n dX8_teach_35 rfl ?_
            refine x_iload_n dX8_teach_36 rfl ?_
            refine x_callV3 lk_X8_366 (m_teaches (M := (mI (mI M 1 (nI 0)) 0 (nI 0))) hF _ _ _ (by omega)) ho dX8_teach_37 rfl (Nat.le_of_ble_eq_true rfl) (by omega) (by decide) (by omega) (by omega) ?_
            refine x_ifb_ne (tgt := 52) dX8_teach_40 (by decide) (fun c40 => ?_) (fun c40 => ?_)
            · try (exfalso; first | (simp (disch := omega) [inS_ix, inS_N, ixL_N, ix_nI, hx, hy, ixL_i] at c40 <;> omega) | (simp (disch := omega) only [h0, h1, h3, Int32.le_iff_toInt_le, Int32.lt_iff_toInt_lt, ← Int32.toInt_inj, nI_toInt, Int32.toInt_zero, m1_toInt, Int64.le_iff_toInt_le, Int64.lt_iff_toInt_lt, ← Int64.toInt_inj, pk_lT, i64_toInt, Int64.toInt_zero, eq_self, not_true_eq_false, not_false_eq_true] at c16 c24 c40 <;> omega) | omega)
              all_goals
                skip
                refine x_iconst (v := nI 1) rfl dX8_teach_52 ?_
                refine x_goto (tgt := 57) dX8_teach_53 (by decide) ?_
                refine x_iret hr rfl dX8_teach_57 (by omega) (by omega) (hQ _ _ ?_)
                try dsimp only [mI, mSA] at c16 c24 c40
                exact ⟨by simp [spTeach, hx, hy], by simp [spTeach, hx, hy, mI_mI, mSA_id]⟩
            · try (exfalso; first | (simp (disch := omega) [inS_ix, inS_N, ixL_N, ix_nI, hx, hy, ixL_i] at c40 <;> omega) | (simp (disch := omega) only [h0, h1, h3, Int32.le_iff_toInt_le, Int32.lt_iff_toInt_lt, ← Int32.toInt_inj, nI_toInt, Int32.toInt_zero, m1_toInt, Int64.le_iff_toInt_le, Int64.lt_iff_toInt_lt, ← Int64.toInt_inj, pk_lT, i64_toInt, Int64.toInt_zero, eq_self, not_true_eq_false, not_false_eq_true] at c16 c24 c40 <;> omega) | omega)
              all_goals
                skip
                refine x_aload_n dX8_teach_43 rfl ?_
                refine x_bipush (v := nI 9) rfl dX8_teach_44 ?_
                refine x_callV1 lk_X8_85 (m_no _) ho dX8_teach_46 rfl (Nat.le_of_ble_eq_true rfl) (by omega) (by decide) (by omega) (by omega) ?_
                refine x_if_eq (tgt := 56) dX8_teach_49 (by decide) (fun c49 => ?_) (fun c49 => ?_)
                · try (exfalso; first | (simp (disch := omega) [inS_ix, inS_N, ixL_N, ix_nI, hx, hy, ixL_i] at c49 <;> omega) | (simp (disch := omega) only [h0, h1, h3, Int32.le_iff_toInt_le, Int32.lt_iff_toInt_lt, ← Int32.toInt_inj, nI_toInt, Int32.toInt_zero, m1_toInt, Int64.le_iff_toInt_le, Int64.lt_iff_toInt_lt, ← Int64.toInt_inj, pk_lT, i64_toInt, Int64.toInt_zero, eq_self, not_true_eq_false, not_false_eq_true] at c16 c24 c40 c49 <;> omega) | omega)
                  all_goals
                    skip
                    refine x_iconst (v := nI 0) rfl dX8_teach_56 ?_
                    refine x_iret hr rfl dX8_teach_57 (by omega) (by omega) (hQ _ _ ?_)
                    try dsimp only [mI, mSA] at c16 c24 c40 c49
                    exact ⟨by simp [spTeach, hx, hy], by simp [spTeach, hx, hy, mI_mI, mSA_id]⟩
                · try (exfalso; first | (simp (disch := omega) [inS_ix, inS_N, ixL_N, ix_nI, hx, hy, ixL_i] at c49 <;> omega) | (simp (disch := omega) only [h0, h1, h3, Int32.le_iff_toInt_le, Int32.lt_iff_toInt_lt, ← Int32.toInt_inj, nI_toInt, Int32.toInt_zero, m1_toInt, Int64.le_iff_toInt_le, Int64.lt_iff_toInt_lt, ← Int64.toInt_inj, pk_lT, i64_toInt, Int64.toInt_zero, eq_self, not_true_eq_false, not_false_eq_true] at c16 c24 c40 c49 <;> omega) | omega)
                  all_goals
                    skip
                    refine x_iconst (v := nI 1) rfl dX8_teach_52 ?_
                    refine x_goto (tgt := 57) dX8_teach_53 (by decide) ?_
                    refine x_iret hr rfl dX8_teach_57 (by omega) (by omega) (hQ _ _ ?_)
                    try dsimp only [mI, mSA] at c16 c24 c40 c49
                    exact ⟨by simp [spTeach, hx, hy], by simp [spTeach, hx, hy, mI_mI, mSA_id]⟩
        · try (exfalso; first | (simp (disch := omega) [inS_ix, inS_N, ixL_N, ix_nI, hx, hy, ixL_i] at c24 <;> omega) | (simp (disch := omega) only [h0, h1, h3, Int32.le_iff_toInt_le, Int32.lt_iff_toInt_lt, ← Int32.toInt_inj, nI_toInt, Int32.toInt_zero, m1_toInt, Int64.le_iff_toInt_le, Int64.lt_iff_toInt_lt, ← Int64.toInt_inj, pk_lT, i64_toInt, Int64.toInt_zero, eq_self, not_true_eq_false, not_false_eq_true] at c16 c24 <;> omega) | omega)
          all_goals
            skip
            refine x_aload_n dX8_teach_27 rfl ?_
            refine x_iconst (v := nI 2) rfl dX8_teach_28 ?_
            refine x_callV1 lk_X8_85 (m_no _) ho dX8_teach_29 rfl (Nat.le_of_ble_eq_true rfl) (by omega) (by decide) (by omega) (by omega) ?_
            refine x_iret hr rfl dX8_teach_32 (by omega) (by omega) (hQ _ _ ?_)
            try dsimp only [mI, mSA] at c16 c24
            exact ⟨by simp [spTeach, hx, hy], by simp [spTeach, hx, hy, mI_mI, mSA_id]⟩
set_option maxHeartbeats 4000000 in
theorem m_lane {w : xW} {M : mS} {R : xH} {tm pm tn G : Nat} (hF : wF (M.2.2.1 5) tm pm tn G) (p9 q9 : Int32) : CT w yX8_lane cX8_lane 3 (some (.int)) [] false (3) 0 0 [.ref 32, .int p9, .int q9] (hM M R) (xret (some (.int (spLane (M.2.2.1 5) pm p9 q9).1)) (hM (mSA (mI (mI M 1 (nI 0)) 0 (nI (spLane (M.2.2.1 5) pm p9 q9).2.1)) 5 (spLane (M.2.2.1 5) pm p9 q9).2.2) R)) := by
  have l0 := hF.l0
  have l1 := hF.l1
  have l3 := hF.l3
  rcases ix_or p9 (n := pm) (by omega) with ⟨hx, hx2⟩ | ⟨t, ht, rfl, hx⟩
  rotate_left 1
  rcases ix_or q9 (n := pm) (by omega) with ⟨hy, hy2⟩ | ⟨j, hj, rfl, hy⟩
  rotate_left 1
  · skip
    refine CT.of (ini := false) (by decide +kernel) q2012 q164 (Nat.le_of_ble_eq_true rfl) (by decide) ?_
    intro Γ hw ho hL hr hh hini hal hd hmc hms hQ
    subst hw
    show AW Γ cX8_lane 0 0 0 [some (.ref 32), some (.int (nI t)), some (.int (nI j))] [] (hM M R)
    have h0 := hF.c0
    have h1 := hF.c1
    have h3 := hF.c3
    have l0 := hF.l0
    have l1 := hF.l1
    have l3 := hF.l3
    refine x_aload_n dX8_lane_0 rfl ?_
    refine x_iconst (v := nI 0) rfl dX8_lane_1 ?_
    refine m_puti (k := 1) (pf_X8_70 (ini := false)) ho hini dX8_lane_2 rfl rfl (by decide) (ms_1 _ _) ?_
    refine x_aload_n dX8_lane_5 rfl ?_
    refine x_iconst (v := nI 0) rfl dX8_lane_6 ?_
    refine m_puti (k := 0) (pf_X8_73 (ini := false)) ho hini dX8_lane_7 rfl rfl (by decide) (ms_0 _ _) ?_
    refine x_aload_n dX8_lane_10 rfl ?_
    refine x_iload_n dX8_lane_11 rfl ?_
    refine x_i2lN (by omega) dX8_lane_12 ?_
    refine x_callV1 lk_X8_336 (m_isPersonAt (M := (mI (mI M 1 (nI 0)) 0 (nI 0))) hF _) ho dX8_lane_13 rfl (Nat.le_of_ble_eq_true rfl) (by omega) (by decide) (by omega) (by omega) ?_
    refine x_ifb_eq (tgt := 28) dX8_lane_16 (by decide) (fun c16 => ?_) (fun c16 => ?_)
    · try (exfalso; first | (simp (disch := omega) [inS_ix, inS_N, ixL_N, ix_nI, hx, hy, ixL_i] at c16 <;> omega) | (simp (disch := omega) only [h0, h1, h3, Int32.le_iff_toInt_le, Int32.lt_iff_toInt_lt, ← Int32.toInt_inj, nI_toInt, Int32.toInt_zero, m1_toInt, Int64.le_iff_toInt_le, Int64.lt_iff_toInt_lt, ← Int64.toInt_inj, pk_lT, i64_toInt, Int64.toInt_zero, eq_self, not_true_eq_false, not_false_eq_true] at c16 <;> omega) | omega)
      all_goals
        skip
        refine x_aload_n dX8_lane_28 rfl ?_
        refine x_iconst (v := nI 2) rfl dX8_lane_29 ?_
        refine x_callV1 lk_X8_327 (m_refuse _) ho dX8_lane_30 rfl (Nat.le_of_ble_eq_true rfl) (by omega) (by decide) (by omega) (by omega) ?_
        refine x_iret hr rfl dX8_lane_33 (by omega) (by omega) (hQ _ _ ?_)
        try dsimp only [mI, mSA] at c16
        exact ⟨by simp (disch := omega) [spLane, hx, hy, c16, meC, upA_s, upd_s], by simp (disch := omega) [spLane, hx, hy, c16, mSA_id, mI_mI]⟩
    · try (exfalso; first | (simp (disch := omega) [inS_ix, inS_N, ixL_N, ix_nI, hx, hy, ixL_i] at c16 <;> omega) | (simp (disch := omega) only [h0, h1, h3, Int32.le_iff_toInt_le, Int32.lt_iff_toInt_lt, ← Int32.toInt_inj, nI_toInt, Int32.toInt_zero, m1_toInt, Int64.le_iff_toInt_le, Int64.lt_iff_toInt_lt, ← Int64.toInt_inj, pk_lT, i64_toInt, Int64.toInt_zero, eq_self, not_true_eq_false, not_false_eq_true] at c16 <;> omega) | omega)
      all_goals
        skip
        refine x_aload_n dX8_lane_19 rfl ?_
        refine x_iload_n dX8_lane_20 rfl ?_
        refine x_i2lN (by omega) dX8_lane_21 ?_
        refine x_callV1 lk_X8_336 (m_isPersonAt (M := (mI (mI M 1 (nI 0)) 0 (nI 0))) hF _) ho dX8_lane_22 rfl (Nat.le_of_ble_eq_true rfl) (by omega) (by decide) (by omega) (by omega) ?_
        refine x_ifb_ne (tgt := 34) dX8_lane_25 (by decide) (fun c25 => ?_) (fun c25 => ?_)
        · try (exfalso; first | (simp (disch := omega) [inS_ix, inS_N, ixL_N, ix_nI, hx, hy, ixL_i] at c25 <;> omega) | (simp (disch := omega) only [h0, h1, h3, Int32.le_iff_toInt_le, Int32.lt_iff_toInt_lt, ← Int32.toInt_inj, nI_toInt, Int32.toInt_zero, m1_toInt, Int64.le_iff_toInt_le, Int64.lt_iff_toInt_lt, ← Int64.toInt_inj, pk_lT, i64_toInt, Int64.toInt_zero, eq_self, not_true_eq_false, not_false_eq_true] at c16 c25 <;> omega) | omega)
          all_goals
            skip
            refine x_iload_n dX8_lane_34 rfl ?_
            refine x_iload_n dX8_lane_35 rfl ?_
            refine x_icmp_ne (tgt := 45) dX8_lane_36 (by decide) (fun c36 => ?_) (fun c36 => ?_)
            · try (exfalso; first | (simp (disch := omega) [inS_ix, inS_N, ixL_N, ix_nI, hx, hy, ixL_i] at c36 <;> omega) | (simp (disch := omega) only [h0, h1, h3, Int32.le_iff_toInt_le, Int32.lt_iff_toInt_lt, ← Int32.toInt_inj, nI_toInt, Int32.toInt_zero, m1_toInt, Int64.le_iff_toInt_le, Int64.lt_iff_toInt_lt, ← Int64.toInt_inj, pk_lT, i64_toInt, Int64.toInt_zero, eq_self, not_true_eq_false, not_false_eq_true] at c16 c25 c36 <;> omega) | omega)
              all_goals
                skip
                have c36 : ¬ t = j := fun q => c36 (congrArg nI q)
                refine x_aload_n dX8_lane_45 rfl ?_
                refine x_getf gf_X8_35 ho dX8_lane_46 rfl rfl ?_
                refine x_iconst (v := nI 2) rfl dX8_lane_49 ?_
                refine x_iald dX8_lane_50 rfl (by first | rfl | exact nI_add _ _ | (simp only [nI_add, pk_mul]; rfl)) (by omega) (by decide) ?_
                refine x_bipush (v := nI 12) rfl dX8_lane_51 ?_
                refine x_icmp_ne (tgt := 63) dX8_lane_53 (by decide) (fun c53 => ?_) (fun c53 => ?_)
                · try (exfalso; first | (simp (disch := omega) [inS_ix, inS_N, ixL_N, ix_nI, hx, hy, ixL_i] at c53 <;> omega) | (simp (disch := omega) only [h0, h1, h3, Int32.le_iff_toInt_le, Int32.lt_iff_toInt_lt, ← Int32.toInt_inj, nI_toInt, Int32.toInt_zero, m1_toInt, Int64.le_iff_toInt_le, Int64.lt_iff_toInt_lt, ← Int64.toInt_inj, pk_lT, i64_toInt, Int64.toInt_zero, eq_self, not_true_eq_false, not_false_eq_true] at c16 c25 c36 c53 <;> omega) | omega)
                  all_goals
                    skip
                    refine x_aload_n dX8_lane_63 rfl ?_
                    refine x_iconst (v := nI 0) rfl dX8_lane_64 ?_
                    refine x_iload_n dX8_lane_65 rfl ?_
                    refine x_iload_n dX8_lane_66 rfl ?_
                    refine x_callV3 lk_X8_260 (m_meet (M := (mI (mI M 1 (nI 0)) 0 (nI 0))) hF _ _ _ (by omega) (by omega) (by omega)) ho dX8_lane_67 rfl (Nat.le_of_ble_eq_true rfl) (by omega) (by decide) (by omega) (by omega) ?_
                    refine x_aload_n dX8_lane_70 rfl ?_
                    refine x_getf gf_X8_35 ho dX8_lane_71 rfl rfl ?_
                    refine x_iconst (v := nI 2) rfl dX8_lane_74 ?_
                    refine x_iald dX8_lane_75 rfl (by first | rfl | exact nI_add _ _ | (simp only [nI_add, pk_mul]; rfl)) (by omega) (by decide) ?_
                    refine x_iret hr rfl dX8_lane_76 (by omega) (by omega) (hQ _ _ ?_)
                    try dsimp only [mI, mSA] at c16 c25 c36 c53
                    exact ⟨by simp (disch := omega) [spLane, hx, hy, c16, c25, c36, c53, meC, upA_s, upd_s], by simp (disch := omega) [spLane, hx, hy, c16, c25, c36, c53, mSA_id, mI_mI]⟩
                · try (exfalso; first | (simp (disch := omega) [inS_ix, inS_N, ixL_N, ix_nI, hx, hy, ixL_i] at c53 <;> omega) | (simp (disch := omega) only [h0, h1, h3, Int32.le_iff_toInt_le, Int32.lt_iff_toInt_lt, ← Int32.toInt_inj, nI_toInt, Int32.toInt_zero, m1_toInt, Int64.le_iff_toInt_le, Int64.lt_iff_toInt_lt, ← Int64.toInt_inj, pk_lT, i64_toInt, Int64.toInt_zero, eq_self, not_true_eq_false, not_false_eq_true] at c16 c25 c36 c53 <;> omega) | omega)
                  all_goals
                    skip
                    refine x_aload_n dX8_lane_56 rfl ?_
                    refine x_bipush (v := nI 7) rfl dX8_lane_57 ?_
                    refine x_callV1 lk_X8_327 (m_refuse _) ho dX8_lane_59 rfl (Nat.le_of_ble_eq_true rfl) (by omega) (by decide) (by omega) (by omega) ?_
                    refine x_iret hr rfl dX8_lane_62 (by omega) (by omega) (hQ _ _ ?_)
                    try dsimp only [mI, mSA] at c16 c25 c36 c53
                    exact ⟨by simp (disch := omega) [spLane, hx, hy, c16, c25, c36, c53, meC, upA_s, upd_s], by simp (disch := omega) [spLane, hx, hy, c16, c25, c36, c53, mSA_id, mI_mI]⟩
            · try (exfalso; first | (simp (disch := omega) [inS_ix, inS_N, ixL_N, ix_nI, hx, hy, ixL_i] at c36 <;> omega) | (simp (disch := omega) only [h0, h1, h3, Int32.le_iff_toInt_le, Int32.lt_iff_toInt_lt, ← Int32.toInt_inj, nI_toInt, Int32.toInt_zero, m1_toInt, Int64.le_iff_toInt_le, Int64.lt_iff_toInt_lt, ← Int64.toInt_inj, pk_lT, i64_toInt, Int64.toInt_zero, eq_self, not_true_eq_false, not_false_eq_true] at c16 c25 c36 <;> omega) | omega)
              all_goals
                skip
                have c36 := (nI_eq (by omega) (by omega)).mp c36
                refine x_aload_n dX8_lane_39 rfl ?_
                refine x_iconst (v := nI 5) rfl dX8_lane_40 ?_
                refine x_callV1 lk_X8_327 (m_refuse _) ho dX8_lane_41 rfl (Nat.le_of_ble_eq_true rfl) (by omega) (by decide) (by omega) (by omega) ?_
                refine x_iret hr rfl dX8_lane_44 (by omega) (by omega) (hQ _ _ ?_)
                try dsimp only [mI, mSA] at c16 c25 c36
                exact ⟨by simp (disch := omega) [spLane, hx, hy, c16, c25, c36, meC, upA_s, upd_s], by simp (disch := omega) [spLane, hx, hy, c16, c25, c36, mSA_id, mI_mI]⟩
        · try (exfalso; first | (simp (disch := omega) [inS_ix, inS_N, ixL_N, ix_nI, hx, hy, ixL_i] at c25 <;> omega) | (simp (disch := omega) only [h0, h1, h3, Int32.le_iff_toInt_le, Int32.lt_iff_toInt_lt, ← Int32.toInt_inj, nI_toInt, Int32.toInt_zero, m1_toInt, Int64.le_iff_toInt_le, Int64.lt_iff_toInt_lt, ← Int64.toInt_inj, pk_lT, i64_toInt, Int64.toInt_zero, eq_self, not_true_eq_false, not_false_eq_true] at c16 c25 <;> omega) | omega)
          all_goals
            skip
            refine x_aload_n dX8_lane_28 rfl ?_
            refine x_iconst (v := nI 2) rfl dX8_lane_29 ?_
            refine x_callV1 lk_X8_327 (m_refuse _) ho dX8_lane_30 rfl (Nat.le_of_ble_eq_true rfl) (by omega) (by decide) (by omega) (by omega) ?_
            refine x_iret hr rfl dX8_lane_33 (by omega) (by omega) (hQ _ _ ?_)
            try dsimp only [mI, mSA] at c16 c25
            exact ⟨by simp (disch := omega) [spLane, hx, hy, c16, c25, meC, upA_s, upd_s], by simp (disch := omega) [spLane, hx, hy, c16, c25, mSA_id, mI_mI]⟩
  · skip
    refine CT.of (ini := false) (by decide +kernel) q2012 q164 (Nat.le_of_ble_eq_true rfl) (by decide) ?_
    intro Γ hw ho hL hr hh hini hal hd hmc hms hQ
    subst hw
    show AW Γ cX8_lane 0 0 0 [some (.ref 32), some (.int p9), some (.int q9)] [] (hM M R)
    have h0 := hF.c0
    have h1 := hF.c1
    have h3 := hF.c3
    have l0 := hF.l0
    have l1 := hF.l1
    have l3 := hF.l3
    refine x_aload_n dX8_lane_0 rfl ?_
    refine x_iconst (v := nI 0) rfl dX8_lane_1 ?_
    refine m_puti (k := 1) (pf_X8_70 (ini := false)) ho hini dX8_lane_2 rfl rfl (by decide) (ms_1 _ _) ?_
    refine x_aload_n dX8_lane_5 rfl ?_
    refine x_iconst (v := nI 0) rfl dX8_lane_6 ?_
    refine m_puti (k := 0) (pf_X8_73 (ini := false)) ho hini dX8_lane_7 rfl rfl (by decide) (ms_0 _ _) ?_
    refine x_aload_n dX8_lane_10 rfl ?_
    refine x_iload_n dX8_lane_11 rfl ?_
    refine x_i2l dX8_lane_12 ?_
    refine x_callV1 lk_X8_336 (m_isPersonAt (M := (mI (mI M 1 (nI 0)) 0 (nI 0))) hF _) ho dX8_lane_13 rfl (Nat.le_of_ble_eq_true rfl) (by omega) (by decide) (by omega) (by omega) ?_
    refine x_ifb_eq (tgt := 28) dX8_lane_16 (by decide) (fun c16 => ?_) (fun c16 => ?_)
    · try (exfalso; first | (simp (disch := omega) [inS_ix, inS_N, ixL_N, ix_nI, hx, ixL_i] at c16 <;> omega) | (simp (disch := omega) only [h0, h1, h3, Int32.le_iff_toInt_le, Int32.lt_iff_toInt_lt, ← Int32.toInt_inj, nI_toInt, Int32.toInt_zero, m1_toInt, Int64.le_iff_toInt_le, Int64.lt_iff_toInt_lt, ← Int64.toInt_inj, pk_lT, i64_toInt, Int64.toInt_zero, eq_self, not_true_eq_false, not_false_eq_true] at c16 <;> omega) | omega)
      all_goals
        skip
        refine x_aload_n dX8_lane_28 rfl ?_
        refine x_iconst (v := nI 2) rfl dX8_lane_29 ?_
        refine x_callV1 lk_X8_327 (m_refuse _) ho dX8_lane_30 rfl (Nat.le_of_ble_eq_true rfl) (by omega) (by decide) (by omega) (by omega) ?_
        refine x_iret hr rfl dX8_lane_33 (by omega) (by omega) (hQ _ _ ?_)
        try dsimp only [mI, mSA] at c16
        exact ⟨by simp [spLane, hx], by simp [spLane, hx, mI_mI, mSA_id]⟩
    · try (exfalso; first | (simp (disch := omega) [inS_ix, inS_N, ixL_N, ix_nI, hx, ixL_i] at c16 <;> omega) | (simp (disch := omega) only [h0, h1, h3, Int32.le_iff_toInt_le, Int32.lt_iff_toInt_lt, ← Int32.toInt_inj, nI_toInt, Int32.toInt_zero, m1_toInt, Int64.le_iff_toInt_le, Int64.lt_iff_toInt_lt, ← Int64.toInt_inj, pk_lT, i64_toInt, Int64.toInt_zero, eq_self, not_true_eq_false, not_false_eq_true] at c16 <;> omega) | omega)
      all_goals
        skip
        refine x_aload_n dX8_lane_19 rfl ?_
        refine x_iload_n dX8_lane_20 rfl ?_
        refine x_i2l dX8_lane_21 ?_
        refine x_callV1 lk_X8_336 (m_isPersonAt (M := (mI (mI M 1 (nI 0)) 0 (nI 0))) hF _) ho dX8_lane_22 rfl (Nat.le_of_ble_eq_true rfl) (by omega) (by decide) (by omega) (by omega) ?_
        refine x_ifb_ne (tgt := 34) dX8_lane_25 (by decide) (fun c25 => ?_) (fun c25 => ?_)
        · try (exfalso; first | (simp (disch := omega) [inS_ix, inS_N, ixL_N, ix_nI, hx, ixL_i] at c25 <;> omega) | (simp (disch := omega) only [h0, h1, h3, Int32.le_iff_toInt_le, Int32.lt_iff_toInt_lt, ← Int32.toInt_inj, nI_toInt, Int32.toInt_zero, m1_toInt, Int64.le_iff_toInt_le, Int64.lt_iff_toInt_lt, ← Int64.toInt_inj, pk_lT, i64_toInt, Int64.toInt_zero, eq_self, not_true_eq_false, not_false_eq_true] at c16 c25 <;> omega) | omega)
          all_goals
            skip
            refine x_iload_n dX8_lane_34 rfl ?_
            refine x_iload_n dX8_lane_35 rfl ?_
            refine x_icmp_ne (tgt := 45) dX8_lane_36 (by decide) (fun c36 => ?_) (fun c36 => ?_)
            · try (exfalso; first | (simp (disch := omega) [inS_ix, inS_N, ixL_N, ix_nI, hx, ixL_i] at c36 <;> omega) | (simp (disch := omega) only [h0, h1, h3, Int32.le_iff_toInt_le, Int32.lt_iff_toInt_lt, ← Int32.toInt_inj, nI_toInt, Int32.toInt_zero, m1_toInt, Int64.le_iff_toInt_le, Int64.lt_iff_toInt_lt, ← Int64.toInt_inj, pk_lT, i64_toInt, Int64.toInt_zero, eq_self, not_true_eq_false, not_false_eq_true] at c16 c25 c36 <;> omega) | omega)
              all_goals
                skip
                refine x_aload_n dX8_lane_45 rfl ?_
                refine x_getf gf_X8_35 ho dX8_lane_46 rfl rfl ?_
                refine x_iconst (v := nI 2) rfl dX8_lane_49 ?_
                refine x_iald dX8_lane_50 rfl (by first | rfl | exact nI_add _ _ | (simp only [nI_add, pk_mul]; rfl)) (by omega) (by decide) ?_
                refine x_bipush (v := nI 12) rfl dX8_lane_51 ?_
                refine x_icmp_ne (tgt := 63) dX8_lane_53 (by decide) (fun c53 => ?_) (fun c53 => ?_)
                · try (exfalso; first | (simp (disch := omega) [inS_ix, inS_N, ixL_N, ix_nI, hx, ixL_i] at c53 <;> omega) | (simp (disch := omega) only [h0, h1, h3, Int32.le_iff_toInt_le, Int32.lt_iff_toInt_lt, ← Int32.toInt_inj, nI_toInt, Int32.toInt_zero, m1_toInt, Int64.le_iff_toInt_le, Int64.lt_iff_toInt_lt, ← Int64.toInt_inj, pk_lT, i64_toInt, Int64.toInt_zero, eq_self, not_true_eq_false, not_false_eq_true] at c16 c25 c36 c53 <;> omega) | omega)
                  all_goals
                    skip
                    refine x_aload_n dX8_lane_63 rfl ?_
                    refine x_iconst (v := nI 0) rfl dX8_lane_64 ?_
                    refine x_iload_n dX8_lane_65 rfl ?_
                    refine x_iload_n dX8_lane_66 rfl ?_
                    refine x_callV3 lk_X8_260 (m_meet (M := (mI (mI M 1 (nI 0)) 0 (nI 0))) hF _ _ _ (by omega) (by omega) (by omega)) ho dX8_lane_67 rfl (Nat.le_of_ble_eq_true rfl) (by omega) (by decide) (by omega) (by omega) ?_
                    refine x_aload_n dX8_lane_70 rfl ?_
                    refine x_getf gf_X8_35 ho dX8_lane_71 rfl rfl ?_
                    refine x_iconst (v := nI 2) rfl dX8_lane_74 ?_
                    refine x_iald dX8_lane_75 rfl (by first | rfl | exact nI_add _ _ | (simp only [nI_add, pk_mul]; rfl)) (by omega) (by decide) ?_
                    refine x_iret hr rfl dX8_lane_76 (by omega) (by omega) (hQ _ _ ?_)
                    try dsimp only [mI, mSA] at c16 c25 c36 c53
                    exact ⟨by simp [spLane, hx], by simp [spLane, hx, mI_mI, mSA_id]⟩
                · try (exfalso; first | (simp (disch := omega) [inS_ix, inS_N, ixL_N, ix_nI, hx, ixL_i] at c53 <;> omega) | (simp (disch := omega) only [h0, h1, h3, Int32.le_iff_toInt_le, Int32.lt_iff_toInt_lt, ← Int32.toInt_inj, nI_toInt, Int32.toInt_zero, m1_toInt, Int64.le_iff_toInt_le, Int64.lt_iff_toInt_lt, ← Int64.toInt_inj, pk_lT, i64_toInt, Int64.toInt_zero, eq_self, not_true_eq_false, not_false_eq_true] at c16 c25 c36 c53 <;> omega) | omega)
                  all_goals
                    skip
                    refine x_aload_n dX8_lane_56 rfl ?_
                    refine x_bipush (v := nI 7) rfl dX8_lane_57 ?_
                    refine x_callV1 lk_X8_327 (m_refuse _) ho dX8_lane_59 rfl (Nat.le_of_ble_eq_true rfl) (by omega) (by decide) (by omega) (by omega) ?_
                    refine x_iret hr rfl dX8_lane_62 (by omega) (by omega) (hQ _ _ ?_)
                    try dsimp only [mI, mSA] at c16 c25 c36 c53
                    exact ⟨by simp [spLane, hx], by simp [spLane, hx, mI_mI, mSA_id]⟩
            · try (exfalso; first | (simp (disch := omega) [inS_ix, inS_N, ixL_N, ix_nI, hx, ixL_i] at c36 <;> omega) | (simp (disch := omega) only [h0, h1, h3, Int32.le_iff_toInt_le, Int32.lt_iff_toInt_lt, ← Int32.toInt_inj, nI_toInt, Int32.toInt_zero, m1_toInt, Int64.le_iff_toInt_le, Int64.lt_iff_toInt_lt, ← Int64.toInt_inj, pk_lT, i64_toInt, Int64.toInt_zero, eq_self, not_true_eq_false, not_false_eq_true] at c16 c25 c36 <;> omega) | omega)
              all_goals
                skip
                refine x_aload_n dX8_lane_39 rfl ?_
                refine x_iconst (v := nI 5) rfl dX8_lane_40 ?_
                refine x_callV1 lk_X8_327 (m_refuse _) ho dX8_lane_41 rfl (Nat.le_of_ble_eq_true rfl) (by omega) (by decide) (by omega) (by omega) ?_
                refine x_iret hr rfl dX8_lane_44 (by omega) (by omega) (hQ _ _ ?_)
                try dsimp only [mI, mSA] at c16 c25 c36
                exact ⟨by simp [spLane, hx], by simp [spLane, hx, mI_mI, mSA_id]⟩
        · try (exfalso; first | (simp (disch := omega) [inS_ix, inS_N, ixL_N, ix_nI, hx, ixL_i] at c25 <;> omega) | (simp (disch := omega) only [h0, h1, h3, Int32.le_iff_toInt_le, Int32.lt_iff_toInt_lt, ← Int32.toInt_inj, nI_toInt, Int32.toInt_zero, m1_toInt, Int64.le_iff_toInt_le, Int64.lt_iff_toInt_lt, ← Int64.toInt_inj, pk_lT, i64_toInt, Int64.toInt_zero, eq_self, not_true_eq_false, not_false_eq_true] at c16 c25 <;> omega) | omega)
          all_goals
            skip
            refine x_aload_n dX8_lane_28 rfl ?_
            refine x_iconst (v := nI 2) rfl dX8_lane_29 ?_
            refine x_callV1 lk_X8_327 (m_refuse _) ho dX8_lane_30 rfl (Nat.le_of_ble_eq_true rfl) (by omega) (by decide) (by omega) (by omega) ?_
            refine x_iret hr rfl dX8_lane_33 (by omega) (by omega) (hQ _ _ ?_)
            try dsimp only [mI, mSA] at c16 c25
            exact ⟨by simp [spLane, hx], by simp [spLane, hx, mI_mI, mSA_id]⟩
  · skip
    refine CT.of (ini := false) (by decide +kernel) q2012 q164 (Nat.le_of_ble_eq_true rfl) (by decide) ?_
    intro Γ hw ho hL hr hh hini hal hd hmc hms hQ
    subst hw
    show AW Γ cX8_lane 0 0 0 [some (.ref 32), some (.int (nI t)), some (.int q9)] [] (hM M R)
    have h0 := hF.c0
    have h1 := hF.c1
    have h3 := hF.c3
    have l0 := hF.l0
    have l1 := hF.l1
    have l3 := hF.l3
    refine x_aload_n dX8_lane_0 rfl ?_
    refine x_iconst (v := nI 0) rfl dX8_lane_1 ?_
    refine m_puti (k := 1) (pf_X8_70 (ini := false)) ho hini dX8_lane_2 rfl rfl (by decide) (ms_1 _ _) ?_
    refine x_aload_n dX8_lane_5 rfl ?_
    refine x_iconst (v := nI 0) rfl dX8_lane_6 ?_
    refine m_puti (k := 0) (pf_X8_73 (ini := false)) ho hini dX8_lane_7 rfl rfl (by decide) (ms_0 _ _) ?_
    refine x_aload_n dX8_lane_10 rfl ?_
    refine x_iload_n dX8_lane_11 rfl ?_
    refine x_i2lN (by omega) dX8_lane_12 ?_
    refine x_callV1 lk_X8_336 (m_isPersonAt (M := (mI (mI M 1 (nI 0)) 0 (nI 0))) hF _) ho dX8_lane_13 rfl (Nat.le_of_ble_eq_true rfl) (by omega) (by decide) (by omega) (by omega) ?_
    refine x_ifb_eq (tgt := 28) dX8_lane_16 (by decide) (fun c16 => ?_) (fun c16 => ?_)
    · try (exfalso; first | (simp (disch := omega) [inS_ix, inS_N, ixL_N, ix_nI, hx, hy, ixL_i] at c16 <;> omega) | (simp (disch := omega) only [h0, h1, h3, Int32.le_iff_toInt_le, Int32.lt_iff_toInt_lt, ← Int32.toInt_inj, nI_toInt, Int32.toInt_zero, m1_toInt, Int64.le_iff_toInt_le, Int64.lt_iff_toInt_lt, ← Int64.toInt_inj, pk_lT, i64_toInt, Int64.toInt_zero, eq_self, not_true_eq_false, not_false_eq_true] at c16 <;> omega) | omega)
      all_goals
        skip
        refine x_aload_n dX8_lane_28 rfl ?_
        refine x_iconst (v := nI 2) rfl dX8_lane_29 ?_
        refine x_callV1 lk_X8_327 (m_refuse _) ho dX8_lane_30 rfl (Nat.le_of_ble_eq_true rfl) (by omega) (by decide) (by omega) (by omega) ?_
        refine x_iret hr rfl dX8_lane_33 (by omega) (by omega) (hQ _ _ ?_)
        try dsimp only [mI, mSA] at c16
        exact ⟨by simp [spLane, hx, hy], by simp [spLane, hx, hy, mI_mI, mSA_id]⟩
    · try (exfalso; first | (simp (disch := omega) [inS_ix, inS_N, ixL_N, ix_nI, hx, hy, ixL_i] at c16 <;> omega) | (simp (disch := omega) only [h0, h1, h3, Int32.le_iff_toInt_le, Int32.lt_iff_toInt_lt, ← Int32.toInt_inj, nI_toInt, Int32.toInt_zero, m1_toInt, Int64.le_iff_toInt_le, Int64.lt_iff_toInt_lt, ← Int64.toInt_inj, pk_lT, i64_toInt, Int64.toInt_zero, eq_self, not_true_eq_false, not_false_eq_true] at c16 <;> omega) | omega)
      all_goals
        skip
        refine x_aload_n dX8_lane_19 rfl ?_
        refine x_iload_n dX8_lane_20 rfl ?_
        refine x_i2l dX8_lane_21 ?_
        refine x_callV1 lk_X8_336 (m_isPersonAt (M := (mI (mI M 1 (nI 0)) 0 (nI 0))) hF _) ho dX8_lane_22 rfl (Nat.le_of_ble_eq_true rfl) (by omega) (by decide) (by omega) (by omega) ?_
        refine x_ifb_ne (tgt := 34) dX8_lane_25 (by decide) (fun c25 => ?_) (fun c25 => ?_)
        · try (exfalso; first | (simp (disch := omega) [inS_ix, inS_N, ixL_N, ix_nI, hx, hy, ixL_i] at c25 <;> omega) | (simp (disch := omega) only [h0, h1, h3, Int32.le_iff_toInt_le, Int32.lt_iff_toInt_lt, ← Int32.toInt_inj, nI_toInt, Int32.toInt_zero, m1_toInt, Int64.le_iff_toInt_le, Int64.lt_iff_toInt_lt, ← Int64.toInt_inj, pk_lT, i64_toInt, Int64.toInt_zero, eq_self, not_true_eq_false, not_false_eq_true] at c16 c25 <;> omega) | omega)
          all_goals
            skip
            refine x_iload_n dX8_lane_34 rfl ?_
            refine x_iload_n dX8_lane_35 rfl ?_
            refine x_icmp_ne (tgt := 45) dX8_lane_36 (by decide) (fun c36 => ?_) (fun c36 => ?_)
            · try (exfalso; first | (simp (disch := omega) [inS_ix, inS_N, ixL_N, ix_nI, hx, hy, ixL_i] at c36 <;> omega) | (simp (disch := omega) only [h0, h1, h3, Int32.le_iff_toInt_le, Int32.lt_iff_toInt_lt, ← Int32.toInt_inj, nI_toInt, Int32.toInt_zero, m1_toInt, Int64.le_iff_toInt_le, Int64.lt_iff_toInt_lt, ← Int64.toInt_inj, pk_lT, i64_toInt, Int64.toInt_zero, eq_self, not_true_eq_false, not_false_eq_true] at c16 c25 c36 <;> omega) | omega)
              all_goals
                skip
                refine x_aload_n dX8_lane_45 rfl ?_
                refine x_getf gf_X8_35 ho dX8_lane_46 rfl rfl ?_
                refine x_iconst (v := nI 2) rfl dX8_lane_49 ?_
                refine x_iald dX8_lane_50 rfl (by first | rfl | exact nI_add _ _ | (simp only [nI_add, pk_mul]; rfl)) (by omega) (by decide) ?_
                refine x_bipush (v := nI 12) rfl dX8_lane_51 ?_
                refine x_icmp_ne (tgt := 63) dX8_lane_53 (by decide) (fun c53 => ?_) (fun c53 => ?_)
                · try (exfalso; first | (simp (disch := omega) [inS_ix, inS_N, ixL_N, ix_nI, hx, hy, ixL_i] at c53 <;> omega) | (simp (disch := omega) only [h0, h1, h3, Int32.le_iff_toInt_le, Int32.lt_iff_toInt_lt, ← Int32.toInt_inj, nI_toInt, Int32.toInt_zero, m1_toInt, Int64.le_iff_toInt_le, Int64.lt_iff_toInt_lt, ← Int64.toInt_inj, pk_lT, i64_toInt, Int64.toInt_zero, eq_self, not_true_eq_false, not_false_eq_true] at c16 c25 c36 c53 <;> omega) | omega)
                  all_goals
                    skip
                    refine x_aload_n dX8_lane_63 rfl ?_
                    refine x_iconst (v := nI 0) rfl dX8_lane_64 ?_
                    refine x_iload_n dX8_lane_65 rfl ?_
                    refine x_iload_n dX8_lane_66 rfl ?_
                    refine x_callV3 lk_X8_260 (m_meet (M := (mI (mI M 1 (nI 0)) 0 (nI 0))) hF _ _ _ (by omega) (by omega) (by omega)) ho dX8_lane_67 rfl (Nat.le_of_ble_eq_true rfl) (by omega) (by decide) (by omega) (by omega) ?_
                    refine x_aload_n dX8_lane_70 rfl ?_
                    refine x_getf gf_X8_35 ho dX8_lane_71 rfl rfl ?_
                    refine x_iconst (v := nI 2) rfl dX8_lane_74 ?_
                    refine x_iald dX8_lane_75 rfl (by first | rfl | exact nI_add _ _ | (simp only [nI_add, pk_mul]; rfl)) (by omega) (by decide) ?_
                    refine x_iret hr rfl dX8_lane_76 (by omega) (by omega) (hQ _ _ ?_)
                    try dsimp only [mI, mSA] at c16 c25 c36 c53
                    exact ⟨by simp [spLane, hx, hy], by simp [spLane, hx, hy, mI_mI, mSA_id]⟩
                · try (exfalso; first | (simp (disch := omega) [inS_ix, inS_N, ixL_N, ix_nI, hx, hy, ixL_i] at c53 <;> omega) | (simp (disch := omega) only [h0, h1, h3, Int32.le_iff_toInt_le, Int32.lt_iff_toInt_lt, ← Int32.toInt_inj, nI_toInt, Int32.toInt_zero, m1_toInt, Int64.le_iff_toInt_le, Int64.lt_iff_toInt_lt, ← Int64.toInt_inj, pk_lT, i64_toInt, Int64.toInt_zero, eq_self, not_true_eq_false, not_false_eq_true] at c16 c25 c36 c53 <;> omega) | omega)
                  all_goals
                    skip
                    refine x_aload_n dX8_lane_56 rfl ?_
                    refine x_bipush (v := nI 7) rfl dX8_lane_57 ?_
                    refine x_callV1 lk_X8_327 (m_refuse _) ho dX8_lane_59 rfl (Nat.le_of_ble_eq_true rfl) (by omega) (by decide) (by omega) (by omega) ?_
                    refine x_iret hr rfl dX8_lane_62 (by omega) (by omega) (hQ _ _ ?_)
                    try dsimp only [mI, mSA] at c16 c25 c36 c53
                    exact ⟨by simp [spLane, hx, hy], by simp [spLane, hx, hy, mI_mI, mSA_id]⟩
            · try (exfalso; first | (simp (disch := omega) [inS_ix, inS_N, ixL_N, ix_nI, hx, hy, ixL_i] at c36 <;> omega) | (simp (disch := omega) only [h0, h1, h3, Int32.le_iff_toInt_le, Int32.lt_iff_toInt_lt, ← Int32.toInt_inj, nI_toInt, Int32.toInt_zero, m1_toInt, Int64.le_iff_toInt_le, Int64.lt_iff_toInt_lt, ← Int64.toInt_inj, pk_lT, i64_toInt, Int64.toInt_zero, eq_self, not_true_eq_false, not_false_eq_true] at c16 c25 c36 <;> omega) | omega)
              all_goals
                skip
                refine x_aload_n dX8_lane_39 rfl ?_
                refine x_iconst (v := nI 5) rfl dX8_lane_40 ?_
                refine x_callV1 lk_X8_327 (m_refuse _) ho dX8_lane_41 rfl (Nat.le_of_ble_eq_true rfl) (by omega) (by decide) (by omega) (by omega) ?_
                refine x_iret hr rfl dX8_lane_44 (by omega) (by omega) (hQ _ _ ?_)
                try dsimp only [mI, mSA] at c16 c25 c36
                exact ⟨by simp [spLane, hx, hy], by simp [spLane, hx, hy, mI_mI, mSA_id]⟩
        · try (exfalso; first | (simp (disch := omega) [inS_ix, inS_N, ixL_N, ix_nI, hx, hy, ixL_i] at c25 <;> omega) | (simp (disch := omega) only [h0, h1, h3, Int32.le_iff_toInt_le, Int32.lt_iff_toInt_lt, ← Int32.toInt_inj, nI_toInt, Int32.toInt_zero, m1_toInt, Int64.le_iff_toInt_le, Int64.lt_iff_toInt_lt, ← Int64.toInt_inj, pk_lT, i64_toInt, Int64.toInt_zero, eq_self, not_true_eq_false, not_false_eq_true] at c16 c25 <;> omega) | omega)
          all_goals
            skip
            refine x_aload_n dX8_lane_28 rfl ?_
            refine x_iconst (v := nI 2) rfl dX8_lane_29 ?_
            refine x_callV1 lk_X8_327 (m_refuse _) ho dX8_lane_30 rfl (Nat.le_of_ble_eq_true rfl) (by omega) (by decide) (by omega) (by omega) ?_
            refine x_iret hr rfl dX8_lane_33 (by omega) (by omega) (hQ _ _ ?_)
            try dsimp only [mI, mSA] at c16 c25
            exact ⟨by simp [spLane, hx, hy], by simp [spLane, hx, hy, mI_mI, mSA_id]⟩
set_option maxHeartbeats 4000000 in
theorem m_strike {w : xW} {M : mS} {R : xH} {tm pm tn G : Nat} (hF : wF (M.2.2.1 5) tm pm tn G) (k9 p9 : Int32) (b : Bool) : CT w yX8_strike cX8_strike 5 (some (.int)) [] false (2) 0 0 [.ref 32, .int k9, .int p9, .int (xb b)] (hM M R) (xret (some (.int (spStrike tm pm tn k9 p9).1)) (hM (skM (mI (mI M 1 (nI 0)) 0 (nI (spStrike tm pm tn k9 p9).2)) tm pm tn k9 p9 b) R)) := by
  have l0 := hF.l0
  have l1 := hF.l1
  have l3 := hF.l3
  rcases ix_or k9 (n := tm) (by omega) with ⟨hx, hx2⟩ | ⟨t, ht, rfl, hx⟩
  rotate_left 1
  rcases ix_or p9 (n := pm) (by omega) with ⟨hy, hy2⟩ | ⟨j, hj, rfl, hy⟩
  rotate_left 1
  by_cases h9 : tn = 9
  · skip
    refine CT.of (ini := false) (by decide +kernel) q2000 q164 (Nat.le_of_ble_eq_true rfl) (by decide) ?_
    intro Γ hw ho hL hr hh hini hal hd hmc hms hQ
    subst hw
    show AW Γ cX8_strike 0 0 0 [some (.ref 32), some (.int (nI t)), some (.int (nI j)), some (.int (xb b)), none] [] (hM M R)
    have h0 := hF.c0
    have h1 := hF.c1
    have h3 := hF.c3
    have l0 := hF.l0
    have l1 := hF.l1
    have l3 := hF.l3
    refine x_aload_n dX8_strike_0 rfl ?_
    refine x_iconst (v := nI 0) rfl dX8_strike_1 ?_
    refine m_puti (k := 1) (pf_X8_70 (ini := false)) ho hini dX8_strike_2 rfl rfl (by decide) (ms_1 _ _) ?_
    refine x_aload_n dX8_strike_5 rfl ?_
    refine x_iconst (v := nI 0) rfl dX8_strike_6 ?_
    refine m_puti (k := 0) (pf_X8_73 (ini := false)) ho hini dX8_strike_7 rfl rfl (by decide) (ms_0 _ _) ?_
    refine x_aload_n dX8_strike_10 rfl ?_
    refine x_iload_n dX8_strike_11 rfl ?_
    refine x_callV1 lk_X8_333 (m_isTraitAt (M := (mI (mI M 1 (nI 0)) 0 (nI 0))) hF _) ho dX8_strike_12 rfl (Nat.le_of_ble_eq_true rfl) (by omega) (by decide) (by omega) (by omega) ?_
    refine x_ifb_eq (tgt := 27) dX8_strike_15 (by decide) (fun c15 => ?_) (fun c15 => ?_)
    · try (exfalso; first | (simp (disch := omega) [inS_ix, inS_N, ixL_N, ix_nI, hx, hy, ixL_i] at c15 <;> omega) | (simp (disch := omega) only [h0, h1, h3, h9, Int32.le_iff_toInt_le, Int32.lt_iff_toInt_lt, ← Int32.toInt_inj, nI_toInt, Int32.toInt_zero, m1_toInt, Int64.le_iff_toInt_le, Int64.lt_iff_toInt_lt, ← Int64.toInt_inj, pk_lT, i64_toInt, Int64.toInt_zero, eq_self, not_true_eq_false, not_false_eq_true] at c15 <;> omega) | omega)
      all_goals
        skip
        refine x_aload_n dX8_strike_27 rfl ?_
        refine x_iconst (v := nI 2) rfl dX8_strike_28 ?_
        refine x_callV1 lk_X8_327 (m_refuse _) ho dX8_strike_29 rfl (Nat.le_of_ble_eq_true rfl) (by omega) (by decide) (by omega) (by omega) ?_
        refine x_iret hr rfl dX8_strike_32 (by omega) (by omega) (hQ _ _ ?_)
        exact ⟨by simp (disch := omega) [spStrike, hx, hy, h9], by simp (disch := omega) [spStrike, hx, hy, h9, skM, mI_mI]⟩
    · try (exfalso; first | (simp (disch := omega) [inS_ix, inS_N, ixL_N, ix_nI, hx, hy, ixL_i] at c15 <;> omega) | (simp (disch := omega) only [h0, h1, h3, h9, Int32.le_iff_toInt_le, Int32.lt_iff_toInt_lt, ← Int32.toInt_inj, nI_toInt, Int32.toInt_zero, m1_toInt, Int64.le_iff_toInt_le, Int64.lt_iff_toInt_lt, ← Int64.toInt_inj, pk_lT, i64_toInt, Int64.toInt_zero, eq_self, not_true_eq_false, not_false_eq_true] at c15 <;> omega) | omega)
      all_goals
        skip
        refine x_aload_n dX8_strike_18 rfl ?_
        refine x_iload_n dX8_strike_19 rfl ?_
        refine x_i2lN (by omega) dX8_strike_20 ?_
        refine x_callV1 lk_X8_336 (m_isPersonAt (M := (mI (mI M 1 (nI 0)) 0 (nI 0))) hF _) ho dX8_strike_21 rfl (Nat.le_of_ble_eq_true rfl) (by omega) (by decide) (by omega) (by omega) ?_
        refine x_ifb_ne (tgt := 33) dX8_strike_24 (by decide) (fun c24 => ?_) (fun c24 => ?_)
        · try (exfalso; first | (simp (disch := omega) [inS_ix, inS_N, ixL_N, ix_nI, hx, hy, ixL_i] at c24 <;> omega) | (simp (disch := omega) only [h0, h1, h3, h9, Int32.le_iff_toInt_le, Int32.lt_iff_toInt_lt, ← Int32.toInt_inj, nI_toInt, Int32.toInt_zero, m1_toInt, Int64.le_iff_toInt_le, Int64.lt_iff_toInt_lt, ← Int64.toInt_inj, pk_lT, i64_toInt, Int64.toInt_zero, eq_self, not_true_eq_false, not_false_eq_true] at c15 c24 <;> omega) | omega)
          all_goals
            skip
            refine x_aload_n dX8_strike_33 rfl ?_
            refine x_getf gf_X8_35 ho dX8_strike_34 rfl rfl ?_
            refine x_iconst (v := nI 3) rfl dX8_strike_37 ?_
            refine x_iald dX8_strike_38 rfl (by first | rfl | exact nI_add _ _ | (simp only [nI_add, pk_mul]; rfl)) (by omega) (by decide) ?_
            refine x_ival h3 ?_
            refine x_ist4 hL (by decide) rfl dX8_strike_39 ?_
            refine x_iload dX8_strike_41 rfl ?_
            refine x_bipush (v := nI 9) rfl dX8_strike_43 ?_
            refine x_icmp_ne (tgt := 55) dX8_strike_45 (by decide) (fun c45 => ?_) (fun c45 => ?_)
            · try (exfalso; first | (simp (disch := omega) [inS_ix, inS_N, ixL_N, ix_nI, hx, hy, ixL_i] at c45 <;> omega) | (simp (disch := omega) only [h0, h1, h3, h9, Int32.le_iff_toInt_le, Int32.lt_iff_toInt_lt, ← Int32.toInt_inj, nI_toInt, Int32.toInt_zero, m1_toInt, Int64.le_iff_toInt_le, Int64.lt_iff_toInt_lt, ← Int64.toInt_inj, pk_lT, i64_toInt, Int64.toInt_zero, eq_self, not_true_eq_false, not_false_eq_true] at c15 c24 c45 <;> omega) | omega)
              all_goals
                skip
                refine x_aload_n dX8_strike_55 rfl ?_
                refine x_getf gf_X8_41 ho dX8_strike_56 rfl rfl ?_
                refine x_iconst (v := nI 3) rfl dX8_strike_59 ?_
                refine x_callS1 lk_X8_224 (m_namesFrom _ (by omega)) ho dX8_strike_60 (Nat.le_of_ble_eq_true rfl) (by omega) (by decide) (by omega) (by omega) ?_
                refine x_iload dX8_strike_63 rfl ?_
                refine x_iaddN dX8_strike_65 ?_
                refine x_lconst (v := lN 0) rfl dX8_strike_66 ?_
                refine m_last (r := 7) dX8_strike_67 (by decide) (by decide) (fun _ => rfl) (by first | rfl | exact nI_add _ _ | (simp only [nI_add, pk_mul]; rfl)) (by omega) (by decide) ?_
                refine x_aload_n dX8_strike_68 rfl ?_
                refine x_iconst (v := nI 0) rfl dX8_strike_69 ?_
                refine x_iload dX8_strike_70 rfl ?_
                refine x_iload_n dX8_strike_72 rfl ?_
                refine x_iload_n dX8_strike_73 rfl ?_
                refine x_iload_n dX8_strike_74 rfl ?_
                refine x_ifb_eq (tgt := 82) dX8_strike_75 (by decide) (fun c75 => ?_) (fun c75 => ?_)
                · try (exfalso; first | (simp (disch := omega) [inS_ix, inS_N, ixL_N, ix_nI, hx, hy, ixL_i] at c75 <;> omega) | (simp (disch := omega) only [h0, h1, h3, h9, Int32.le_iff_toInt_le, Int32.lt_iff_toInt_lt, ← Int32.toInt_inj, nI_toInt, Int32.toInt_zero, m1_toInt, Int64.le_iff_toInt_le, Int64.lt_iff_toInt_lt, ← Int64.toInt_inj, pk_lT, i64_toInt, Int64.toInt_zero, eq_self, not_true_eq_false, not_false_eq_true] at c15 c24 c45 c75 <;> omega) | omega)
                  all_goals
                    skip
                    refine x_iconst (v := nI 0) rfl dX8_strike_82 ?_
                    refine x_callV5 lk_X8_264 (m_strikes (M := (mB (mI (mI M 1 (nI 0)) 0 (nI 0)) 7 (13 + tn) (lN 0))) hF _ _ _ _ _ (by omega) (by omega) (by omega)) ho dX8_strike_83 rfl (Nat.le_of_ble_eq_true rfl) (by omega) (by decide) (by omega) (by omega) ?_
                    refine x_iload dX8_strike_86 rfl ?_
                    refine x_iret hr rfl dX8_strike_88 (by omega) (by omega) (hQ _ _ ?_)
                    exact ⟨by simp (disch := omega) [spStrike, hx, hy, h9], by simp (disch := omega) [spStrike, hx, hy, h9, skM, mI_mI]⟩
                · try (exfalso; first | (simp (disch := omega) [inS_ix, inS_N, ixL_N, ix_nI, hx, hy, ixL_i] at c75 <;> omega) | (simp (disch := omega) only [h0, h1, h3, h9, Int32.le_iff_toInt_le, Int32.lt_iff_toInt_lt, ← Int32.toInt_inj, nI_toInt, Int32.toInt_zero, m1_toInt, Int64.le_iff_toInt_le, Int64.lt_iff_toInt_lt, ← Int64.toInt_inj, pk_lT, i64_toInt, Int64.toInt_zero, eq_self, not_true_eq_false, not_false_eq_true] at c15 c24 c45 c75 <;> omega) | omega)
                  all_goals
                    skip
                    refine x_iconst (v := nI 1) rfl dX8_strike_78 ?_
                    refine x_goto (tgt := 83) dX8_strike_79 (by decide) ?_
                    refine x_callV5 lk_X8_264 (m_strikes (M := (mB (mI (mI M 1 (nI 0)) 0 (nI 0)) 7 (13 + tn) (lN 0))) hF _ _ _ _ _ (by omega) (by omega) (by omega)) ho dX8_strike_83 rfl (Nat.le_of_ble_eq_true rfl) (by omega) (by decide) (by omega) (by omega) ?_
                    refine x_iload dX8_strike_86 rfl ?_
                    refine x_iret hr rfl dX8_strike_88 (by omega) (by omega) (hQ _ _ ?_)
                    exact ⟨by simp (disch := omega) [spStrike, hx, hy, h9], by simp (disch := omega) [spStrike, hx, hy, h9, skM, mI_mI]⟩
            · try (exfalso; first | (simp (disch := omega) [inS_ix, inS_N, ixL_N, ix_nI, hx, hy, ixL_i] at c45 <;> omega) | (simp (disch := omega) only [h0, h1, h3, h9, Int32.le_iff_toInt_le, Int32.lt_iff_toInt_lt, ← Int32.toInt_inj, nI_toInt, Int32.toInt_zero, m1_toInt, Int64.le_iff_toInt_le, Int64.lt_iff_toInt_lt, ← Int64.toInt_inj, pk_lT, i64_toInt, Int64.toInt_zero, eq_self, not_true_eq_false, not_false_eq_true] at c15 c24 c45 <;> omega) | omega)
              all_goals
                skip
                refine x_aload_n dX8_strike_48 rfl ?_
                refine x_bipush (v := nI 7) rfl dX8_strike_49 ?_
                refine x_callV1 lk_X8_327 (m_refuse _) ho dX8_strike_51 rfl (Nat.le_of_ble_eq_true rfl) (by omega) (by decide) (by omega) (by omega) ?_
                refine x_iret hr rfl dX8_strike_54 (by omega) (by omega) (hQ _ _ ?_)
                exact ⟨by simp (disch := omega) [spStrike, hx, hy, h9], by simp (disch := omega) [spStrike, hx, hy, h9, skM, mI_mI]⟩
        · try (exfalso; first | (simp (disch := omega) [inS_ix, inS_N, ixL_N, ix_nI, hx, hy, ixL_i] at c24 <;> omega) | (simp (disch := omega) only [h0, h1, h3, h9, Int32.le_iff_toInt_le, Int32.lt_iff_toInt_lt, ← Int32.toInt_inj, nI_toInt, Int32.toInt_zero, m1_toInt, Int64.le_iff_toInt_le, Int64.lt_iff_toInt_lt, ← Int64.toInt_inj, pk_lT, i64_toInt, Int64.toInt_zero, eq_self, not_true_eq_false, not_false_eq_true] at c15 c24 <;> omega) | omega)
          all_goals
            skip
            refine x_aload_n dX8_strike_27 rfl ?_
            refine x_iconst (v := nI 2) rfl dX8_strike_28 ?_
            refine x_callV1 lk_X8_327 (m_refuse _) ho dX8_strike_29 rfl (Nat.le_of_ble_eq_true rfl) (by omega) (by decide) (by omega) (by omega) ?_
            refine x_iret hr rfl dX8_strike_32 (by omega) (by omega) (hQ _ _ ?_)
            exact ⟨by simp (disch := omega) [spStrike, hx, hy, h9], by simp (disch := omega) [spStrike, hx, hy, h9, skM, mI_mI]⟩
  · skip
    refine CT.of (ini := false) (by decide +kernel) q2000 q164 (Nat.le_of_ble_eq_true rfl) (by decide) ?_
    intro Γ hw ho hL hr hh hini hal hd hmc hms hQ
    subst hw
    show AW Γ cX8_strike 0 0 0 [some (.ref 32), some (.int (nI t)), some (.int (nI j)), some (.int (xb b)), none] [] (hM M R)
    have h0 := hF.c0
    have h1 := hF.c1
    have h3 := hF.c3
    have l0 := hF.l0
    have l1 := hF.l1
    have l3 := hF.l3
    refine x_aload_n dX8_strike_0 rfl ?_
    refine x_iconst (v := nI 0) rfl dX8_strike_1 ?_
    refine m_puti (k := 1) (pf_X8_70 (ini := false)) ho hini dX8_strike_2 rfl rfl (by decide) (ms_1 _ _) ?_
    refine x_aload_n dX8_strike_5 rfl ?_
    refine x_iconst (v := nI 0) rfl dX8_strike_6 ?_
    refine m_puti (k := 0) (pf_X8_73 (ini := false)) ho hini dX8_strike_7 rfl rfl (by decide) (ms_0 _ _) ?_
    refine x_aload_n dX8_strike_10 rfl ?_
    refine x_iload_n dX8_strike_11 rfl ?_
    refine x_callV1 lk_X8_333 (m_isTraitAt (M := (mI (mI M 1 (nI 0)) 0 (nI 0))) hF _) ho dX8_strike_12 rfl (Nat.le_of_ble_eq_true rfl) (by omega) (by decide) (by omega) (by omega) ?_
    refine x_ifb_eq (tgt := 27) dX8_strike_15 (by decide) (fun c15 => ?_) (fun c15 => ?_)
    · try (exfalso; first | (simp (disch := omega) [inS_ix, inS_N, ixL_N, ix_nI, hx, hy, ixL_i] at c15 <;> omega) | (simp (disch := omega) only [h0, h1, h3, Int32.le_iff_toInt_le, Int32.lt_iff_toInt_lt, ← Int32.toInt_inj, nI_toInt, Int32.toInt_zero, m1_toInt, Int64.le_iff_toInt_le, Int64.lt_iff_toInt_lt, ← Int64.toInt_inj, pk_lT, i64_toInt, Int64.toInt_zero, eq_self, not_true_eq_false, not_false_eq_true] at c15 <;> omega) | omega)
      all_goals
        skip
        refine x_aload_n dX8_strike_27 rfl ?_
        refine x_iconst (v := nI 2) rfl dX8_strike_28 ?_
        refine x_callV1 lk_X8_327 (m_refuse _) ho dX8_strike_29 rfl (Nat.le_of_ble_eq_true rfl) (by omega) (by decide) (by omega) (by omega) ?_
        refine x_iret hr rfl dX8_strike_32 (by omega) (by omega) (hQ _ _ ?_)
        exact ⟨by simp (disch := omega) [spStrike, hx, hy, h9], by simp (disch := omega) [spStrike, hx, hy, h9, skM, mI_mI, cl_nI]⟩
    · try (exfalso; first | (simp (disch := omega) [inS_ix, inS_N, ixL_N, ix_nI, hx, hy, ixL_i] at c15 <;> omega) | (simp (disch := omega) only [h0, h1, h3, Int32.le_iff_toInt_le, Int32.lt_iff_toInt_lt, ← Int32.toInt_inj, nI_toInt, Int32.toInt_zero, m1_toInt, Int64.le_iff_toInt_le, Int64.lt_iff_toInt_lt, ← Int64.toInt_inj, pk_lT, i64_toInt, Int64.toInt_zero, eq_self, not_true_eq_false, not_false_eq_true] at c15 <;> omega) | omega)
      all_goals
        skip
        refine x_aload_n dX8_strike_18 rfl ?_
        refine x_iload_n dX8_strike_19 rfl ?_
        refine x_i2lN (by omega) dX8_strike_20 ?_
        refine x_callV1 lk_X8_336 (m_isPersonAt (M := (mI (mI M 1 (nI 0)) 0 (nI 0))) hF _) ho dX8_strike_21 rfl (Nat.le_of_ble_eq_true rfl) (by omega) (by decide) (by omega) (by omega) ?_
        refine x_ifb_ne (tgt := 33) dX8_strike_24 (by decide) (fun c24 => ?_) (fun c24 => ?_)
        · try (exfalso; first | (simp (disch := omega) [inS_ix, inS_N, ixL_N, ix_nI, hx, hy, ixL_i] at c24 <;> omega) | (simp (disch := omega) only [h0, h1, h3, Int32.le_iff_toInt_le, Int32.lt_iff_toInt_lt, ← Int32.toInt_inj, nI_toInt, Int32.toInt_zero, m1_toInt, Int64.le_iff_toInt_le, Int64.lt_iff_toInt_lt, ← Int64.toInt_inj, pk_lT, i64_toInt, Int64.toInt_zero, eq_self, not_true_eq_false, not_false_eq_true] at c15 c24 <;> omega) | omega)
          all_goals
            skip
            refine x_aload_n dX8_strike_33 rfl ?_
            refine x_getf gf_X8_35 ho dX8_strike_34 rfl rfl ?_
            refine x_iconst (v := nI 3) rfl dX8_strike_37 ?_
            refine x_iald dX8_strike_38 rfl (by first | rfl | exact nI_add _ _ | (simp only [nI_add, pk_mul]; rfl)) (by omega) (by decide) ?_
            refine x_ival h3 ?_
            refine x_ist4 hL (by decide) rfl dX8_strike_39 ?_
            refine x_iload dX8_strike_41 rfl ?_
            refine x_bipush (v := nI 9) rfl dX8_strike_43 ?_
            refine x_icmp_ne (tgt := 55) dX8_strike_45 (by decide) (fun c45 => ?_) (fun c45 => ?_)
            · try (exfalso; first | (simp (disch := omega) [inS_ix, inS_N, ixL_N, ix_nI, hx, hy, ixL_i] at c45 <;> omega) | (simp (disch := omega) only [h0, h1, h3, Int32.le_iff_toInt_le, Int32.lt_iff_toInt_lt, ← Int32.toInt_inj, nI_toInt, Int32.toInt_zero, m1_toInt, Int64.le_iff_toInt_le, Int64.lt_iff_toInt_lt, ← Int64.toInt_inj, pk_lT, i64_toInt, Int64.toInt_zero, eq_self, not_true_eq_false, not_false_eq_true] at c15 c24 c45 <;> omega) | omega)
              all_goals
                skip
                refine x_aload_n dX8_strike_55 rfl ?_
                refine x_getf gf_X8_41 ho dX8_strike_56 rfl rfl ?_
                refine x_iconst (v := nI 3) rfl dX8_strike_59 ?_
                refine x_callS1 lk_X8_224 (m_namesFrom _ (by omega)) ho dX8_strike_60 (Nat.le_of_ble_eq_true rfl) (by omega) (by decide) (by omega) (by omega) ?_
                refine x_ival (y := nI 13) rfl ?_
                refine x_iload dX8_strike_63 rfl ?_
                refine x_iaddN dX8_strike_65 ?_
                refine x_lconst (v := lN 0) rfl dX8_strike_66 ?_
                refine m_last (r := 7) dX8_strike_67 (by decide) (by decide) (fun _ => rfl) (by first | rfl | exact nI_add _ _ | (simp only [nI_add, pk_mul]; rfl)) (by omega) (by decide) ?_
                refine x_aload_n dX8_strike_68 rfl ?_
                refine x_iconst (v := nI 0) rfl dX8_strike_69 ?_
                refine x_iload dX8_strike_70 rfl ?_
                refine x_iload_n dX8_strike_72 rfl ?_
                refine x_iload_n dX8_strike_73 rfl ?_
                refine x_iload_n dX8_strike_74 rfl ?_
                refine x_ifb_eq (tgt := 82) dX8_strike_75 (by decide) (fun c75 => ?_) (fun c75 => ?_)
                · try (exfalso; first | (simp (disch := omega) [inS_ix, inS_N, ixL_N, ix_nI, hx, hy, ixL_i] at c75 <;> omega) | (simp (disch := omega) only [h0, h1, h3, Int32.le_iff_toInt_le, Int32.lt_iff_toInt_lt, ← Int32.toInt_inj, nI_toInt, Int32.toInt_zero, m1_toInt, Int64.le_iff_toInt_le, Int64.lt_iff_toInt_lt, ← Int64.toInt_inj, pk_lT, i64_toInt, Int64.toInt_zero, eq_self, not_true_eq_false, not_false_eq_true] at c15 c24 c45 c75 <;> omega) | omega)
                  all_goals
                    skip
                    refine x_iconst (v := nI 0) rfl dX8_strike_82 ?_
                    refine x_ival (y := xb b) (by rw [c75]; rfl) ?_
                    refine x_callV5 lk_X8_264 (m_strikes (M := (mB (mI (mI M 1 (nI 0)) 0 (nI 0)) 7 (13 + tn) (lN 0))) hF _ _ _ _ _ (by omega) (by omega) (by omega)) ho dX8_strike_83 rfl (Nat.le_of_ble_eq_true rfl) (by omega) (by decide) (by omega) (by omega) ?_
                    refine x_iload dX8_strike_86 rfl ?_
                    refine x_iret hr rfl dX8_strike_88 (by omega) (by omega) (hQ _ _ ?_)
                    exact ⟨by simp (disch := omega) [spStrike, hx, hy, h9], by simp (disch := omega) [spStrike, hx, hy, h9, skM, mI_mI, cl_nI]⟩
                · try (exfalso; first | (simp (disch := omega) [inS_ix, inS_N, ixL_N, ix_nI, hx, hy, ixL_i] at c75 <;> omega) | (simp (disch := omega) only [h0, h1, h3, Int32.le_iff_toInt_le, Int32.lt_iff_toInt_lt, ← Int32.toInt_inj, nI_toInt, Int32.toInt_zero, m1_toInt, Int64.le_iff_toInt_le, Int64.lt_iff_toInt_lt, ← Int64.toInt_inj, pk_lT, i64_toInt, Int64.toInt_zero, eq_self, not_true_eq_false, not_false_eq_true] at c15 c24 c45 c75 <;> omega) | omega)
                  all_goals
                    skip
                    refine x_iconst (v := nI 1) rfl dX8_strike_78 ?_
                    refine x_goto (tgt := 83) dX8_strike_79 (by decide) ?_
                    refine x_ival (y := xb b) (by rw [c75]; rfl) ?_
                    refine x_callV5 lk_X8_264 (m_strikes (M := (mB (mI (mI M 1 (nI 0)) 0 (nI 0)) 7 (13 + tn) (lN 0))) hF _ _ _ _ _ (by omega) (by omega) (by omega)) ho dX8_strike_83 rfl (Nat.le_of_ble_eq_true rfl) (by omega) (by decide) (by omega) (by omega) ?_
                    refine x_iload dX8_strike_86 rfl ?_
                    refine x_iret hr rfl dX8_strike_88 (by omega) (by omega) (hQ _ _ ?_)
                    exact ⟨by simp (disch := omega) [spStrike, hx, hy, h9], by simp (disch := omega) [spStrike, hx, hy, h9, skM, mI_mI, cl_nI]⟩
            · try (exfalso; first | (simp (disch := omega) [inS_ix, inS_N, ixL_N, ix_nI, hx, hy, ixL_i] at c45 <;> omega) | (simp (disch := omega) only [h0, h1, h3, Int32.le_iff_toInt_le, Int32.lt_iff_toInt_lt, ← Int32.toInt_inj, nI_toInt, Int32.toInt_zero, m1_toInt, Int64.le_iff_toInt_le, Int64.lt_iff_toInt_lt, ← Int64.toInt_inj, pk_lT, i64_toInt, Int64.toInt_zero, eq_self, not_true_eq_false, not_false_eq_true] at c15 c24 c45 <;> omega) | omega)
              all_goals
                skip
                refine x_aload_n dX8_strike_48 rfl ?_
                refine x_bipush (v := nI 7) rfl dX8_strike_49 ?_
                refine x_callV1 lk_X8_327 (m_refuse _) ho dX8_strike_51 rfl (Nat.le_of_ble_eq_true rfl) (by omega) (by decide) (by omega) (by omega) ?_
                refine x_iret hr rfl dX8_strike_54 (by omega) (by omega) (hQ _ _ ?_)
                exact ⟨by simp (disch := omega) [spStrike, hx, hy, h9], by simp (disch := omega) [spStrike, hx, hy, h9, skM, mI_mI, cl_nI]⟩
        · try (exfalso; first | (simp (disch := omega) [inS_ix, inS_N, ixL_N, ix_nI, hx, hy, ixL_i] at c24 <;> omega) | (simp (disch := omega) only [h0, h1, h3, Int32.le_iff_toInt_le, Int32.lt_iff_toInt_lt, ← Int32.toInt_inj, nI_toInt, Int32.toInt_zero, m1_toInt, Int64.le_iff_toInt_le, Int64.lt_iff_toInt_lt, ← Int64.toInt_inj, pk_lT, i64_toInt, Int64.toInt_zero, eq_self, not_true_eq_false, not_false_eq_true] at c15 c24 <;> omega) | omega)
          all_goals
            skip
            refine x_aload_n dX8_strike_27 rfl ?_
            refine x_iconst (v := nI 2) rfl dX8_strike_28 ?_
            refine x_callV1 lk_X8_327 (m_refuse _) ho dX8_strike_29 rfl (Nat.le_of_ble_eq_true rfl) (by omega) (by decide) (by omega) (by omega) ?_
            refine x_iret hr rfl dX8_strike_32 (by omega) (by omega) (hQ _ _ ?_)
            exact ⟨by simp (disch := omega) [spStrike, hx, hy, h9], by simp (disch := omega) [spStrike, hx, hy, h9, skM, mI_mI, cl_nI]⟩
  · skip
    refine CT.of (ini := false) (by decide +kernel) q2000 q164 (Nat.le_of_ble_eq_true rfl) (by decide) ?_
    intro Γ hw ho hL hr hh hini hal hd hmc hms hQ
    subst hw
    show AW Γ cX8_strike 0 0 0 [some (.ref 32), some (.int k9), some (.int p9), some (.int (xb b)), none] [] (hM M R)
    have h0 := hF.c0
    have h1 := hF.c1
    have h3 := hF.c3
    have l0 := hF.l0
    have l1 := hF.l1
    have l3 := hF.l3
    refine x_aload_n dX8_strike_0 rfl ?_
    refine x_iconst (v := nI 0) rfl dX8_strike_1 ?_
    refine m_puti (k := 1) (pf_X8_70 (ini := false)) ho hini dX8_strike_2 rfl rfl (by decide) (ms_1 _ _) ?_
    refine x_aload_n dX8_strike_5 rfl ?_
    refine x_iconst (v := nI 0) rfl dX8_strike_6 ?_
    refine m_puti (k := 0) (pf_X8_73 (ini := false)) ho hini dX8_strike_7 rfl rfl (by decide) (ms_0 _ _) ?_
    refine x_aload_n dX8_strike_10 rfl ?_
    refine x_iload_n dX8_strike_11 rfl ?_
    refine x_callV1 lk_X8_333 (m_isTraitAt (M := (mI (mI M 1 (nI 0)) 0 (nI 0))) hF _) ho dX8_strike_12 rfl (Nat.le_of_ble_eq_true rfl) (by omega) (by decide) (by omega) (by omega) ?_
    refine x_ifb_eq (tgt := 27) dX8_strike_15 (by decide) (fun c15 => ?_) (fun c15 => ?_)
    · try (exfalso; first | (simp (disch := omega) [inS_ix, inS_N, ixL_N, ix_nI, hx] at c15 <;> omega) | (simp (disch := omega) only [h0, h1, h3, Int32.le_iff_toInt_le, Int32.lt_iff_toInt_lt, ← Int32.toInt_inj, nI_toInt, Int32.toInt_zero, m1_toInt, Int64.le_iff_toInt_le, Int64.lt_iff_toInt_lt, ← Int64.toInt_inj, pk_lT, i64_toInt, Int64.toInt_zero, eq_self, not_true_eq_false, not_false_eq_true] at c15 <;> omega) | omega)
      all_goals
        skip
        refine x_aload_n dX8_strike_27 rfl ?_
        refine x_iconst (v := nI 2) rfl dX8_strike_28 ?_
        refine x_callV1 lk_X8_327 (m_refuse _) ho dX8_strike_29 rfl (Nat.le_of_ble_eq_true rfl) (by omega) (by decide) (by omega) (by omega) ?_
        refine x_iret hr rfl dX8_strike_32 (by omega) (by omega) (hQ _ _ ?_)
        exact ⟨by simp [spStrike, hx], by simp [spStrike, hx, skM, mI_mI]⟩
    · try (exfalso; first | (simp (disch := omega) [inS_ix, inS_N, ixL_N, ix_nI, hx] at c15 <;> omega) | (simp (disch := omega) only [h0, h1, h3, Int32.le_iff_toInt_le, Int32.lt_iff_toInt_lt, ← Int32.toInt_inj, nI_toInt, Int32.toInt_zero, m1_toInt, Int64.le_iff_toInt_le, Int64.lt_iff_toInt_lt, ← Int64.toInt_inj, pk_lT, i64_toInt, Int64.toInt_zero, eq_self, not_true_eq_false, not_false_eq_true] at c15 <;> omega) | omega)
      all_goals
        skip
        refine x_aload_n dX8_strike_18 rfl ?_
        refine x_iload_n dX8_strike_19 rfl ?_
        refine x_i2l dX8_strike_20 ?_
        refine x_callV1 lk_X8_336 (m_isPersonAt (M := (mI (mI M 1 (nI 0)) 0 (nI 0))) hF _) ho dX8_strike_21 rfl (Nat.le_of_ble_eq_true rfl) (by omega) (by decide) (by omega) (by omega) ?_
        refine x_ifb_ne (tgt := 33) dX8_strike_24 (by decide) (fun c24 => ?_) (fun c24 => ?_)
        · try (exfalso; first | (simp (disch := omega) [inS_ix, inS_N, ixL_N, ix_nI, hx] at c24 <;> omega) | (simp (disch := omega) only [h0, h1, h3, Int32.le_iff_toInt_le, Int32.lt_iff_toInt_lt, ← Int32.toInt_inj, nI_toInt, Int32.toInt_zero, m1_toInt, Int64.le_iff_toInt_le, Int64.lt_iff_toInt_lt, ← Int64.toInt_inj, pk_lT, i64_toInt, Int64.toInt_zero, eq_self, not_true_eq_false, not_false_eq_true] at c15 c24 <;> omega) | omega)
          all_goals
            skip
            refine x_aload_n dX8_strike_33 rfl ?_
            refine x_getf gf_X8_35 ho dX8_strike_34 rfl rfl ?_
            refine x_iconst (v := nI 3) rfl dX8_strike_37 ?_
            refine x_iald dX8_strike_38 rfl (by first | rfl | exact nI_add _ _ | (simp only [nI_add, pk_mul]; rfl)) (by omega) (by decide) ?_
            refine x_ist4 hL (by decide) rfl dX8_strike_39 ?_
            refine x_iload dX8_strike_41 rfl ?_
            refine x_bipush (v := nI 9) rfl dX8_strike_43 ?_
            refine x_icmp_ne (tgt := 55) dX8_strike_45 (by decide) (fun c45 => ?_) (fun c45 => ?_)
            · try (exfalso; first | (simp (disch := omega) [inS_ix, inS_N, ixL_N, ix_nI, hx] at c45 <;> omega) | (simp (disch := omega) only [h0, h1, h3, Int32.le_iff_toInt_le, Int32.lt_iff_toInt_lt, ← Int32.toInt_inj, nI_toInt, Int32.toInt_zero, m1_toInt, Int64.le_iff_toInt_le, Int64.lt_iff_toInt_lt, ← Int64.toInt_inj, pk_lT, i64_toInt, Int64.toInt_zero, eq_self, not_true_eq_false, not_false_eq_true] at c15 c24 c45 <;> omega) | omega)
              all_goals
                skip
                refine x_aload_n dX8_strike_55 rfl ?_
                refine x_getf gf_X8_41 ho dX8_strike_56 rfl rfl ?_
                refine x_iconst (v := nI 3) rfl dX8_strike_59 ?_
                refine x_callS1 lk_X8_224 (m_namesFrom _ (by omega)) ho dX8_strike_60 (Nat.le_of_ble_eq_true rfl) (by omega) (by decide) (by omega) (by omega) ?_
                refine x_iload dX8_strike_63 rfl ?_
                refine x_iadd dX8_strike_65 ?_
                refine x_lconst (v := lN 0) rfl dX8_strike_66 ?_
                refine m_last (r := 7) dX8_strike_67 (by decide) (by decide) (fun _ => rfl) (by first | rfl | exact nI_add _ _ | (simp only [nI_add, pk_mul]; rfl)) (by omega) (by decide) ?_
                refine x_aload_n dX8_strike_68 rfl ?_
                refine x_iconst (v := nI 0) rfl dX8_strike_69 ?_
                refine x_iload dX8_strike_70 rfl ?_
                refine x_iload_n dX8_strike_72 rfl ?_
                refine x_iload_n dX8_strike_73 rfl ?_
                refine x_iload_n dX8_strike_74 rfl ?_
                refine x_ifb_eq (tgt := 82) dX8_strike_75 (by decide) (fun c75 => ?_) (fun c75 => ?_)
                · try (exfalso; first | (simp (disch := omega) [inS_ix, inS_N, ixL_N, ix_nI, hx] at c75 <;> omega) | (simp (disch := omega) only [h0, h1, h3, Int32.le_iff_toInt_le, Int32.lt_iff_toInt_lt, ← Int32.toInt_inj, nI_toInt, Int32.toInt_zero, m1_toInt, Int64.le_iff_toInt_le, Int64.lt_iff_toInt_lt, ← Int64.toInt_inj, pk_lT, i64_toInt, Int64.toInt_zero, eq_self, not_true_eq_false, not_false_eq_true] at c15 c24 c45 c75 <;> omega) | omega)
                  all_goals
                    skip
                    refine x_iconst (v := nI 0) rfl dX8_strike_82 ?_
                    refine x_callV5 lk_X8_264 (m_strikes (M := (mB (mI (mI M 1 (nI 0)) 0 (nI 0)) 7 (13 + tn) (lN 0))) hF _ _ _ _ _ (by omega) (by omega) (by omega)) ho dX8_strike_83 rfl (Nat.le_of_ble_eq_true rfl) (by omega) (by decide) (by omega) (by omega) ?_
                    refine x_iload dX8_strike_86 rfl ?_
                    refine x_iret hr rfl dX8_strike_88 (by omega) (by omega) (hQ _ _ ?_)
                    exact ⟨by simp [spStrike, hx], by simp [spStrike, hx, skM, mI_mI]⟩
                · try (exfalso; first | (simp (disch := omega) [inS_ix, inS_N, ixL_N, ix_nI, hx] at c75 <;> omega) | (simp (disch := omega) only [h0, h1, h3, Int32.le_iff_toInt_le, Int32.lt_iff_toInt_lt, ← Int32.toInt_inj, nI_toInt, Int32.toInt_zero, m1_toInt, Int64.le_iff_toInt_le, Int64.lt_iff_toInt_lt, ← Int64.toInt_inj, pk_lT, i64_toInt, Int64.toInt_zero, eq_self, not_true_eq_false, not_false_eq_true] at c15 c24 c45 c75 <;> omega) | omega)
                  all_goals
                    skip
                    refine x_iconst (v := nI 1) rfl dX8_strike_78 ?_
                    refine x_goto (tgt := 83) dX8_strike_79 (by decide) ?_
                    refine x_callV5 lk_X8_264 (m_strikes (M := (mB (mI (mI M 1 (nI 0)) 0 (nI 0)) 7 (13 + tn) (lN 0))) hF _ _ _ _ _ (by omega) (by omega) (by omega)) ho dX8_strike_83 rfl (Nat.le_of_ble_eq_true rfl) (by omega) (by decide) (by omega) (by omega) ?_
                    refine x_iload dX8_strike_86 rfl ?_
                    refine x_iret hr rfl dX8_strike_88 (by omega) (by omega) (hQ _ _ ?_)
                    exact ⟨by simp [spStrike, hx], by simp [spStrike, hx, skM, mI_mI]⟩
            · try (exfalso; first | (simp (disch := omega) [inS_ix, inS_N, ixL_N, ix_nI, hx] at c45 <;> omega) | (simp (disch := omega) only [h0, h1, h3, Int32.le_iff_toInt_le, Int32.lt_iff_toInt_lt, ← Int32.toInt_inj, nI_toInt, Int32.toInt_zero, m1_toInt, Int64.le_iff_toInt_le, Int64.lt_iff_toInt_lt, ← Int64.toInt_inj, pk_lT, i64_toInt, Int64.toInt_zero, eq_self, not_true_eq_false, not_false_eq_true] at c15 c24 c45 <;> omega) | omega)
              all_goals
                skip
                refine x_aload_n dX8_strike_48 rfl ?_
                refine x_bipush (v := nI 7) rfl dX8_strike_49 ?_
                refine x_callV1 lk_X8_327 (m_refuse _) ho dX8_strike_51 rfl (Nat.le_of_ble_eq_true rfl) (by omega) (by decide) (by omega) (by omega) ?_
                refine x_iret hr rfl dX8_strike_54 (by omega) (by omega) (hQ _ _ ?_)
                exact ⟨by simp [spStrike, hx], by simp [spStrike, hx, skM, mI_mI]⟩
        · try (exfalso; first | (simp (disch := omega) [inS_ix, inS_N, ixL_N, ix_nI, hx] at c24 <;> omega) | (simp (disch := omega) only [h0, h1, h3, Int32.le_iff_toInt_le, Int32.lt_iff_toInt_lt, ← Int32.toInt_inj, nI_toInt, Int32.toInt_zero, m1_toInt, Int64.le_iff_toInt_le, Int64.lt_iff_toInt_lt, ← Int64.toInt_inj, pk_lT, i64_toInt, Int64.toInt_zero, eq_self, not_true_eq_false, not_false_eq_true] at c15 c24 <;> omega) | omega)
          all_goals
            skip
            refine x_aload_n dX8_strike_27 rfl ?_
            refine x_iconst (v := nI 2) rfl dX8_strike_28 ?_
            refine x_callV1 lk_X8_327 (m_refuse _) ho dX8_strike_29 rfl (Nat.le_of_ble_eq_true rfl) (by omega) (by decide) (by omega) (by omega) ?_
            refine x_iret hr rfl dX8_strike_32 (by omega) (by omega) (hQ _ _ ?_)
            exact ⟨by simp [spStrike, hx], by simp [spStrike, hx, skM, mI_mI]⟩
  · skip
    refine CT.of (ini := false) (by decide +kernel) q2000 q164 (Nat.le_of_ble_eq_true rfl) (by decide) ?_
    intro Γ hw ho hL hr hh hini hal hd hmc hms hQ
    subst hw
    show AW Γ cX8_strike 0 0 0 [some (.ref 32), some (.int (nI t)), some (.int p9), some (.int (xb b)), none] [] (hM M R)
    have h0 := hF.c0
    have h1 := hF.c1
    have h3 := hF.c3
    have l0 := hF.l0
    have l1 := hF.l1
    have l3 := hF.l3
    refine x_aload_n dX8_strike_0 rfl ?_
    refine x_iconst (v := nI 0) rfl dX8_strike_1 ?_
    refine m_puti (k := 1) (pf_X8_70 (ini := false)) ho hini dX8_strike_2 rfl rfl (by decide) (ms_1 _ _) ?_
    refine x_aload_n dX8_strike_5 rfl ?_
    refine x_iconst (v := nI 0) rfl dX8_strike_6 ?_
    refine m_puti (k := 0) (pf_X8_73 (ini := false)) ho hini dX8_strike_7 rfl rfl (by decide) (ms_0 _ _) ?_
    refine x_aload_n dX8_strike_10 rfl ?_
    refine x_iload_n dX8_strike_11 rfl ?_
    refine x_callV1 lk_X8_333 (m_isTraitAt (M := (mI (mI M 1 (nI 0)) 0 (nI 0))) hF _) ho dX8_strike_12 rfl (Nat.le_of_ble_eq_true rfl) (by omega) (by decide) (by omega) (by omega) ?_
    refine x_ifb_eq (tgt := 27) dX8_strike_15 (by decide) (fun c15 => ?_) (fun c15 => ?_)
    · try (exfalso; first | (simp (disch := omega) [inS_ix, inS_N, ixL_N, ix_nI, hx, hy, ixL_i] at c15 <;> omega) | (simp (disch := omega) only [h0, h1, h3, Int32.le_iff_toInt_le, Int32.lt_iff_toInt_lt, ← Int32.toInt_inj, nI_toInt, Int32.toInt_zero, m1_toInt, Int64.le_iff_toInt_le, Int64.lt_iff_toInt_lt, ← Int64.toInt_inj, pk_lT, i64_toInt, Int64.toInt_zero, eq_self, not_true_eq_false, not_false_eq_true] at c15 <;> omega) | omega)
      all_goals
        skip
        refine x_aload_n dX8_strike_27 rfl ?_
        refine x_iconst (v := nI 2) rfl dX8_strike_28 ?_
        refine x_callV1 lk_X8_327 (m_refuse _) ho dX8_strike_29 rfl (Nat.le_of_ble_eq_true rfl) (by omega) (by decide) (by omega) (by omega) ?_
        refine x_iret hr rfl dX8_strike_32 (by omega) (by omega) (hQ _ _ ?_)
        exact ⟨by simp [spStrike, hx, hy], by simp [spStrike, hx, hy, skM, mI_mI]⟩
    · try (exfalso; first | (simp (disch := omega) [inS_ix, inS_N, ixL_N, ix_nI, hx, hy, ixL_i] at c15 <;> omega) | (simp (disch := omega) only [h0, h1, h3, Int32.le_iff_toInt_le, Int32.lt_iff_toInt_lt, ← Int32.toInt_inj, nI_toInt, Int32.toInt_zero, m1_toInt, Int64.le_iff_toInt_le, Int64.lt_iff_toInt_lt, ← Int64.toInt_inj, pk_lT, i64_toInt, Int64.toInt_zero, eq_self, not_true_eq_false, not_false_eq_true] at c15 <;> omega) | omega)
      all_goals
        skip
        refine x_aload_n dX8_strike_18 rfl ?_
        refine x_iload_n dX8_strike_19 rfl ?_
        refine x_i2l dX8_strike_20 ?_
        refine x_callV1 lk_X8_336 (m_isPersonAt (M := (mI (mI M 1 (nI 0)) 0 (nI 0))) hF _) ho dX8_strike_21 rfl (Nat.le_of_ble_eq_true rfl) (by omega) (by decide) (by omega) (by omega) ?_
        refine x_ifb_ne (tgt := 33) dX8_strike_24 (by decide) (fun c24 => ?_) (fun c24 => ?_)
        · try (exfalso; first | (simp (disch := omega) [inS_ix, inS_N, ixL_N, ix_nI, hx, hy, ixL_i] at c24 <;> omega) | (simp (disch := omega) only [h0, h1, h3, Int32.le_iff_toInt_le, Int32.lt_iff_toInt_lt, ← Int32.toInt_inj, nI_toInt, Int32.toInt_zero, m1_toInt, Int64.le_iff_toInt_le, Int64.lt_iff_toInt_lt, ← Int64.toInt_inj, pk_lT, i64_toInt, Int64.toInt_zero, eq_self, not_true_eq_false, not_false_eq_true] at c15 c24 <;> omega) | omega)
          all_goals
            skip
            refine x_aload_n dX8_strike_33 rfl ?_
            refine x_getf gf_X8_35 ho dX8_strike_34 rfl rfl ?_
            refine x_iconst (v := nI 3) rfl dX8_strike_37 ?_
            refine x_iald dX8_strike_38 rfl (by first | rfl | exact nI_add _ _ | (simp only [nI_add, pk_mul]; rfl)) (by omega) (by decide) ?_
            refine x_ist4 hL (by decide) rfl dX8_strike_39 ?_
            refine x_iload dX8_strike_41 rfl ?_
            refine x_bipush (v := nI 9) rfl dX8_strike_43 ?_
            refine x_icmp_ne (tgt := 55) dX8_strike_45 (by decide) (fun c45 => ?_) (fun c45 => ?_)
            · try (exfalso; first | (simp (disch := omega) [inS_ix, inS_N, ixL_N, ix_nI, hx, hy, ixL_i] at c45 <;> omega) | (simp (disch := omega) only [h0, h1, h3, Int32.le_iff_toInt_le, Int32.lt_iff_toInt_lt, ← Int32.toInt_inj, nI_toInt, Int32.toInt_zero, m1_toInt, Int64.le_iff_toInt_le, Int64.lt_iff_toInt_lt, ← Int64.toInt_inj, pk_lT, i64_toInt, Int64.toInt_zero, eq_self, not_true_eq_false, not_false_eq_true] at c15 c24 c45 <;> omega) | omega)
              all_goals
                skip
                refine x_aload_n dX8_strike_55 rfl ?_
                refine x_getf gf_X8_41 ho dX8_strike_56 rfl rfl ?_
                refine x_iconst (v := nI 3) rfl dX8_strike_59 ?_
                refine x_callS1 lk_X8_224 (m_namesFrom _ (by omega)) ho dX8_strike_60 (Nat.le_of_ble_eq_true rfl) (by omega) (by decide) (by omega) (by omega) ?_
                refine x_iload dX8_strike_63 rfl ?_
                refine x_iadd dX8_strike_65 ?_
                refine x_lconst (v := lN 0) rfl dX8_strike_66 ?_
                refine m_last (r := 7) dX8_strike_67 (by decide) (by decide) (fun _ => rfl) (by first | rfl | exact nI_add _ _ | (simp only [nI_add, pk_mul]; rfl)) (by omega) (by decide) ?_
                refine x_aload_n dX8_strike_68 rfl ?_
                refine x_iconst (v := nI 0) rfl dX8_strike_69 ?_
                refine x_iload dX8_strike_70 rfl ?_
                refine x_iload_n dX8_strike_72 rfl ?_
                refine x_iload_n dX8_strike_73 rfl ?_
                refine x_iload_n dX8_strike_74 rfl ?_
                refine x_ifb_eq (tgt := 82) dX8_strike_75 (by decide) (fun c75 => ?_) (fun c75 => ?_)
                · try (exfalso; first | (simp (disch := omega) [inS_ix, inS_N, ixL_N, ix_nI, hx, hy, ixL_i] at c75 <;> omega) | (simp (disch := omega) only [h0, h1, h3, Int32.le_iff_toInt_le, Int32.lt_iff_toInt_lt, ← Int32.toInt_inj, nI_toInt, Int32.toInt_zero, m1_toInt, Int64.le_iff_toInt_le, Int64.lt_iff_toInt_lt, ← Int64.toInt_inj, pk_lT, i64_toInt, Int64.toInt_zero, eq_self, not_true_eq_false, not_false_eq_true] at c15 c24 c45 c75 <;> omega) | omega)
                  all_goals
                    skip
                    refine x_iconst (v := nI 0) rfl dX8_strike_82 ?_
                    refine x_callV5 lk_X8_264 (m_strikes (M := (mB (mI (mI M 1 (nI 0)) 0 (nI 0)) 7 (13 + tn) (lN 0))) hF _ _ _ _ _ (by omega) (by omega) (by omega)) ho dX8_strike_83 rfl (Nat.le_of_ble_eq_true rfl) (by omega) (by decide) (by omega) (by omega) ?_
                    refine x_iload dX8_strike_86 rfl ?_
                    refine x_iret hr rfl dX8_strike_88 (by omega) (by omega) (hQ _ _ ?_)
                    exact ⟨by simp [spStrike, hx, hy], by simp [spStrike, hx, hy, skM, mI_mI]⟩
                · try (exfalso; first | (simp (disch := omega) [inS_ix, inS_N, ixL_N, ix_nI, hx, hy, ixL_i] at c75 <;> omega) | (simp (disch := omega) only [h0, h1, h3, Int32.le_iff_toInt_le, Int32.lt_iff_toInt_lt, ← Int32.toInt_inj, nI_toInt, Int32.toInt_zero, m1_toInt, Int64.le_iff_toInt_le, Int64.lt_iff_toInt_lt, ← Int64.toInt_inj, pk_lT, i64_toInt, Int64.toInt_zero, eq_self, not_true_eq_false, not_false_eq_true] at c15 c24 c45 c75 <;> omega) | omega)
                  all_goals
                    skip
                    refine x_iconst (v := nI 1) rfl dX8_strike_78 ?_
                    refine x_goto (tgt := 83) dX8_strike_79 (by decide) ?_
                    refine x_callV5 lk_X8_264 (m_strikes (M := (mB (mI (mI M 1 (nI 0)) 0 (nI 0)) 7 (13 + tn) (lN 0))) hF _ _ _ _ _ (by omega) (by omega) (by omega)) ho dX8_strike_83 rfl (Nat.le_of_ble_eq_true rfl) (by omega) (by decide) (by omega) (by omega) ?_
                    refine x_iload dX8_strike_86 rfl ?_
                    refine x_iret hr rfl dX8_strike_88 (by omega) (by omega) (hQ _ _ ?_)
                    exact ⟨by simp [spStrike, hx, hy], by simp [spStrike, hx, hy, skM, mI_mI]⟩
            · try (exfalso; first | (simp (disch := omega) [inS_ix, inS_N, ixL_N, ix_nI, hx, hy, ixL_i] at c45 <;> omega) | (simp (disch := omega) only [h0, h1, h3, Int32.le_iff_toInt_le, Int32.lt_iff_toInt_lt, ← Int32.toInt_inj, nI_toInt, Int32.toInt_zero, m1_toInt, Int64.le_iff_toInt_le, Int64.lt_iff_toInt_lt, ← Int64.toInt_inj, pk_lT, i64_toInt, Int64.toInt_zero, eq_self, not_true_eq_false, not_false_eq_true] at c15 c24 c45 <;> omega) | omega)
              all_goals
                skip
                refine x_aload_n dX8_strike_48 rfl ?_
                refine x_bipush (v := nI 7) rfl dX8_strike_49 ?_
                refine x_callV1 lk_X8_327 (m_refuse _) ho dX8_strike_51 rfl (Nat.le_of_ble_eq_true rfl) (by omega) (by decide) (by omega) (by omega) ?_
                refine x_iret hr rfl dX8_strike_54 (by omega) (by omega) (hQ _ _ ?_)
                exact ⟨by simp [spStrike, hx, hy], by simp [spStrike, hx, hy, skM, mI_mI]⟩
        · try (exfalso; first | (simp (disch := omega) [inS_ix, inS_N, ixL_N, ix_nI, hx, hy, ixL_i] at c24 <;> omega) | (simp (disch := omega) only [h0, h1, h3, Int32.le_iff_toInt_le, Int32.lt_iff_toInt_lt, ← Int32.toInt_inj, nI_toInt, Int32.toInt_zero, m1_toInt, Int64.le_iff_toInt_le, Int64.lt_iff_toInt_lt, ← Int64.toInt_inj, pk_lT, i64_toInt, Int64.toInt_zero, eq_self, not_true_eq_false, not_false_eq_true] at c15 c24 <;> omega) | omega)
          all_goals
            skip
            refine x_aload_n dX8_strike_27 rfl ?_
            refine x_iconst (v := nI 2) rfl dX8_strike_28 ?_
            refine x_callV1 lk_X8_327 (m_refuse _) ho dX8_strike_29 rfl (Nat.le_of_ble_eq_true rfl) (by omega) (by decide) (by omega) (by omega) ?_
            refine x_iret hr rfl dX8_strike_32 (by omega) (by omega) (hQ _ _ ?_)
            exact ⟨by simp [spStrike, hx, hy], by simp [spStrike, hx, hy, skM, mI_mI]⟩
set_option maxHeartbeats 4000000 in
theorem m_copyGot {w : xW} {M : mS} {R : xH} {tm pm tn G : Nat} (hF : wF (M.2.2.1 5) tm pm tn G) (tr : Int32) (hT : wT (M.2.2.1 2)) : CT w yX8_copyGot cX8_copyGot 3 (some (.int)) [] false (4) 0 0 [.ref 32, .int tr] (hM M R) (xret (some (.int (spGot (M.2.2.1 2) (M.2.2.1 5) pm tr).1)) (hM (cgM (mI (mI M 1 (nI 0)) 0 (nI (spGot (M.2.2.1 2) (M.2.2.1 5) pm tr).2)) pm tr) R)) := by
  have l1 := hF.l1
  rcases ix_or tr (n := 4) (by decide) with ⟨hx, hx2⟩ | ⟨t, ht, rfl, hx⟩
  rotate_left 1
  by_cases e2 : M.2.2.1 2 t < 0
  rotate_left 1
  obtain ⟨n, hn, e3⟩ := wT_pos hT ht (Int32.not_lt.mp e2)
  by_cases h9 : n < pm
  · skip
    refine CT.of (ini := false) (by decide +kernel) q1958 q164 (Nat.le_of_ble_eq_true rfl) (by decide) ?_
    intro Γ hw ho hL hr hh hini hal hd hmc hms hQ
    subst hw
    show AW Γ cX8_copyGot 0 0 0 [some (.ref 32), some (.int (nI t)), none] [] (hM M R)
    have h0 := hF.c0
    have h1 := hF.c1
    have h3 := hF.c3
    have l0 := hF.l0
    have l1 := hF.l1
    have l3 := hF.l3
    refine x_aload_n dX8_copyGot_0 rfl ?_
    refine x_iconst (v := nI 0) rfl dX8_copyGot_1 ?_
    refine m_puti (k := 1) (pf_X8_70 (ini := false)) ho hini dX8_copyGot_2 rfl rfl (by decide) (ms_1 _ _) ?_
    refine x_aload_n dX8_copyGot_5 rfl ?_
    refine x_iconst (v := nI 0) rfl dX8_copyGot_6 ?_
    refine m_puti (k := 0) (pf_X8_73 (ini := false)) ho hini dX8_copyGot_7 rfl rfl (by decide) (ms_0 _ _) ?_
    refine x_aload_n dX8_copyGot_10 rfl ?_
    refine x_iload_n dX8_copyGot_11 rfl ?_
    refine x_callV1 lk_X8_347 (m_isTray _) ho dX8_copyGot_12 rfl (Nat.le_of_ble_eq_true rfl) (by omega) (by decide) (by omega) (by omega) ?_
    refine x_ifb_ne (tgt := 24) dX8_copyGot_15 (by decide) (fun c15 => ?_) (fun c15 => ?_)
    · try (exfalso; first | (simp (disch := omega) [inS_ix, inS_N, ixL_N, ix_nI, hx, e3, h1] at c15 <;> omega) | (simp (disch := omega) only [h0, h1, h3, e3, Int32.le_iff_toInt_le, Int32.lt_iff_toInt_lt, ← Int32.toInt_inj, nI_toInt, Int32.toInt_zero, m1_toInt, Int64.le_iff_toInt_le, Int64.lt_iff_toInt_lt, ← Int64.toInt_inj, pk_lT, i64_toInt, Int64.toInt_zero, eq_self, not_true_eq_false, not_false_eq_true] at c15 <;> omega) | omega)
      all_goals
        skip
        refine x_aload_n dX8_copyGot_24 rfl ?_
        refine x_getf gf_X8_17 ho dX8_copyGot_25 rfl rfl ?_
        refine x_iload_n dX8_copyGot_28 rfl ?_
        refine x_iald dX8_copyGot_29 rfl (by first | rfl | exact nI_add _ _ | (simp only [nI_add, pk_mul]; rfl)) (by omega) (by decide) ?_
        refine x_ival e3 ?_
        refine x_if_ge (tgt := 39) dX8_copyGot_30 (by decide) (fun c30 => ?_) (fun c30 => ?_)
        · try (exfalso; first | (simp (disch := omega) [inS_ix, inS_N, ixL_N, ix_nI, hx, e3, h1] at c30 <;> omega) | (simp (disch := omega) only [h0, h1, h3, e3, Int32.le_iff_toInt_le, Int32.lt_iff_toInt_lt, ← Int32.toInt_inj, nI_toInt, Int32.toInt_zero, m1_toInt, Int64.le_iff_toInt_le, Int64.lt_iff_toInt_lt, ← Int64.toInt_inj, pk_lT, i64_toInt, Int64.toInt_zero, eq_self, not_true_eq_false, not_false_eq_true] at c15 c30 <;> omega) | omega)
          all_goals
            skip
            refine x_aload_n dX8_copyGot_39 rfl ?_
            refine x_getf gf_X8_17 ho dX8_copyGot_40 rfl rfl ?_
            refine x_iload_n dX8_copyGot_43 rfl ?_
            refine x_iald dX8_copyGot_44 rfl (by first | rfl | exact nI_add _ _ | (simp only [nI_add, pk_mul]; rfl)) (by omega) (by decide) ?_
            refine x_ival e3 ?_
            refine x_aload_n dX8_copyGot_45 rfl ?_
            refine x_getf gf_X8_35 ho dX8_copyGot_46 rfl rfl ?_
            refine x_iconst (v := nI 1) rfl dX8_copyGot_49 ?_
            refine x_iald dX8_copyGot_50 rfl (by first | rfl | exact nI_add _ _ | (simp only [nI_add, pk_mul]; rfl)) (by omega) (by decide) ?_
            refine x_ival h1 ?_
            refine x_icmp_ge (tgt := 60) dX8_copyGot_51 (by decide) (fun c51 => ?_) (fun c51 => ?_)
            · try (exfalso; first | (simp (disch := omega) [inS_ix, inS_N, ixL_N, ix_nI, hx, e3, h1] at c51 <;> omega) | (simp (disch := omega) only [h0, h1, h3, e3, Int32.le_iff_toInt_le, Int32.lt_iff_toInt_lt, ← Int32.toInt_inj, nI_toInt, Int32.toInt_zero, m1_toInt, Int64.le_iff_toInt_le, Int64.lt_iff_toInt_lt, ← Int64.toInt_inj, pk_lT, i64_toInt, Int64.toInt_zero, eq_self, not_true_eq_false, not_false_eq_true] at c15 c30 c51 <;> omega) | omega)
              all_goals
                skip
                omega
            · try (exfalso; first | (simp (disch := omega) [inS_ix, inS_N, ixL_N, ix_nI, hx, e3, h1] at c51 <;> omega) | (simp (disch := omega) only [h0, h1, h3, e3, Int32.le_iff_toInt_le, Int32.lt_iff_toInt_lt, ← Int32.toInt_inj, nI_toInt, Int32.toInt_zero, m1_toInt, Int64.le_iff_toInt_le, Int64.lt_iff_toInt_lt, ← Int64.toInt_inj, pk_lT, i64_toInt, Int64.toInt_zero, eq_self, not_true_eq_false, not_false_eq_true] at c15 c30 c51 <;> omega) | omega)
              all_goals
                skip
                refine x_aload_n dX8_copyGot_54 rfl ?_
                refine x_iconst (v := nI 4) rfl dX8_copyGot_55 ?_
                refine x_callV1 lk_X8_327 (m_refuse _) ho dX8_copyGot_56 rfl (Nat.le_of_ble_eq_true rfl) (by omega) (by decide) (by omega) (by omega) ?_
                refine x_iret hr rfl dX8_copyGot_59 (by omega) (by omega) (hQ _ _ ?_)
                exact ⟨by simp (disch := omega) [spGot, hx, e3, nI_lt0, nI_ltI, h9], by simp (disch := omega) [spGot, hx, e3, nI_lt0, nI_ltI, h9, cgM, mI_mI]⟩
        · try (exfalso; first | (simp (disch := omega) [inS_ix, inS_N, ixL_N, ix_nI, hx, e3, h1] at c30 <;> omega) | (simp (disch := omega) only [h0, h1, h3, e3, Int32.le_iff_toInt_le, Int32.lt_iff_toInt_lt, ← Int32.toInt_inj, nI_toInt, Int32.toInt_zero, m1_toInt, Int64.le_iff_toInt_le, Int64.lt_iff_toInt_lt, ← Int64.toInt_inj, pk_lT, i64_toInt, Int64.toInt_zero, eq_self, not_true_eq_false, not_false_eq_true] at c15 c30 <;> omega) | omega)
          all_goals
            skip
            refine x_aload_n dX8_copyGot_33 rfl ?_
            refine x_iconst (v := nI 3) rfl dX8_copyGot_34 ?_
            refine x_callV1 lk_X8_327 (m_refuse _) ho dX8_copyGot_35 rfl (Nat.le_of_ble_eq_true rfl) (by omega) (by decide) (by omega) (by omega) ?_
            refine x_iret hr rfl dX8_copyGot_38 (by omega) (by omega) (hQ _ _ ?_)
            exact ⟨by simp (disch := omega) [spGot, hx, e3, nI_lt0, nI_ltI, h9], by simp (disch := omega) [spGot, hx, e3, nI_lt0, nI_ltI, h9, cgM, mI_mI]⟩
    · try (exfalso; first | (simp (disch := omega) [inS_ix, inS_N, ixL_N, ix_nI, hx, e3, h1] at c15 <;> omega) | (simp (disch := omega) only [h0, h1, h3, e3, Int32.le_iff_toInt_le, Int32.lt_iff_toInt_lt, ← Int32.toInt_inj, nI_toInt, Int32.toInt_zero, m1_toInt, Int64.le_iff_toInt_le, Int64.lt_iff_toInt_lt, ← Int64.toInt_inj, pk_lT, i64_toInt, Int64.toInt_zero, eq_self, not_true_eq_false, not_false_eq_true] at c15 <;> omega) | omega)
      all_goals
        skip
        refine x_aload_n dX8_copyGot_18 rfl ?_
        refine x_iconst (v := nI 1) rfl dX8_copyGot_19 ?_
        refine x_callV1 lk_X8_327 (m_refuse _) ho dX8_copyGot_20 rfl (Nat.le_of_ble_eq_true rfl) (by omega) (by decide) (by omega) (by omega) ?_
        refine x_iret hr rfl dX8_copyGot_23 (by omega) (by omega) (hQ _ _ ?_)
        exact ⟨by simp (disch := omega) [spGot, hx, e3, nI_lt0, nI_ltI, h9], by simp (disch := omega) [spGot, hx, e3, nI_lt0, nI_ltI, h9, cgM, mI_mI]⟩
  · skip
    refine CT.of (ini := false) (by decide +kernel) q1958 q164 (Nat.le_of_ble_eq_true rfl) (by decide) ?_
    intro Γ hw ho hL hr hh hini hal hd hmc hms hQ
    subst hw
    show AW Γ cX8_copyGot 0 0 0 [some (.ref 32), some (.int (nI t)), none] [] (hM M R)
    have h0 := hF.c0
    have h1 := hF.c1
    have h3 := hF.c3
    have l0 := hF.l0
    have l1 := hF.l1
    have l3 := hF.l3
    refine x_aload_n dX8_copyGot_0 rfl ?_
    refine x_iconst (v := nI 0) rfl dX8_copyGot_1 ?_
    refine m_puti (k := 1) (pf_X8_70 (ini := false)) ho hini dX8_copyGot_2 rfl rfl (by decide) (ms_1 _ _) ?_
    refine x_aload_n dX8_copyGot_5 rfl ?_
    refine x_iconst (v := nI 0) rfl dX8_copyGot_6 ?_
    refine m_puti (k := 0) (pf_X8_73 (ini := false)) ho hini dX8_copyGot_7 rfl rfl (by decide) (ms_0 _ _) ?_
    refine x_aload_n dX8_copyGot_10 rfl ?_
    refine x_iload_n dX8_copyGot_11 rfl ?_
    refine x_callV1 lk_X8_347 (m_isTray _) ho dX8_copyGot_12 rfl (Nat.le_of_ble_eq_true rfl) (by omega) (by decide) (by omega) (by omega) ?_
    refine x_ifb_ne (tgt := 24) dX8_copyGot_15 (by decide) (fun c15 => ?_) (fun c15 => ?_)
    · try (exfalso; first | (simp (disch := omega) [inS_ix, inS_N, ixL_N, ix_nI, hx, e3, h1] at c15 <;> omega) | (simp (disch := omega) only [h0, h1, h3, e3, Int32.le_iff_toInt_le, Int32.lt_iff_toInt_lt, ← Int32.toInt_inj, nI_toInt, Int32.toInt_zero, m1_toInt, Int64.le_iff_toInt_le, Int64.lt_iff_toInt_lt, ← Int64.toInt_inj, pk_lT, i64_toInt, Int64.toInt_zero, eq_self, not_true_eq_false, not_false_eq_true] at c15 <;> omega) | omega)
      all_goals
        skip
        refine x_aload_n dX8_copyGot_24 rfl ?_
        refine x_getf gf_X8_17 ho dX8_copyGot_25 rfl rfl ?_
        refine x_iload_n dX8_copyGot_28 rfl ?_
        refine x_iald dX8_copyGot_29 rfl (by first | rfl | exact nI_add _ _ | (simp only [nI_add, pk_mul]; rfl)) (by omega) (by decide) ?_
        refine x_ival e3 ?_
        refine x_if_ge (tgt := 39) dX8_copyGot_30 (by decide) (fun c30 => ?_) (fun c30 => ?_)
        · try (exfalso; first | (simp (disch := omega) [inS_ix, inS_N, ixL_N, ix_nI, hx, e3, h1] at c30 <;> omega) | (simp (disch := omega) only [h0, h1, h3, e3, Int32.le_iff_toInt_le, Int32.lt_iff_toInt_lt, ← Int32.toInt_inj, nI_toInt, Int32.toInt_zero, m1_toInt, Int64.le_iff_toInt_le, Int64.lt_iff_toInt_lt, ← Int64.toInt_inj, pk_lT, i64_toInt, Int64.toInt_zero, eq_self, not_true_eq_false, not_false_eq_true] at c15 c30 <;> omega) | omega)
          all_goals
            skip
            refine x_aload_n dX8_copyGot_39 rfl ?_
            refine x_getf gf_X8_17 ho dX8_copyGot_40 rfl rfl ?_
            refine x_iload_n dX8_copyGot_43 rfl ?_
            refine x_iald dX8_copyGot_44 rfl (by first | rfl | exact nI_add _ _ | (simp only [nI_add, pk_mul]; rfl)) (by omega) (by decide) ?_
            refine x_ival e3 ?_
            refine x_aload_n dX8_copyGot_45 rfl ?_
            refine x_getf gf_X8_35 ho dX8_copyGot_46 rfl rfl ?_
            refine x_iconst (v := nI 1) rfl dX8_copyGot_49 ?_
            refine x_iald dX8_copyGot_50 rfl (by first | rfl | exact nI_add _ _ | (simp only [nI_add, pk_mul]; rfl)) (by omega) (by decide) ?_
            refine x_ival h1 ?_
            refine x_icmp_ge (tgt := 60) dX8_copyGot_51 (by decide) (fun c51 => ?_) (fun c51 => ?_)
            · try (exfalso; first | (simp (disch := omega) [inS_ix, inS_N, ixL_N, ix_nI, hx, e3, h1] at c51 <;> omega) | (simp (disch := omega) only [h0, h1, h3, e3, Int32.le_iff_toInt_le, Int32.lt_iff_toInt_lt, ← Int32.toInt_inj, nI_toInt, Int32.toInt_zero, m1_toInt, Int64.le_iff_toInt_le, Int64.lt_iff_toInt_lt, ← Int64.toInt_inj, pk_lT, i64_toInt, Int64.toInt_zero, eq_self, not_true_eq_false, not_false_eq_true] at c15 c30 c51 <;> omega) | omega)
              all_goals
                skip
                refine x_iconst (v := nI 0) rfl dX8_copyGot_60 ?_
                refine x_ist2 hL (by decide) rfl dX8_copyGot_61 ?_
                refine x_eq (h' := hM (mSB (mI (mI M 1 (nI 0)) 0 (nI 0)) 3 (lay (M.2.2.2 3) (60 * t) 0 (fun p => cutS (M.2.2.1 1 t) (M.2.2.1 5 (26 + p)).toInt64))) R) rfl rfl (by rw [lay_0]; exact congrArg (hM · R) mSB_id.symm) ?_
                refine x_for (n := pm) (fun i => [some (.ref 32), some (.int (nI t)), some (.int (nI i))]) (fun i => []) (fun i => hM (mSB (mI (mI M 1 (nI 0)) 0 (nI 0)) 3 (lay (M.2.2.2 3) (60 * t) i (fun p => cutS (M.2.2.1 1 t) (M.2.2.1 5 (26 + p)).toInt64))) R) ?_ (fun i hi ihi => ?_)
                · skip
                  refine x_iload_n dX8_copyGot_62 rfl ?_
                  refine x_aload_n dX8_copyGot_63 rfl ?_
                  refine x_getf gf_X8_35 ho dX8_copyGot_64 rfl rfl ?_
                  refine x_iconst (v := nI 1) rfl dX8_copyGot_67 ?_
                  refine x_iald dX8_copyGot_68 rfl (by first | rfl | exact nI_add _ _ | (simp only [nI_add, pk_mul]; rfl)) (by omega) (by decide) ?_
                  refine x_ival h1 ?_
                  refine x_icmp_ge (tgt := 95) dX8_copyGot_69 (by decide) (fun c69 => ?_) (fun c69 => ?_)
                  · skip
                    refine x_aload_n dX8_copyGot_95 rfl ?_
                    refine x_getf gf_X8_35 ho dX8_copyGot_96 rfl rfl ?_
                    refine x_iconst (v := nI 1) rfl dX8_copyGot_99 ?_
                    refine x_iald dX8_copyGot_100 rfl (by first | rfl | exact nI_add _ _ | (simp only [nI_add, pk_mul]; rfl)) (by omega) (by decide) ?_
                    refine x_ival h1 ?_
                    refine x_iret hr rfl dX8_copyGot_101 (by omega) (by omega) (hQ _ _ ?_)
                    exact ⟨by simp (disch := omega) [spGot, hx, e3, nI_lt0, nI_ltI, h9], by simp (disch := omega) [spGot, hx, e3, nI_lt0, nI_ltI, h9, cgM, mI_mI, cl_nI]⟩
                  · exfalso; first | (simp (disch := omega) [inS_ix, inS_N, ixL_N, ix_nI, hx, e3, h1] at c69 <;> omega) | (simp (disch := omega) only [h0, h1, h3, e3, Int32.le_iff_toInt_le, Int32.lt_iff_toInt_lt, ← Int32.toInt_inj, nI_toInt, Int32.toInt_zero, m1_toInt, Int64.le_iff_toInt_le, Int64.lt_iff_toInt_lt, ← Int64.toInt_inj, pk_lT, i64_toInt, Int64.toInt_zero, eq_self, not_true_eq_false, not_false_eq_true] at c15 c30 c51 c69 <;> omega) | omega
                · skip
                  have hp : placedS (M.2.2.1 2) (nI t) (nI i) = 0 := placedS_in ht e3 (by omega) hn
                  refine x_iload_n dX8_copyGot_62 rfl ?_
                  refine x_aload_n dX8_copyGot_63 rfl ?_
                  refine x_getf gf_X8_35 ho dX8_copyGot_64 rfl rfl ?_
                  refine x_iconst (v := nI 1) rfl dX8_copyGot_67 ?_
                  refine x_iald dX8_copyGot_68 rfl (by first | rfl | exact nI_add _ _ | (simp only [nI_add, pk_mul]; rfl)) (by omega) (by decide) ?_
                  refine x_ival h1 ?_
                  refine x_icmp_ge (tgt := 95) dX8_copyGot_69 (by decide) (fun c69 => ?_) (fun c69 => ?_)
                  · exfalso; first | (simp (disch := omega) [inS_ix, inS_N, ixL_N, ix_nI, hx, e3, h1] at c69 <;> omega) | (simp (disch := omega) only [h0, h1, h3, e3, Int32.le_iff_toInt_le, Int32.lt_iff_toInt_lt, ← Int32.toInt_inj, nI_toInt, Int32.toInt_zero, m1_toInt, Int64.le_iff_toInt_le, Int64.lt_iff_toInt_lt, ← Int64.toInt_inj, pk_lT, i64_toInt, Int64.toInt_zero, eq_self, not_true_eq_false, not_false_eq_true] at c15 c30 c51 c69 <;> omega) | omega
                  · skip
                    refine x_aload_n dX8_copyGot_72 rfl ?_
                    refine x_iload_n dX8_copyGot_73 rfl ?_
                    refine x_iload_n dX8_copyGot_74 rfl ?_
                    refine x_aload_n dX8_copyGot_75 rfl ?_
                    refine x_getf gf_X8_35 ho dX8_copyGot_76 rfl rfl ?_
                    refine x_bipush (v := nI 26) rfl dX8_copyGot_79 ?_
                    refine x_iload_n dX8_copyGot_81 rfl ?_
                    refine x_iaddN dX8_copyGot_82 ?_
                    refine x_iald dX8_copyGot_83 rfl (by first | rfl | exact nI_add _ _ | (simp only [nI_add, pk_mul]; rfl)) (by omega) (by decide) ?_
                    refine x_i2l dX8_copyGot_84 ?_
                    refine x_callV3 lk_X8_350 (m_write (M := (mSB (mI (mI M 1 (nI 0)) 0 (nI 0)) 3 (lay (M.2.2.2 3) (60 * t) i (fun p => cutS (M.2.2.1 1 t) (M.2.2.1 5 (26 + p)).toInt64)))) _ _ _ hT) ho dX8_copyGot_85 rfl (Nat.le_of_ble_eq_true rfl) (by omega) (by decide) (by omega) (by omega) ?_
                    refine x_pop rfl dX8_copyGot_88 ?_
                    refine x_inc2 hL (by decide) rfl dX8_copyGot_89 (nI_1 _) ?_
                    refine x_goto (tgt := 62) dX8_copyGot_92 (by decide) ?_
                    refine x_eq ?_ ?_ ?_ (ihi)
                    · first | rfl | (simp [c15, c30, c51, c69]; done)
                    · rfl
                    · simp (disch := omega) only [wrM, if_pos hp, cl_nI, mI_SB, mI_4]; rw [mB_SB, layL_s]
            · exact absurd (nI_le (by omega) (by omega)) c51
        · try (exfalso; first | (simp (disch := omega) [inS_ix, inS_N, ixL_N, ix_nI, hx, e3, h1] at c30 <;> omega) | (simp (disch := omega) only [h0, h1, h3, e3, Int32.le_iff_toInt_le, Int32.lt_iff_toInt_lt, ← Int32.toInt_inj, nI_toInt, Int32.toInt_zero, m1_toInt, Int64.le_iff_toInt_le, Int64.lt_iff_toInt_lt, ← Int64.toInt_inj, pk_lT, i64_toInt, Int64.toInt_zero, eq_self, not_true_eq_false, not_false_eq_true] at c15 c30 <;> omega) | omega)
          all_goals
            skip
            refine x_aload_n dX8_copyGot_33 rfl ?_
            refine x_iconst (v := nI 3) rfl dX8_copyGot_34 ?_
            refine x_callV1 lk_X8_327 (m_refuse _) ho dX8_copyGot_35 rfl (Nat.le_of_ble_eq_true rfl) (by omega) (by decide) (by omega) (by omega) ?_
            refine x_iret hr rfl dX8_copyGot_38 (by omega) (by omega) (hQ _ _ ?_)
            exact ⟨by simp (disch := omega) [spGot, hx, e3, nI_lt0, nI_ltI, h9], by simp (disch := omega) [spGot, hx, e3, nI_lt0, nI_ltI, h9, cgM, mI_mI, cl_nI]⟩
    · try (exfalso; first | (simp (disch := omega) [inS_ix, inS_N, ixL_N, ix_nI, hx, e3, h1] at c15 <;> omega) | (simp (disch := omega) only [h0, h1, h3, e3, Int32.le_iff_toInt_le, Int32.lt_iff_toInt_lt, ← Int32.toInt_inj, nI_toInt, Int32.toInt_zero, m1_toInt, Int64.le_iff_toInt_le, Int64.lt_iff_toInt_lt, ← Int64.toInt_inj, pk_lT, i64_toInt, Int64.toInt_zero, eq_self, not_true_eq_false, not_false_eq_true] at c15 <;> omega) | omega)
      all_goals
        skip
        refine x_aload_n dX8_copyGot_18 rfl ?_
        refine x_iconst (v := nI 1) rfl dX8_copyGot_19 ?_
        refine x_callV1 lk_X8_327 (m_refuse _) ho dX8_copyGot_20 rfl (Nat.le_of_ble_eq_true rfl) (by omega) (by decide) (by omega) (by omega) ?_
        refine x_iret hr rfl dX8_copyGot_23 (by omega) (by omega) (hQ _ _ ?_)
        exact ⟨by simp (disch := omega) [spGot, hx, e3, nI_lt0, nI_ltI, h9], by simp (disch := omega) [spGot, hx, e3, nI_lt0, nI_ltI, h9, cgM, mI_mI, cl_nI]⟩
  · skip
    refine CT.of (ini := false) (by decide +kernel) q1958 q164 (Nat.le_of_ble_eq_true rfl) (by decide) ?_
    intro Γ hw ho hL hr hh hini hal hd hmc hms hQ
    subst hw
    show AW Γ cX8_copyGot 0 0 0 [some (.ref 32), some (.int tr), none] [] (hM M R)
    have h0 := hF.c0
    have h1 := hF.c1
    have h3 := hF.c3
    have l0 := hF.l0
    have l1 := hF.l1
    have l3 := hF.l3
    refine x_aload_n dX8_copyGot_0 rfl ?_
    refine x_iconst (v := nI 0) rfl dX8_copyGot_1 ?_
    refine m_puti (k := 1) (pf_X8_70 (ini := false)) ho hini dX8_copyGot_2 rfl rfl (by decide) (ms_1 _ _) ?_
    refine x_aload_n dX8_copyGot_5 rfl ?_
    refine x_iconst (v := nI 0) rfl dX8_copyGot_6 ?_
    refine m_puti (k := 0) (pf_X8_73 (ini := false)) ho hini dX8_copyGot_7 rfl rfl (by decide) (ms_0 _ _) ?_
    refine x_aload_n dX8_copyGot_10 rfl ?_
    refine x_iload_n dX8_copyGot_11 rfl ?_
    refine x_callV1 lk_X8_347 (m_isTray _) ho dX8_copyGot_12 rfl (Nat.le_of_ble_eq_true rfl) (by omega) (by decide) (by omega) (by omega) ?_
    refine x_ifb_ne (tgt := 24) dX8_copyGot_15 (by decide) (fun c15 => ?_) (fun c15 => ?_)
    · try (exfalso; first | (simp (disch := omega) [inS_ix, inS_N, ixL_N, ix_nI, hx] at c15 <;> omega) | (simp (disch := omega) only [h0, h1, h3, Int32.le_iff_toInt_le, Int32.lt_iff_toInt_lt, ← Int32.toInt_inj, nI_toInt, Int32.toInt_zero, m1_toInt, Int64.le_iff_toInt_le, Int64.lt_iff_toInt_lt, ← Int64.toInt_inj, pk_lT, i64_toInt, Int64.toInt_zero, eq_self, not_true_eq_false, not_false_eq_true] at c15 <;> omega) | omega)
      all_goals
        skip
        refine x_aload_n dX8_copyGot_24 rfl ?_
        refine x_getf gf_X8_17 ho dX8_copyGot_25 rfl rfl ?_
        refine x_iload_n dX8_copyGot_28 rfl ?_
        refine x_iald dX8_copyGot_29 rfl (by first | rfl | exact nI_add _ _ | (simp only [nI_add, pk_mul]; rfl)) (by omega) (by decide) ?_
        refine x_if_ge (tgt := 39) dX8_copyGot_30 (by decide) (fun c30 => ?_) (fun c30 => ?_)
        · try (exfalso; first | (simp (disch := omega) [inS_ix, inS_N, ixL_N, ix_nI, hx] at c30 <;> omega) | (simp (disch := omega) only [h0, h1, h3, Int32.le_iff_toInt_le, Int32.lt_iff_toInt_lt, ← Int32.toInt_inj, nI_toInt, Int32.toInt_zero, m1_toInt, Int64.le_iff_toInt_le, Int64.lt_iff_toInt_lt, ← Int64.toInt_inj, pk_lT, i64_toInt, Int64.toInt_zero, eq_self, not_true_eq_false, not_false_eq_true] at c15 c30 <;> omega) | omega)
          all_goals
            skip
            omega
        · try (exfalso; first | (simp (disch := omega) [inS_ix, inS_N, ixL_N, ix_nI, hx] at c30 <;> omega) | (simp (disch := omega) only [h0, h1, h3, Int32.le_iff_toInt_le, Int32.lt_iff_toInt_lt, ← Int32.toInt_inj, nI_toInt, Int32.toInt_zero, m1_toInt, Int64.le_iff_toInt_le, Int64.lt_iff_toInt_lt, ← Int64.toInt_inj, pk_lT, i64_toInt, Int64.toInt_zero, eq_self, not_true_eq_false, not_false_eq_true] at c15 c30 <;> omega) | omega)
          all_goals
            skip
            refine x_aload_n dX8_copyGot_33 rfl ?_
            refine x_iconst (v := nI 3) rfl dX8_copyGot_34 ?_
            refine x_callV1 lk_X8_327 (m_refuse _) ho dX8_copyGot_35 rfl (Nat.le_of_ble_eq_true rfl) (by omega) (by decide) (by omega) (by omega) ?_
            refine x_iret hr rfl dX8_copyGot_38 (by omega) (by omega) (hQ _ _ ?_)
            exact ⟨by simp (disch := omega) [spGot, hx], by simp (disch := omega) [spGot, hx, cgM, mI_mI]⟩
    · try (exfalso; first | (simp (disch := omega) [inS_ix, inS_N, ixL_N, ix_nI, hx] at c15 <;> omega) | (simp (disch := omega) only [h0, h1, h3, Int32.le_iff_toInt_le, Int32.lt_iff_toInt_lt, ← Int32.toInt_inj, nI_toInt, Int32.toInt_zero, m1_toInt, Int64.le_iff_toInt_le, Int64.lt_iff_toInt_lt, ← Int64.toInt_inj, pk_lT, i64_toInt, Int64.toInt_zero, eq_self, not_true_eq_false, not_false_eq_true] at c15 <;> omega) | omega)
      all_goals
        skip
        refine x_aload_n dX8_copyGot_18 rfl ?_
        refine x_iconst (v := nI 1) rfl dX8_copyGot_19 ?_
        refine x_callV1 lk_X8_327 (m_refuse _) ho dX8_copyGot_20 rfl (Nat.le_of_ble_eq_true rfl) (by omega) (by decide) (by omega) (by omega) ?_
        refine x_iret hr rfl dX8_copyGot_23 (by omega) (by omega) (hQ _ _ ?_)
        exact ⟨by simp (disch := omega) [spGot, hx], by simp (disch := omega) [spGot, hx, cgM, mI_mI]⟩
  · skip
    refine CT.of (ini := false) (by decide +kernel) q1958 q164 (Nat.le_of_ble_eq_true rfl) (by decide) ?_
    intro Γ hw ho hL hr hh hini hal hd hmc hms hQ
    subst hw
    show AW Γ cX8_copyGot 0 0 0 [some (.ref 32), some (.int (nI t)), none] [] (hM M R)
    have h0 := hF.c0
    have h1 := hF.c1
    have h3 := hF.c3
    have l0 := hF.l0
    have l1 := hF.l1
    have l3 := hF.l3
    refine x_aload_n dX8_copyGot_0 rfl ?_
    refine x_iconst (v := nI 0) rfl dX8_copyGot_1 ?_
    refine m_puti (k := 1) (pf_X8_70 (ini := false)) ho hini dX8_copyGot_2 rfl rfl (by decide) (ms_1 _ _) ?_
    refine x_aload_n dX8_copyGot_5 rfl ?_
    refine x_iconst (v := nI 0) rfl dX8_copyGot_6 ?_
    refine m_puti (k := 0) (pf_X8_73 (ini := false)) ho hini dX8_copyGot_7 rfl rfl (by decide) (ms_0 _ _) ?_
    refine x_aload_n dX8_copyGot_10 rfl ?_
    refine x_iload_n dX8_copyGot_11 rfl ?_
    refine x_callV1 lk_X8_347 (m_isTray _) ho dX8_copyGot_12 rfl (Nat.le_of_ble_eq_true rfl) (by omega) (by decide) (by omega) (by omega) ?_
    refine x_ifb_ne (tgt := 24) dX8_copyGot_15 (by decide) (fun c15 => ?_) (fun c15 => ?_)
    · try (exfalso; first | (simp (disch := omega) [inS_ix, inS_N, ixL_N, ix_nI, hx, e2] at c15 <;> omega) | (simp (disch := omega) only [h0, h1, h3, Int32.le_iff_toInt_le, Int32.lt_iff_toInt_lt, ← Int32.toInt_inj, nI_toInt, Int32.toInt_zero, m1_toInt, Int64.le_iff_toInt_le, Int64.lt_iff_toInt_lt, ← Int64.toInt_inj, pk_lT, i64_toInt, Int64.toInt_zero, eq_self, not_true_eq_false, not_false_eq_true] at c15 <;> omega) | omega)
      all_goals
        skip
        refine x_aload_n dX8_copyGot_24 rfl ?_
        refine x_getf gf_X8_17 ho dX8_copyGot_25 rfl rfl ?_
        refine x_iload_n dX8_copyGot_28 rfl ?_
        refine x_iald dX8_copyGot_29 rfl (by first | rfl | exact nI_add _ _ | (simp only [nI_add, pk_mul]; rfl)) (by omega) (by decide) ?_
        refine x_if_ge (tgt := 39) dX8_copyGot_30 (by decide) (fun c30 => ?_) (fun c30 => ?_)
        · exact absurd e2 (Int32.not_lt.mpr c30)
        · try (exfalso; first | (simp (disch := omega) [inS_ix, inS_N, ixL_N, ix_nI, hx, e2] at c30 <;> omega) | (simp (disch := omega) only [h0, h1, h3, Int32.le_iff_toInt_le, Int32.lt_iff_toInt_lt, ← Int32.toInt_inj, nI_toInt, Int32.toInt_zero, m1_toInt, Int64.le_iff_toInt_le, Int64.lt_iff_toInt_lt, ← Int64.toInt_inj, pk_lT, i64_toInt, Int64.toInt_zero, eq_self, not_true_eq_false, not_false_eq_true] at c15 c30 <;> omega) | omega)
          all_goals
            skip
            refine x_aload_n dX8_copyGot_33 rfl ?_
            refine x_iconst (v := nI 3) rfl dX8_copyGot_34 ?_
            refine x_callV1 lk_X8_327 (m_refuse _) ho dX8_copyGot_35 rfl (Nat.le_of_ble_eq_true rfl) (by omega) (by decide) (by omega) (by omega) ?_
            refine x_iret hr rfl dX8_copyGot_38 (by omega) (by omega) (hQ _ _ ?_)
            exact ⟨by simp (disch := omega) [spGot, hx, e2], by simp (disch := omega) [spGot, hx, e2, cgM, mI_mI]⟩
    · try (exfalso; first | (simp (disch := omega) [inS_ix, inS_N, ixL_N, ix_nI, hx, e2] at c15 <;> omega) | (simp (disch := omega) only [h0, h1, h3, Int32.le_iff_toInt_le, Int32.lt_iff_toInt_lt, ← Int32.toInt_inj, nI_toInt, Int32.toInt_zero, m1_toInt, Int64.le_iff_toInt_le, Int64.lt_iff_toInt_lt, ← Int64.toInt_inj, pk_lT, i64_toInt, Int64.toInt_zero, eq_self, not_true_eq_false, not_false_eq_true] at c15 <;> omega) | omega)
      all_goals
        skip
        refine x_aload_n dX8_copyGot_18 rfl ?_
        refine x_iconst (v := nI 1) rfl dX8_copyGot_19 ?_
        refine x_callV1 lk_X8_327 (m_refuse _) ho dX8_copyGot_20 rfl (Nat.le_of_ble_eq_true rfl) (by omega) (by decide) (by omega) (by omega) ?_
        refine x_iret hr rfl dX8_copyGot_23 (by omega) (by omega) (hQ _ _ ?_)
        exact ⟨by simp (disch := omega) [spGot, hx, e2], by simp (disch := omega) [spGot, hx, e2, cgM, mI_mI]⟩
