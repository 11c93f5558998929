/-! ===== the model: what is done at a fen ===== -/
set_option maxRecDepth 100000
set_option maxHeartbeats 4000000 in
theorem m_worth {w : xW} {M : mS} {R : xH} {tm pm tn G : Nat} (hF : wF (M.2.2.1 5) tm pm tn G) (k9 : Int32) : CT w yX8_worth cX8_worth 2 (some (.int)) [] false (2) 0 0 [.ref 32, .int k9] (hM M R) (xret (some (.int (spWorth (M.2.2.1 5) tm k9).1)) (hM (mI (mI M 1 (nI 0)) 0 (nI (spWorth (M.2.2.1 5) tm k9).2)) R)) := by
  have l0 := hF.l0
  rcases ix_or k9 (n := tm) (by omega) with ⟨hx, hx2⟩ | ⟨k, hk, rfl, hx⟩
  · skip
    refine CT.of (ini := false) (by decide +kernel) q1929 q164 (Nat.le_of_ble_eq_true rfl) (by decide) ?_
    intro Γ hw ho hL hr hh hini hal hd hmc hms hQ
    subst hw
    show AW Γ cX8_worth 0 0 0 [some (.ref 32), some (.int k9)] [] (hM M R)
    have h0 := hF.c0
    have h1 := hF.c1
    have h3 := hF.c3
    have l0 := hF.l0
    have l1 := hF.l1
    have l3 := hF.l3
    refine x_aload_n dX8_worth_0 rfl ?_
    refine x_iconst (v := nI 0) rfl dX8_worth_1 ?_
    refine m_puti (k := 1) (pf_X8_70 (ini := false)) ho hini dX8_worth_2 rfl rfl (by decide) (ms_1 _ _) ?_
    refine x_aload_n dX8_worth_5 rfl ?_
    refine x_iconst (v := nI 0) rfl dX8_worth_6 ?_
    refine m_puti (k := 0) (pf_X8_73 (ini := false)) ho hini dX8_worth_7 rfl rfl (by decide) (ms_0 _ _) ?_
    refine x_aload_n dX8_worth_10 rfl ?_
    refine x_iload_n dX8_worth_11 rfl ?_
    refine x_callV1 lk_X8_333 (m_isTraitAt (M := (mI (mI M 1 (nI 0)) 0 (nI 0))) hF _) ho dX8_worth_12 rfl (Nat.le_of_ble_eq_true rfl) (by omega) (by decide) (by omega) (by omega) ?_
    refine x_ifb_eq (tgt := 30) dX8_worth_15 (by decide) (fun c15 => ?_) (fun c15 => ?_)
    · try (exfalso; first | (simp (disch := omega) [inS_ix, inS_N, ixL_N, ix_nI, hx] at c15 <;> omega) | (simp (disch := omega) only [h0, h1, h3, Int32.le_iff_toInt_le, Int32.lt_iff_toInt_lt, ← Int32.toInt_inj, nI_toInt, Int32.toInt_zero, m1_toInt, Int64.le_iff_toInt_le, Int64.lt_iff_toInt_lt, ← Int64.toInt_inj, pk_lT, i64_toInt, Int64.toInt_zero, eq_self, not_true_eq_false, not_false_eq_true] at c15 <;> omega) | omega)
      all_goals
        skip
        refine x_aload_n dX8_worth_30 rfl ?_
        refine x_iconst (v := nI 2) rfl dX8_worth_31 ?_
        refine x_callV1 lk_X8_327 (m_refuse _) ho dX8_worth_32 rfl (Nat.le_of_ble_eq_true rfl) (by omega) (by decide) (by omega) (by omega) ?_
        refine x_iret hr rfl dX8_worth_35 (by omega) (by omega) (hQ _ _ ?_)
        exact ⟨by simp [spWorth, hx], by simp [spWorth, hx, mI_mI, mSA_id]⟩
    · try (exfalso; first | (simp (disch := omega) [inS_ix, inS_N, ixL_N, ix_nI, hx] at c15 <;> omega) | (simp (disch := omega) only [h0, h1, h3, Int32.le_iff_toInt_le, Int32.lt_iff_toInt_lt, ← Int32.toInt_inj, nI_toInt, Int32.toInt_zero, m1_toInt, Int64.le_iff_toInt_le, Int64.lt_iff_toInt_lt, ← Int64.toInt_inj, pk_lT, i64_toInt, Int64.toInt_zero, eq_self, not_true_eq_false, not_false_eq_true] at c15 <;> omega) | omega)
      all_goals
        skip
        refine x_aload_n dX8_worth_18 rfl ?_
        refine x_getf gf_X8_35 ho dX8_worth_19 rfl rfl ?_
        refine x_bipush (v := nI 6) rfl dX8_worth_22 ?_
        refine x_iload_n dX8_worth_24 rfl ?_
        refine x_iadd dX8_worth_25 ?_
        refine x_iald dX8_worth_26 rfl (by first | rfl | exact nI_add _ _ | (simp only [nI_add, pk_mul]; rfl)) (by omega) (by decide) ?_
        refine x_goto (tgt := 35) dX8_worth_27 (by decide) ?_
        refine x_iret hr rfl dX8_worth_35 (by omega) (by omega) (hQ _ _ ?_)
        exact ⟨by simp [spWorth, hx], by simp [spWorth, hx, mI_mI, mSA_id]⟩
  · skip
    refine CT.of (ini := false) (by decide +kernel) q1929 q164 (Nat.le_of_ble_eq_true rfl) (by decide) ?_
    intro Γ hw ho hL hr hh hini hal hd hmc hms hQ
    subst hw
    show AW Γ cX8_worth 0 0 0 [some (.ref 32), some (.int (nI k))] [] (hM M R)
    have h0 := hF.c0
    have h1 := hF.c1
    have h3 := hF.c3
    have l0 := hF.l0
    have l1 := hF.l1
    have l3 := hF.l3
    refine x_aload_n dX8_worth_0 rfl ?_
    refine x_iconst (v := nI 0) rfl dX8_worth_1 ?_
    refine m_puti (k := 1) (pf_X8_70 (ini := false)) ho hini dX8_worth_2 rfl rfl (by decide) (ms_1 _ _) ?_
    refine x_aload_n dX8_worth_5 rfl ?_
    refine x_iconst (v := nI 0) rfl dX8_worth_6 ?_
    refine m_puti (k := 0) (pf_X8_73 (ini := false)) ho hini dX8_worth_7 rfl rfl (by decide) (ms_0 _ _) ?_
    refine x_aload_n dX8_worth_10 rfl ?_
    refine x_iload_n dX8_worth_11 rfl ?_
    refine x_callV1 lk_X8_333 (m_isTraitAt (M := (mI (mI M 1 (nI 0)) 0 (nI 0))) hF _) ho dX8_worth_12 rfl (Nat.le_of_ble_eq_true rfl) (by omega) (by decide) (by omega) (by omega) ?_
    refine x_ifb_eq (tgt := 30) dX8_worth_15 (by decide) (fun c15 => ?_) (fun c15 => ?_)
    · try (exfalso; first | (simp (disch := omega) [inS_ix, inS_N, ixL_N, ix_nI, hx] at c15 <;> omega) | (simp (disch := omega) only [h0, h1, h3, Int32.le_iff_toInt_le, Int32.lt_iff_toInt_lt, ← Int32.toInt_inj, nI_toInt, Int32.toInt_zero, m1_toInt, Int64.le_iff_toInt_le, Int64.lt_iff_toInt_lt, ← Int64.toInt_inj, pk_lT, i64_toInt, Int64.toInt_zero, eq_self, not_true_eq_false, not_false_eq_true] at c15 <;> omega) | omega)
      all_goals
        skip
        refine x_aload_n dX8_worth_30 rfl ?_
        refine x_iconst (v := nI 2) rfl dX8_worth_31 ?_
        refine x_callV1 lk_X8_327 (m_refuse _) ho dX8_worth_32 rfl (Nat.le_of_ble_eq_true rfl) (by omega) (by decide) (by omega) (by omega) ?_
        refine x_iret hr rfl dX8_worth_35 (by omega) (by omega) (hQ _ _ ?_)
        exact ⟨by simp [spWorth, hx], by simp [spWorth, hx, mI_mI, mSA_id]⟩
    · try (exfalso; first | (simp (disch := omega) [inS_ix, inS_N, ixL_N, ix_nI, hx] at c15 <;> omega) | (simp (disch := omega) only [h0, h1, h3, Int32.le_iff_toInt_le, Int32.lt_iff_toInt_lt, ← Int32.toInt_inj, nI_toInt, Int32.toInt_zero, m1_toInt, Int64.le_iff_toInt_le, Int64.lt_iff_toInt_lt, ← Int64.toInt_inj, pk_lT, i64_toInt, Int64.toInt_zero, eq_self, not_true_eq_false, not_false_eq_true] at c15 <;> omega) | omega)
      all_goals
        skip
        refine x_aload_n dX8_worth_18 rfl ?_
        refine x_getf gf_X8_35 ho dX8_worth_19 rfl rfl ?_
        refine x_bipush (v := nI 6) rfl dX8_worth_22 ?_
        refine x_iload_n dX8_worth_24 rfl ?_
        refine x_iaddN dX8_worth_25 ?_
        refine x_iald dX8_worth_26 rfl (by first | rfl | exact nI_add _ _ | (simp only [nI_add, pk_mul]; rfl)) (by omega) (by decide) ?_
        refine x_goto (tgt := 35) dX8_worth_27 (by decide) ?_
        refine x_iret hr rfl dX8_worth_35 (by omega) (by omega) (hQ _ _ ?_)
        exact ⟨by simp [spWorth, hx], by simp [spWorth, hx, mI_mI, mSA_id]⟩
set_option maxHeartbeats 4000000 in
theorem m_person {w : xW} {M : mS} {R : xH} {tm pm tn G : Nat} (hF : wF (M.2.2.1 5) tm pm tn G) (p9 w9 : Int32) : CT w yX8_person cX8_person 3 (some (.int)) [] false (3) 0 0 [.ref 32, .int p9, .int w9] (hM M R) (xret (some (.int (spPerson (M.2.2.1 5) pm tn p9 w9).1)) (hM (mI (mI M 1 (nI 0)) 0 (nI (spPerson (M.2.2.1 5) pm tn p9 w9).2)) R)) := by
  have l0 := hF.l0
  have l1 := hF.l1
  have l3 := hF.l3
  rcases ix_or p9 (n := pm) (by omega) with ⟨hx, hx2⟩ | ⟨t, ht, rfl, hx⟩
  rotate_left 1
  rcases ix_or w9 (n := 5) (by omega) with ⟨hy, hy2⟩ | ⟨j, hj, rfl, hy⟩
  rotate_left 1
  rcases (show j = 0 ∨ j = 1 ∨ j = 2 ∨ j = 3 ∨ j = 4 by omega) with rfl | rfl | rfl | rfl | rfl
  · skip
    refine CT.of (ini := false) (by decide +kernel) q1937 q164 (Nat.le_of_ble_eq_true rfl) (by decide) ?_
    intro Γ hw ho hL hr hh hini hal hd hmc hms hQ
    subst hw
    show AW Γ cX8_person 0 0 0 [some (.ref 32), some (.int (nI t)), some (.int (nI 0))] [] (hM M R)
    have h0 := hF.c0
    have h1 := hF.c1
    have h3 := hF.c3
    have l0 := hF.l0
    have l1 := hF.l1
    have l3 := hF.l3
    refine x_aload_n dX8_person_0 rfl ?_
    refine x_iconst (v := nI 0) rfl dX8_person_1 ?_
    refine m_puti (k := 1) (pf_X8_70 (ini := false)) ho hini dX8_person_2 rfl rfl (by decide) (ms_1 _ _) ?_
    refine x_aload_n dX8_person_5 rfl ?_
    refine x_iconst (v := nI 0) rfl dX8_person_6 ?_
    refine m_puti (k := 0) (pf_X8_73 (ini := false)) ho hini dX8_person_7 rfl rfl (by decide) (ms_0 _ _) ?_
    refine x_aload_n dX8_person_10 rfl ?_
    refine x_iload_n dX8_person_11 rfl ?_
    refine x_i2lN (by omega) dX8_person_12 ?_
    refine x_callV1 lk_X8_336 (m_isPersonAt (M := (mI (mI M 1 (nI 0)) 0 (nI 0))) hF _) ho dX8_person_13 rfl (Nat.le_of_ble_eq_true rfl) (by omega) (by decide) (by omega) (by omega) ?_
    refine x_ifb_ne (tgt := 25) dX8_person_16 (by decide) (fun c16 => ?_) (fun c16 => ?_)
    · try (exfalso; first | (simp (disch := omega) [inS_ix, inS_N, ixL_N, ix_nI, hx, hy, ixL_i] at c16 <;> omega) | (simp (disch := omega) only [h0, h1, h3, Int32.le_iff_toInt_le, Int32.lt_iff_toInt_lt, ← Int32.toInt_inj, nI_toInt, Int32.toInt_zero, m1_toInt, Int64.le_iff_toInt_le, Int64.lt_iff_toInt_lt, ← Int64.toInt_inj, pk_lT, i64_toInt, Int64.toInt_zero, eq_self, not_true_eq_false, not_false_eq_true] at c16 <;> omega) | omega)
      all_goals
        skip
        refine x_iload_n dX8_person_25 rfl ?_
        refine x_i2lN (by omega) dX8_person_26 ?_
        refine x_lconst (v := lN 0) rfl dX8_person_27 ?_
        refine x_ldc2 (v := lN 4) ho q1942 dX8_person_28 ?_
        refine x_callS3 lk_X8_105 (m_isIn _ _ _) ho dX8_person_31 (Nat.le_of_ble_eq_true rfl) (by omega) (by decide) (by omega) (by omega) ?_
        refine x_ifb_ne (tgt := 43) dX8_person_34 (by decide) (fun c34 => ?_) (fun c34 => ?_)
        · try (exfalso; first | (simp (disch := omega) [inS_ix, inS_N, ixL_N, ix_nI, hx, hy, ixL_i] at c34 <;> omega) | (simp (disch := omega) only [h0, h1, h3, Int32.le_iff_toInt_le, Int32.lt_iff_toInt_lt, ← Int32.toInt_inj, nI_toInt, Int32.toInt_zero, m1_toInt, Int64.le_iff_toInt_le, Int64.lt_iff_toInt_lt, ← Int64.toInt_inj, pk_lT, i64_toInt, Int64.toInt_zero, eq_self, not_true_eq_false, not_false_eq_true] at c16 c34 <;> omega) | omega)
          all_goals
            skip
            refine x_iload_n dX8_person_43 rfl ?_
            refine x_iconst (v := nI 2) rfl dX8_person_44 ?_
            refine x_icmp_ne (tgt := 54) dX8_person_45 (by decide) (fun c45 => ?_) (fun c45 => ?_)
            · try (exfalso; first | (simp (disch := omega) [inS_ix, inS_N, ixL_N, ix_nI, hx, hy, ixL_i] at c45 <;> omega) | (simp (disch := omega) only [h0, h1, h3, Int32.le_iff_toInt_le, Int32.lt_iff_toInt_lt, ← Int32.toInt_inj, nI_toInt, Int32.toInt_zero, m1_toInt, Int64.le_iff_toInt_le, Int64.lt_iff_toInt_lt, ← Int64.toInt_inj, pk_lT, i64_toInt, Int64.toInt_zero, eq_self, not_true_eq_false, not_false_eq_true] at c16 c34 c45 <;> omega) | omega)
              all_goals
                skip
                refine x_iload_n dX8_person_54 rfl ?_
                refine x_iconst (v := nI 4) rfl dX8_person_55 ?_
                refine x_icmp_ne (tgt := 69) dX8_person_56 (by decide) (fun c56 => ?_) (fun c56 => ?_)
                · try (exfalso; first | (simp (disch := omega) [inS_ix, inS_N, ixL_N, ix_nI, hx, hy, ixL_i] at c56 <;> omega) | (simp (disch := omega) only [h0, h1, h3, Int32.le_iff_toInt_le, Int32.lt_iff_toInt_lt, ← Int32.toInt_inj, nI_toInt, Int32.toInt_zero, m1_toInt, Int64.le_iff_toInt_le, Int64.lt_iff_toInt_lt, ← Int64.toInt_inj, pk_lT, i64_toInt, Int64.toInt_zero, eq_self, not_true_eq_false, not_false_eq_true] at c16 c34 c45 c56 <;> omega) | omega)
                  all_goals
                    skip
                    refine x_aload_n dX8_person_69 rfl ?_
                    refine x_getf gf_X8_35 ho dX8_person_70 rfl rfl ?_
                    refine x_iload_n dX8_person_73 rfl ?_
                    refine x_if_ne (tgt := 82) dX8_person_74 (by decide) (fun c74 => ?_) (fun c74 => ?_)
                    · try (exfalso; first | (simp (disch := omega) [inS_ix, inS_N, ixL_N, ix_nI, hx, hy, ixL_i] at c74 <;> omega) | (simp (disch := omega) only [h0, h1, h3, Int32.le_iff_toInt_le, Int32.lt_iff_toInt_lt, ← Int32.toInt_inj, nI_toInt, Int32.toInt_zero, m1_toInt, Int64.le_iff_toInt_le, Int64.lt_iff_toInt_lt, ← Int64.toInt_inj, pk_lT, i64_toInt, Int64.toInt_zero, eq_self, not_true_eq_false, not_false_eq_true] at c16 c34 c45 c56 c74 <;> omega) | omega)
                      all_goals
                        skip
                        refine x_iload_n dX8_person_82 rfl ?_
                        refine x_iconst (v := nI 1) rfl dX8_person_83 ?_
                        refine x_icmp_ne (tgt := 92) dX8_person_84 (by decide) (fun c84 => ?_) (fun c84 => ?_)
                        · try (exfalso; first | (simp (disch := omega) [inS_ix, inS_N, ixL_N, ix_nI, hx, hy, ixL_i] at c84 <;> omega) | (simp (disch := omega) only [h0, h1, h3, Int32.le_iff_toInt_le, Int32.lt_iff_toInt_lt, ← Int32.toInt_inj, nI_toInt, Int32.toInt_zero, m1_toInt, Int64.le_iff_toInt_le, Int64.lt_iff_toInt_lt, ← Int64.toInt_inj, pk_lT, i64_toInt, Int64.toInt_zero, eq_self, not_true_eq_false, not_false_eq_true] at c16 c34 c45 c56 c74 c84 <;> omega) | omega)
                          all_goals
                            skip
                            refine x_bipush (v := nI 26) rfl dX8_person_92 ?_
                            refine x_iload_n dX8_person_94 rfl ?_
                            refine x_iaddN dX8_person_95 ?_
                            refine x_iald dX8_person_96 rfl (by first | rfl | exact nI_add _ _ | (simp only [nI_add, pk_mul]; rfl)) (by omega) (by decide) ?_
                            refine x_iret hr rfl dX8_person_97 (by omega) (by omega) (hQ _ _ ?_)
                            exact ⟨by simp [spPerson, hx, hy], by simp [spPerson, hx, hy, mI_mI, mSA_id]⟩
                        · try (exfalso; first | (simp (disch := omega) [inS_ix, inS_N, ixL_N, ix_nI, hx, hy, ixL_i] at c84 <;> omega) | (simp (disch := omega) only [h0, h1, h3, Int32.le_iff_toInt_le, Int32.lt_iff_toInt_lt, ← Int32.toInt_inj, nI_toInt, Int32.toInt_zero, m1_toInt, Int64.le_iff_toInt_le, Int64.lt_iff_toInt_lt, ← Int64.toInt_inj, pk_lT, i64_toInt, Int64.toInt_zero, eq_self, not_true_eq_false, not_false_eq_true] at c16 c34 c45 c56 c74 c84 <;> omega) | omega)
                          all_goals
                            skip
                            refine x_bipush (v := nI 19) rfl dX8_person_87 ?_
                            refine x_goto (tgt := 94) dX8_person_89 (by decide) ?_
                            refine x_iload_n dX8_person_94 rfl ?_
                            refine x_iaddN dX8_person_95 ?_
                            refine x_iald dX8_person_96 rfl (by first | rfl | exact nI_add _ _ | (simp only [nI_add, pk_mul]; rfl)) (by omega) (by decide) ?_
                            refine x_iret hr rfl dX8_person_97 (by omega) (by omega) (hQ _ _ ?_)
                            exact ⟨by simp [spPerson, hx, hy], by simp [spPerson, hx, hy, mI_mI, mSA_id]⟩
                    · try (exfalso; first | (simp (disch := omega) [inS_ix, inS_N, ixL_N, ix_nI, hx, hy, ixL_i] at c74 <;> omega) | (simp (disch := omega) only [h0, h1, h3, Int32.le_iff_toInt_le, Int32.lt_iff_toInt_lt, ← Int32.toInt_inj, nI_toInt, Int32.toInt_zero, m1_toInt, Int64.le_iff_toInt_le, Int64.lt_iff_toInt_lt, ← Int64.toInt_inj, pk_lT, i64_toInt, Int64.toInt_zero, eq_self, not_true_eq_false, not_false_eq_true] at c16 c34 c45 c56 c74 <;> omega) | omega)
                      all_goals
                        skip
                        refine x_bipush (v := nI 12) rfl dX8_person_77 ?_
                        refine x_goto (tgt := 94) dX8_person_79 (by decide) ?_
                        refine x_iload_n dX8_person_94 rfl ?_
                        refine x_iaddN dX8_person_95 ?_
                        refine x_iald dX8_person_96 rfl (by first | rfl | exact nI_add _ _ | (simp only [nI_add, pk_mul]; rfl)) (by omega) (by decide) ?_
                        refine x_iret hr rfl dX8_person_97 (by omega) (by omega) (hQ _ _ ?_)
                        exact ⟨by simp [spPerson, hx, hy], by simp [spPerson, hx, hy, mI_mI, mSA_id]⟩
                · try (exfalso; first | (simp (disch := omega) [inS_ix, inS_N, ixL_N, ix_nI, hx, hy, ixL_i] at c56 <;> omega) | (simp (disch := omega) only [h0, h1, h3, Int32.le_iff_toInt_le, Int32.lt_iff_toInt_lt, ← Int32.toInt_inj, nI_toInt, Int32.toInt_zero, m1_toInt, Int64.le_iff_toInt_le, Int64.lt_iff_toInt_lt, ← Int64.toInt_inj, pk_lT, i64_toInt, Int64.toInt_zero, eq_self, not_true_eq_false, not_false_eq_true] at c16 c34 c45 c56 <;> omega) | omega)
                  all_goals
                    skip
                    refine x_aload_n dX8_person_59 rfl ?_
                    refine x_aload_n dX8_person_60 rfl ?_
                    refine x_iload_n dX8_person_61 rfl ?_
                    refine x_callV1 lk_X8_341 (m_tinsOn (M := (mI (mI M 1 (nI 0)) 0 (nI 0))) hF _) ho dX8_person_62 rfl (Nat.le_of_ble_eq_true rfl) (by omega) (by decide) (by omega) (by omega) ?_
                    refine x_callV1 lk_X8_322 (m_worthAll (M := (mI (mI M 1 (nI 0)) 0 (nI 0))) hF _) ho dX8_person_65 rfl (Nat.le_of_ble_eq_true rfl) (by omega) (by decide) (by omega) (by omega) ?_
                    refine x_iret hr rfl dX8_person_68 (by omega) (by omega) (hQ _ _ ?_)
                    exact ⟨by simp [spPerson, hx, hy], by simp [spPerson, hx, hy, mI_mI, mSA_id]⟩
            · try (exfalso; first | (simp (disch := omega) [inS_ix, inS_N, ixL_N, ix_nI, hx, hy, ixL_i] at c45 <;> omega) | (simp (disch := omega) only [h0, h1, h3, Int32.le_iff_toInt_le, Int32.lt_iff_toInt_lt, ← Int32.toInt_inj, nI_toInt, Int32.toInt_zero, m1_toInt, Int64.le_iff_toInt_le, Int64.lt_iff_toInt_lt, ← Int64.toInt_inj, pk_lT, i64_toInt, Int64.toInt_zero, eq_self, not_true_eq_false, not_false_eq_true] at c16 c34 c45 <;> omega) | omega)
              all_goals
                skip
                refine x_aload_n dX8_person_48 rfl ?_
                refine x_iload_n dX8_person_49 rfl ?_
                refine x_callV1 lk_X8_341 (m_tinsOn (M := (mI (mI M 1 (nI 0)) 0 (nI 0))) hF _) ho dX8_person_50 rfl (Nat.le_of_ble_eq_true rfl) (by omega) (by decide) (by omega) (by omega) ?_
                refine x_iret hr rfl dX8_person_53 (by omega) (by omega) (hQ _ _ ?_)
                exact ⟨by simp [spPerson, hx, hy], by simp [spPerson, hx, hy, mI_mI, mSA_id]⟩
        · try (exfalso; first | (simp (disch := omega) [inS_ix, inS_N, ixL_N, ix_nI, hx, hy, ixL_i] at c34 <;> omega) | (simp (disch := omega) only [h0, h1, h3, Int32.le_iff_toInt_le, Int32.lt_iff_toInt_lt, ← Int32.toInt_inj, nI_toInt, Int32.toInt_zero, m1_toInt, Int64.le_iff_toInt_le, Int64.lt_iff_toInt_lt, ← Int64.toInt_inj, pk_lT, i64_toInt, Int64.toInt_zero, eq_self, not_true_eq_false, not_false_eq_true] at c16 c34 <;> omega) | omega)
          all_goals
            skip
            refine x_aload_n dX8_person_37 rfl ?_
            refine x_iconst (v := nI 5) rfl dX8_person_38 ?_
            refine x_callV1 lk_X8_327 (m_refuse _) ho dX8_person_39 rfl (Nat.le_of_ble_eq_true rfl) (by omega) (by decide) (by omega) (by omega) ?_
            refine x_iret hr rfl dX8_person_42 (by omega) (by omega) (hQ _ _ ?_)
            exact ⟨by simp [spPerson, hx, hy], by simp [spPerson, hx, hy, mI_mI, mSA_id]⟩
    · try (exfalso; first | (simp (disch := omega) [inS_ix, inS_N, ixL_N, ix_nI, hx, hy, ixL_i] at c16 <;> omega) | (simp (disch := omega) only [h0, h1, h3, Int32.le_iff_toInt_le, Int32.lt_iff_toInt_lt, ← Int32.toInt_inj, nI_toInt, Int32.toInt_zero, m1_toInt, Int64.le_iff_toInt_le, Int64.lt_iff_toInt_lt, ← Int64.toInt_inj, pk_lT, i64_toInt, Int64.toInt_zero, eq_self, not_true_eq_false, not_false_eq_true] at c16 <;> omega) | omega)
      all_goals
        skip
        refine x_aload_n dX8_person_19 rfl ?_
        refine x_iconst (v := nI 2) rfl dX8_person_20 ?_
        refine x_callV1 lk_X8_327 (m_refuse _) ho dX8_person_21 rfl (Nat.le_of_ble_eq_true rfl) (by omega) (by decide) (by omega) (by omega) ?_
        refine x_iret hr rfl dX8_person_24 (by omega) (by omega) (hQ _ _ ?_)
        exact ⟨by simp [spPerson, hx, hy], by simp [spPerson, hx, hy, mI_mI, mSA_id]⟩
  · skip
    refine CT.of (ini := false) (by decide +kernel) q1937 q164 (Nat.le_of_ble_eq_true rfl) (by decide) ?_
    intro Γ hw ho hL hr hh hini hal hd hmc hms hQ
    subst hw
    show AW Γ cX8_person 0 0 0 [some (.ref 32), some (.int (nI t)), some (.int (nI 1))] [] (hM M R)
    have h0 := hF.c0
    have h1 := hF.c1
    have h3 := hF.c3
    have l0 := hF.l0
    have l1 := hF.l1
    have l3 := hF.l3
    refine x_aload_n dX8_person_0 rfl ?_
    refine x_iconst (v := nI 0) rfl dX8_person_1 ?_
    refine m_puti (k := 1) (pf_X8_70 (ini := false)) ho hini dX8_person_2 rfl rfl (by decide) (ms_1 _ _) ?_
    refine x_aload_n dX8_person_5 rfl ?_
    refine x_iconst (v := nI 0) rfl dX8_person_6 ?_
    refine m_puti (k := 0) (pf_X8_73 (ini := false)) ho hini dX8_person_7 rfl rfl (by decide) (ms_0 _ _) ?_
    refine x_aload_n dX8_person_10 rfl ?_
    refine x_iload_n dX8_person_11 rfl ?_
    refine x_i2lN (by omega) dX8_person_12 ?_
    refine x_callV1 lk_X8_336 (m_isPersonAt (M := (mI (mI M 1 (nI 0)) 0 (nI 0))) hF _) ho dX8_person_13 rfl (Nat.le_of_ble_eq_true rfl) (by omega) (by decide) (by omega) (by omega) ?_
    refine x_ifb_ne (tgt := 25) dX8_person_16 (by decide) (fun c16 => ?_) (fun c16 => ?_)
    · try (exfalso; first | (simp (disch := omega) [inS_ix, inS_N, ixL_N, ix_nI, hx, hy, ixL_i] at c16 <;> omega) | (simp (disch := omega) only [h0, h1, h3, Int32.le_iff_toInt_le, Int32.lt_iff_toInt_lt, ← Int32.toInt_inj, nI_toInt, Int32.toInt_zero, m1_toInt, Int64.le_iff_toInt_le, Int64.lt_iff_toInt_lt, ← Int64.toInt_inj, pk_lT, i64_toInt, Int64.toInt_zero, eq_self, not_true_eq_false, not_false_eq_true] at c16 <;> omega) | omega)
      all_goals
        skip
        refine x_iload_n dX8_person_25 rfl ?_
        refine x_i2lN (by omega) dX8_person_26 ?_
        refine x_lconst (v := lN 0) rfl dX8_person_27 ?_
        refine x_ldc2 (v := lN 4) ho q1942 dX8_person_28 ?_
        refine x_callS3 lk_X8_105 (m_isIn _ _ _) ho dX8_person_31 (Nat.le_of_ble_eq_true rfl) (by omega) (by decide) (by omega) (by omega) ?_
        refine x_ifb_ne (tgt := 43) dX8_person_34 (by decide) (fun c34 => ?_) (fun c34 => ?_)
        · try (exfalso; first | (simp (disch := omega) [inS_ix, inS_N, ixL_N, ix_nI, hx, hy, ixL_i] at c34 <;> omega) | (simp (disch := omega) only [h0, h1, h3, Int32.le_iff_toInt_le, Int32.lt_iff_toInt_lt, ← Int32.toInt_inj, nI_toInt, Int32.toInt_zero, m1_toInt, Int64.le_iff_toInt_le, Int64.lt_iff_toInt_lt, ← Int64.toInt_inj, pk_lT, i64_toInt, Int64.toInt_zero, eq_self, not_true_eq_false, not_false_eq_true] at c16 c34 <;> omega) | omega)
          all_goals
            skip
            refine x_iload_n dX8_person_43 rfl ?_
            refine x_iconst (v := nI 2) rfl dX8_person_44 ?_
            refine x_icmp_ne (tgt := 54) dX8_person_45 (by decide) (fun c45 => ?_) (fun c45 => ?_)
            · try (exfalso; first | (simp (disch := omega) [inS_ix, inS_N, ixL_N, ix_nI, hx, hy, ixL_i] at c45 <;> omega) | (simp (disch := omega) only [h0, h1, h3, Int32.le_iff_toInt_le, Int32.lt_iff_toInt_lt, ← Int32.toInt_inj, nI_toInt, Int32.toInt_zero, m1_toInt, Int64.le_iff_toInt_le, Int64.lt_iff_toInt_lt, ← Int64.toInt_inj, pk_lT, i64_toInt, Int64.toInt_zero, eq_self, not_true_eq_false, not_false_eq_true] at c16 c34 c45 <;> omega) | omega)
              all_goals
                skip
                refine x_iload_n dX8_person_54 rfl ?_
                refine x_iconst (v := nI 4) rfl dX8_person_55 ?_
                refine x_icmp_ne (tgt := 69) dX8_person_56 (by decide) (fun c56 => ?_) (fun c56 => ?_)
                · try (exfalso; first | (simp (disch := omega) [inS_ix, inS_N, ixL_N, ix_nI, hx, hy, ixL_i] at c56 <;> omega) | (simp (disch := omega) only [h0, h1, h3, Int32.le_iff_toInt_le, Int32.lt_iff_toInt_lt, ← Int32.toInt_inj, nI_toInt, Int32.toInt_zero, m1_toInt, Int64.le_iff_toInt_le, Int64.lt_iff_toInt_lt, ← Int64.toInt_inj, pk_lT, i64_toInt, Int64.toInt_zero, eq_self, not_true_eq_false, not_false_eq_true] at c16 c34 c45 c56 <;> omega) | omega)
                  all_goals
                    skip
                    refine x_aload_n dX8_person_69 rfl ?_
                    refine x_getf gf_X8_35 ho dX8_person_70 rfl rfl ?_
                    refine x_iload_n dX8_person_73 rfl ?_
                    refine x_if_ne (tgt := 82) dX8_person_74 (by decide) (fun c74 => ?_) (fun c74 => ?_)
                    · try (exfalso; first | (simp (disch := omega) [inS_ix, inS_N, ixL_N, ix_nI, hx, hy, ixL_i] at c74 <;> omega) | (simp (disch := omega) only [h0, h1, h3, Int32.le_iff_toInt_le, Int32.lt_iff_toInt_lt, ← Int32.toInt_inj, nI_toInt, Int32.toInt_zero, m1_toInt, Int64.le_iff_toInt_le, Int64.lt_iff_toInt_lt, ← Int64.toInt_inj, pk_lT, i64_toInt, Int64.toInt_zero, eq_self, not_true_eq_false, not_false_eq_true] at c16 c34 c45 c56 c74 <;> omega) | omega)
                      all_goals
                        skip
                        refine x_iload_n dX8_person_82 rfl ?_
                        refine x_iconst (v := nI 1) rfl dX8_person_83 ?_
                        refine x_icmp_ne (tgt := 92) dX8_person_84 (by decide) (fun c84 => ?_) (fun c84 => ?_)
                        · try (exfalso; first | (simp (disch := omega) [inS_ix, inS_N, ixL_N, ix_nI, hx, hy, ixL_i] at c84 <;> omega) | (simp (disch := omega) only [h0, h1, h3, Int32.le_iff_toInt_le, Int32.lt_iff_toInt_lt, ← Int32.toInt_inj, nI_toInt, Int32.toInt_zero, m1_toInt, Int64.le_iff_toInt_le, Int64.lt_iff_toInt_lt, ← Int64.toInt_inj, pk_lT, i64_toInt, Int64.toInt_zero, eq_self, not_true_eq_false, not_false_eq_true] at c16 c34 c45 c56 c74 c84 <;> omega) | omega)
                          all_goals
                            skip
                            refine x_bipush (v := nI 26) rfl dX8_person_92 ?_
                            refine x_iload_n dX8_person_94 rfl ?_
                            refine x_iaddN dX8_person_95 ?_
                            refine x_iald dX8_person_96 rfl (by first | rfl | exact nI_add _ _ | (simp only [nI_add, pk_mul]; rfl)) (by omega) (by decide) ?_
                            refine x_iret hr rfl dX8_person_97 (by omega) (by omega) (hQ _ _ ?_)
                            exact ⟨by simp [spPerson, hx, hy], by simp [spPerson, hx, hy, mI_mI, mSA_id]⟩
                        · try (exfalso; first | (simp (disch := omega) [inS_ix, inS_N, ixL_N, ix_nI, hx, hy, ixL_i] at c84 <;> omega) | (simp (disch := omega) only [h0, h1, h3, Int32.le_iff_toInt_le, Int32.lt_iff_toInt_lt, ← Int32.toInt_inj, nI_toInt, Int32.toInt_zero, m1_toInt, Int64.le_iff_toInt_le, Int64.lt_iff_toInt_lt, ← Int64.toInt_inj, pk_lT, i64_toInt, Int64.toInt_zero, eq_self, not_true_eq_false, not_false_eq_true] at c16 c34 c45 c56 c74 c84 <;> omega) | omega)
                          all_goals
                            skip
                            refine x_bipush (v := nI 19) rfl dX8_person_87 ?_
                            refine x_goto (tgt := 94) dX8_person_89 (by decide) ?_
                            refine x_iload_n dX8_person_94 rfl ?_
                            refine x_iaddN dX8_person_95 ?_
                            refine x_iald dX8_person_96 rfl (by first | rfl | exact nI_add _ _ | (simp only [nI_add, pk_mul]; rfl)) (by omega) (by decide) ?_
                            refine x_iret hr rfl dX8_person_97 (by omega) (by omega) (hQ _ _ ?_)
                            exact ⟨by simp [spPerson, hx, hy], by simp [spPerson, hx, hy, mI_mI, mSA_id]⟩
                    · try (exfalso; first | (simp (disch := omega) [inS_ix, inS_N, ixL_N, ix_nI, hx, hy, ixL_i] at c74 <;> omega) | (simp (disch := omega) only [h0, h1, h3, Int32.le_iff_toInt_le, Int32.lt_iff_toInt_lt, ← Int32.toInt_inj, nI_toInt, Int32.toInt_zero, m1_toInt, Int64.le_iff_toInt_le, Int64.lt_iff_toInt_lt, ← Int64.toInt_inj, pk_lT, i64_toInt, Int64.toInt_zero, eq_self, not_true_eq_false, not_false_eq_true] at c16 c34 c45 c56 c74 <;> omega) | omega)
                      all_goals
                        skip
                        refine x_bipush (v := nI 12) rfl dX8_person_77 ?_
                        refine x_goto (tgt := 94) dX8_person_79 (by decide) ?_
                        refine x_iload_n dX8_person_94 rfl ?_
                        refine x_iaddN dX8_person_95 ?_
                        refine x_iald dX8_person_96 rfl (by first | rfl | exact nI_add _ _ | (simp only [nI_add, pk_mul]; rfl)) (by omega) (by decide) ?_
                        refine x_iret hr rfl dX8_person_97 (by omega) (by omega) (hQ _ _ ?_)
                        exact ⟨by simp [spPerson, hx, hy], by simp [spPerson, hx, hy, mI_mI, mSA_id]⟩
                · try (exfalso; first | (simp (disch := omega) [inS_ix, inS_N, ixL_N, ix_nI, hx, hy, ixL_i] at c56 <;> omega) | (simp (disch := omega) only [h0, h1, h3, Int32.le_iff_toInt_le, Int32.lt_iff_toInt_lt, ← Int32.toInt_inj, nI_toInt, Int32.toInt_zero, m1_toInt, Int64.le_iff_toInt_le, Int64.lt_iff_toInt_lt, ← Int64.toInt_inj, pk_lT, i64_toInt, Int64.toInt_zero, eq_self, not_true_eq_false, not_false_eq_true] at c16 c34 c45 c56 <;> omega) | omega)
                  all_goals
                    skip
                    refine x_aload_n dX8_person_59 rfl ?_
                    refine x_aload_n dX8_person_60 rfl ?_
                    refine x_iload_n dX8_person_61 rfl ?_
                    refine x_callV1 lk_X8_341 (m_tinsOn (M := (mI (mI M 1 (nI 0)) 0 (nI 0))) hF _) ho dX8_person_62 rfl (Nat.le_of_ble_eq_true rfl) (by omega) (by decide) (by omega) (by omega) ?_
                    refine x_callV1 lk_X8_322 (m_worthAll (M := (mI (mI M 1 (nI 0)) 0 (nI 0))) hF _) ho dX8_person_65 rfl (Nat.le_of_ble_eq_true rfl) (by omega) (by decide) (by omega) (by omega) ?_
                    refine x_iret hr rfl dX8_person_68 (by omega) (by omega) (hQ _ _ ?_)
                    exact ⟨by simp [spPerson, hx, hy], by simp [spPerson, hx, hy, mI_mI, mSA_id]⟩
            · try (exfalso; first | (simp (disch := omega) [inS_ix, inS_N, ixL_N, ix_nI, hx, hy, ixL_i] at c45 <;> omega) | (simp (disch := omega) only [h0, h1, h3, Int32.le_iff_toInt_le, Int32.lt_iff_toInt_lt, ← Int32.toInt_inj, nI_toInt, Int32.toInt_zero, m1_toInt, Int64.le_iff_toInt_le, Int64.lt_iff_toInt_lt, ← Int64.toInt_inj, pk_lT, i64_toInt, Int64.toInt_zero, eq_self, not_true_eq_false, not_false_eq_true] at c16 c34 c45 <;> omega) | omega)
              all_goals
                skip
                refine x_aload_n dX8_person_48 rfl ?_
                refine x_iload_n dX8_person_49 rfl ?_
                refine x_callV1 lk_X8_341 (m_tinsOn (M := (mI (mI M 1 (nI 0)) 0 (nI 0))) hF _) ho dX8_person_50 rfl (Nat.le_of_ble_eq_true rfl) (by omega) (by decide) (by omega) (by omega) ?_
                refine x_iret hr rfl dX8_person_53 (by omega) (by omega) (hQ _ _ ?_)
                exact ⟨by simp [spPerson, hx, hy], by simp [spPerson, hx, hy, mI_mI, mSA_id]⟩
        · try (exfalso; first | (simp (disch := omega) [inS_ix, inS_N, ixL_N, ix_nI, hx, hy, ixL_i] at c34 <;> omega) | (simp (disch := omega) only [h0, h1, h3, Int32.le_iff_toInt_le, Int32.lt_iff_toInt_lt, ← Int32.toInt_inj, nI_toInt, Int32.toInt_zero, m1_toInt, Int64.le_iff_toInt_le, Int64.lt_iff_toInt_lt, ← Int64.toInt_inj, pk_lT, i64_toInt, Int64.toInt_zero, eq_self, not_true_eq_false, not_false_eq_true] at c16 c34 <;> omega) | omega)
          all_goals
            skip
            refine x_aload_n dX8_person_37 rfl ?_
            refine x_iconst (v := nI 5) rfl dX8_person_38 ?_
            refine x_callV1 lk_X8_327 (m_refuse _) ho dX8_person_39 rfl (Nat.le_of_ble_eq_true rfl) (by omega) (by decide) (by omega) (by omega) ?_
            refine x_iret hr rfl dX8_person_42 (by omega) (by omega) (hQ _ _ ?_)
            exact ⟨by simp [spPerson, hx, hy], by simp [spPerson, hx, hy, mI_mI, mSA_id]⟩
    · try (exfalso; first | (simp (disch := omega) [inS_ix, inS_N, ixL_N, ix_nI, hx, hy, ixL_i] at c16 <;> omega) | (simp (disch := omega) only [h0, h1, h3, Int32.le_iff_toInt_le, Int32.lt_iff_toInt_lt, ← Int32.toInt_inj, nI_toInt, Int32.toInt_zero, m1_toInt, Int64.le_iff_toInt_le, Int64.lt_iff_toInt_lt, ← Int64.toInt_inj, pk_lT, i64_toInt, Int64.toInt_zero, eq_self, not_true_eq_false, not_false_eq_true] at c16 <;> omega) | omega)
      all_goals
        skip
        refine x_aload_n dX8_person_19 rfl ?_
        refine x_iconst (v := nI 2) rfl dX8_person_20 ?_
        refine x_callV1 lk_X8_327 (m_refuse _) ho dX8_person_21 rfl (Nat.le_of_ble_eq_true rfl) (by omega) (by decide) (by omega) (by omega) ?_
        refine x_iret hr rfl dX8_person_24 (by omega) (by omega) (hQ _ _ ?_)
        exact ⟨by simp [spPerson, hx, hy], by simp [spPerson, hx, hy, mI_mI, mSA_id]⟩
  · skip
    refine CT.of (ini := false) (by decide +kernel) q1937 q164 (Nat.le_of_ble_eq_true rfl) (by decide) ?_
    intro Γ hw ho hL hr hh hini hal hd hmc hms hQ
    subst hw
    show AW Γ cX8_person 0 0 0 [some (.ref 32), some (.int (nI t)), some (.int (nI 2))] [] (hM M R)
    have h0 := hF.c0
    have h1 := hF.c1
    have h3 := hF.c3
    have l0 := hF.l0
    have l1 := hF.l1
    have l3 := hF.l3
    refine x_aload_n dX8_person_0 rfl ?_
    refine x_iconst (v := nI 0) rfl dX8_person_1 ?_
    refine m_puti (k := 1) (pf_X8_70 (ini := false)) ho hini dX8_person_2 rfl rfl (by decide) (ms_1 _ _) ?_
    refine x_aload_n dX8_person_5 rfl ?_
    refine x_iconst (v := nI 0) rfl dX8_person_6 ?_
    refine m_puti (k := 0) (pf_X8_73 (ini := false)) ho hini dX8_person_7 rfl rfl (by decide) (ms_0 _ _) ?_
    refine x_aload_n dX8_person_10 rfl ?_
    refine x_iload_n dX8_person_11 rfl ?_
    refine x_i2lN (by omega) dX8_person_12 ?_
    refine x_callV1 lk_X8_336 (m_isPersonAt (M := (mI (mI M 1 (nI 0)) 0 (nI 0))) hF _) ho dX8_person_13 rfl (Nat.le_of_ble_eq_true rfl) (by omega) (by decide) (by omega) (by omega) ?_
    refine x_ifb_ne (tgt := 25) dX8_person_16 (by decide) (fun c16 => ?_) (fun c16 => ?_)
    · try (exfalso; first | (simp (disch := omega) [inS_ix, inS_N, ixL_N, ix_nI, hx, hy, ixL_i] at c16 <;> omega) | (simp (disch := omega) only [h0, h1, h3, Int32.le_iff_toInt_le, Int32.lt_iff_toInt_lt, ← Int32.toInt_inj, nI_toInt, Int32.toInt_zero, m1_toInt, Int64.le_iff_toInt_le, Int64.lt_iff_toInt_lt, ← Int64.toInt_inj, pk_lT, i64_toInt, Int64.toInt_zero, eq_self, not_true_eq_false, not_false_eq_true] at c16 <;> omega) | omega)
      all_goals
        skip
        refine x_iload_n dX8_person_25 rfl ?_
        refine x_i2lN (by omega) dX8_person_26 ?_
        refine x_lconst (v := lN 0) rfl dX8_person_27 ?_
        refine x_ldc2 (v := lN 4) ho q1942 dX8_person_28 ?_
        refine x_callS3 lk_X8_105 (m_isIn _ _ _) ho dX8_person_31 (Nat.le_of_ble_eq_true rfl) (by omega) (by decide) (by omega) (by omega) ?_
        refine x_ifb_ne (tgt := 43) dX8_person_34 (by decide) (fun c34 => ?_) (fun c34 => ?_)
        · try (exfalso; first | (simp (disch := omega) [inS_ix, inS_N, ixL_N, ix_nI, hx, hy, ixL_i] at c34 <;> omega) | (simp (disch := omega) only [h0, h1, h3, Int32.le_iff_toInt_le, Int32.lt_iff_toInt_lt, ← Int32.toInt_inj, nI_toInt, Int32.toInt_zero, m1_toInt, Int64.le_iff_toInt_le, Int64.lt_iff_toInt_lt, ← Int64.toInt_inj, pk_lT, i64_toInt, Int64.toInt_zero, eq_self, not_true_eq_false, not_false_eq_true] at c16 c34 <;> omega) | omega)
          all_goals
            skip
            refine x_iload_n dX8_person_43 rfl ?_
            refine x_iconst (v := nI 2) rfl dX8_person_44 ?_
            refine x_icmp_ne (tgt := 54) dX8_person_45 (by decide) (fun c45 => ?_) (fun c45 => ?_)
            · try (exfalso; first | (simp (disch := omega) [inS_ix, inS_N, ixL_N, ix_nI, hx, hy, ixL_i] at c45 <;> omega) | (simp (disch := omega) only [h0, h1, h3, Int32.le_iff_toInt_le, Int32.lt_iff_toInt_lt, ← Int32.toInt_inj, nI_toInt, Int32.toInt_zero, m1_toInt, Int64.le_iff_toInt_le, Int64.lt_iff_toInt_lt, ← Int64.toInt_inj, pk_lT, i64_toInt, Int64.toInt_zero, eq_self, not_true_eq_false, not_false_eq_true] at c16 c34 c45 <;> omega) | omega)
              all_goals
                skip
                refine x_iload_n dX8_person_54 rfl ?_
                refine x_iconst (v := nI 4) rfl dX8_person_55 ?_
                refine x_icmp_ne (tgt := 69) dX8_person_56 (by decide) (fun c56 => ?_) (fun c56 => ?_)
                · try (exfalso; first | (simp (disch := omega) [inS_ix, inS_N, ixL_N, ix_nI, hx, hy, ixL_i] at c56 <;> omega) | (simp (disch := omega) only [h0, h1, h3, Int32.le_iff_toInt_le, Int32.lt_iff_toInt_lt, ← Int32.toInt_inj, nI_toInt, Int32.toInt_zero, m1_toInt, Int64.le_iff_toInt_le, Int64.lt_iff_toInt_lt, ← Int64.toInt_inj, pk_lT, i64_toInt, Int64.toInt_zero, eq_self, not_true_eq_false, not_false_eq_true] at c16 c34 c45 c56 <;> omega) | omega)
                  all_goals
                    skip
                    refine x_aload_n dX8_person_69 rfl ?_
                    refine x_getf gf_X8_35 ho dX8_person_70 rfl rfl ?_
                    refine x_iload_n dX8_person_73 rfl ?_
                    refine x_if_ne (tgt := 82) dX8_person_74 (by decide) (fun c74 => ?_) (fun c74 => ?_)
                    · try (exfalso; first | (simp (disch := omega) [inS_ix, inS_N, ixL_N, ix_nI, hx, hy, ixL_i] at c74 <;> omega) | (simp (disch := omega) only [h0, h1, h3, Int32.le_iff_toInt_le, Int32.lt_iff_toInt_lt, ← Int32.toInt_inj, nI_toInt, Int32.toInt_zero, m1_toInt, Int64.le_iff_toInt_le, Int64.lt_iff_toInt_lt, ← Int64.toInt_inj, pk_lT, i64_toInt, Int64.toInt_zero, eq_self, not_true_eq_false, not_false_eq_true] at c16 c34 c45 c56 c74 <;> omega) | omega)
                      all_goals
                        skip
                        refine x_iload_n dX8_person_82 rfl ?_
                        refine x_iconst (v := nI 1) rfl dX8_person_83 ?_
                        refine x_icmp_ne (tgt := 92) dX8_person_84 (by decide) (fun c84 => ?_) (fun c84 => ?_)
                        · try (exfalso; first | (simp (disch := omega) [inS_ix, inS_N, ixL_N, ix_nI, hx, hy, ixL_i] at c84 <;> omega) | (simp (disch := omega) only [h0, h1, h3, Int32.le_iff_toInt_le, Int32.lt_iff_toInt_lt, ← Int32.toInt_inj, nI_toInt, Int32.toInt_zero, m1_toInt, Int64.le_iff_toInt_le, Int64.lt_iff_toInt_lt, ← Int64.toInt_inj, pk_lT, i64_toInt, Int64.toInt_zero, eq_self, not_true_eq_false, not_false_eq_true] at c16 c34 c45 c56 c74 c84 <;> omega) | omega)
                          all_goals
                            skip
                            refine x_bipush (v := nI 26) rfl dX8_person_92 ?_
                            refine x_iload_n dX8_person_94 rfl ?_
                            refine x_iaddN dX8_person_95 ?_
                            refine x_iald dX8_person_96 rfl (by first | rfl | exact nI_add _ _ | (simp only [nI_add, pk_mul]; rfl)) (by omega) (by decide) ?_
                            refine x_iret hr rfl dX8_person_97 (by omega) (by omega) (hQ _ _ ?_)
                            exact ⟨by simp [spPerson, hx, hy], by simp [spPerson, hx, hy, mI_mI, mSA_id]⟩
                        · try (exfalso; first | (simp (disch := omega) [inS_ix, inS_N, ixL_N, ix_nI, hx, hy, ixL_i] at c84 <;> omega) | (simp (disch := omega) only [h0, h1, h3, Int32.le_iff_toInt_le, Int32.lt_iff_toInt_lt, ← Int32.toInt_inj, nI_toInt, Int32.toInt_zero, m1_toInt, Int64.le_iff_toInt_le, Int64.lt_iff_toInt_lt, ← Int64.toInt_inj, pk_lT, i64_toInt, Int64.toInt_zero, eq_self, not_true_eq_false, not_false_eq_true] at c16 c34 c45 c56 c74 c84 <;> omega) | omega)
                          all_goals
                            skip
                            refine x_bipush (v := nI 19) rfl dX8_person_87 ?_
                            refine x_goto (tgt := 94) dX8_person_89 (by decide) ?_
                            refine x_iload_n dX8_person_94 rfl ?_
                            refine x_iaddN dX8_person_95 ?_
                            refine x_iald dX8_person_96 rfl (by first | rfl | exact nI_add _ _ | (simp only [nI_add, pk_mul]; rfl)) (by omega) (by decide) ?_
                            refine x_iret hr rfl dX8_person_97 (by omega) (by omega) (hQ _ _ ?_)
                            exact ⟨by simp [spPerson, hx, hy], by simp [spPerson, hx, hy, mI_mI, mSA_id]⟩
                    · try (exfalso; first | (simp (disch := omega) [inS_ix, inS_N, ixL_N, ix_nI, hx, hy, ixL_i] at c74 <;> omega) | (simp (disch := omega) only [h0, h1, h3, Int32.le_iff_toInt_le, Int32.lt_iff_toInt_lt, ← Int32.toInt_inj, nI_toInt, Int32.toInt_zero, m1_toInt, Int64.le_iff_toInt_le, Int64.lt_iff_toInt_lt, ← Int64.toInt_inj, pk_lT, i64_toInt, Int64.toInt_zero, eq_self, not_true_eq_false, not_false_eq_true] at c16 c34 c45 c56 c74 <;> omega) | omega)
                      all_goals
                        skip
                        refine x_bipush (v := nI 12) rfl dX8_person_77 ?_
                        refine x_goto (tgt := 94) dX8_person_79 (by decide) ?_
                        refine x_iload_n dX8_person_94 rfl ?_
                        refine x_iaddN dX8_person_95 ?_
                        refine x_iald dX8_person_96 rfl (by first | rfl | exact nI_add _ _ | (simp only [nI_add, pk_mul]; rfl)) (by omega) (by decide) ?_
                        refine x_iret hr rfl dX8_person_97 (by omega) (by omega) (hQ _ _ ?_)
                        exact ⟨by simp [spPerson, hx, hy], by simp [spPerson, hx, hy, mI_mI, mSA_id]⟩
                · try (exfalso; first | (simp (disch := omega) [inS_ix, inS_N, ixL_N, ix_nI, hx, hy, ixL_i] at c56 <;> omega) | (simp (disch := omega) only [h0, h1, h3, Int32.le_iff_toInt_le, Int32.lt_iff_toInt_lt, ← Int32.toInt_inj, nI_toInt, Int32.toInt_zero, m1_toInt, Int64.le_iff_toInt_le, Int64.lt_iff_toInt_lt, ← Int64.toInt_inj, pk_lT, i64_toInt, Int64.toInt_zero, eq_self, not_true_eq_false, not_false_eq_true] at c16 c34 c45 c56 <;> omega) | omega)
                  all_goals
                    skip
                    refine x_aload_n dX8_person_59 rfl ?_
                    refine x_aload_n dX8_person_60 rfl ?_
                    refine x_iload_n dX8_person_61 rfl ?_
                    refine x_callV1 lk_X8_341 (m_tinsOn (M := (mI (mI M 1 (nI 0)) 0 (nI 0))) hF _) ho dX8_person_62 rfl (Nat.le_of_ble_eq_true rfl) (by omega) (by decide) (by omega) (by omega) ?_
                    refine x_callV1 lk_X8_322 (m_worthAll (M := (mI (mI M 1 (nI 0)) 0 (nI 0))) hF _) ho dX8_person_65 rfl (Nat.le_of_ble_eq_true rfl) (by omega) (by decide) (by omega) (by omega) ?_
                    refine x_iret hr rfl dX8_person_68 (by omega) (by omega) (hQ _ _ ?_)
                    exact ⟨by simp [spPerson, hx, hy], by simp [spPerson, hx, hy, mI_mI, mSA_id]⟩
            · try (exfalso; first | (simp (disch := omega) [inS_ix, inS_N, ixL_N, ix_nI, hx, hy, ixL_i] at c45 <;> omega) | (simp (disch := omega) only [h0, h1, h3, Int32.le_iff_toInt_le, Int32.lt_iff_toInt_lt, ← Int32.toInt_inj, nI_toInt, Int32.toInt_zero, m1_toInt, Int64.le_iff_toInt_le, Int64.lt_iff_toInt_lt, ← Int64.toInt_inj, pk_lT, i64_toInt, Int64.toInt_zero, eq_self, not_true_eq_false, not_false_eq_true] at c16 c34 c45 <;> omega) | omega)
              all_goals
                skip
                refine x_aload_n dX8_person_48 rfl ?_
                refine x_iload_n dX8_person_49 rfl ?_
                refine x_callV1 lk_X8_341 (m_tinsOn (M := (mI (mI M 1 (nI 0)) 0 (nI 0))) hF _) ho dX8_person_50 rfl (Nat.le_of_ble_eq_true rfl) (by omega) (by decide) (by omega) (by omega) ?_
                refine x_iret hr rfl dX8_person_53 (by omega) (by omega) (hQ _ _ ?_)
                exact ⟨by simp [spPerson, hx, hy], by simp [spPerson, hx, hy, mI_mI, mSA_id]⟩
        · try (exfalso; first | (simp (disch := omega) [inS_ix, inS_N, ixL_N, ix_nI, hx, hy, ixL_i] at c34 <;> omega) | (simp (disch := omega) only [h0, h1, h3, Int32.le_iff_toInt_le, Int32.lt_iff_toInt_lt, ← Int32.toInt_inj, nI_toInt, Int32.toInt_zero, m1_toInt, Int64.le_iff_toInt_le, Int64.lt_iff_toInt_lt, ← Int64.toInt_inj, pk_lT, i64_toInt, Int64.toInt_zero, eq_self, not_true_eq_false, not_false_eq_true] at c16 c34 <;> omega) | omega)
          all_goals
            skip
            refine x_aload_n dX8_person_37 rfl ?_
            refine x_iconst (v := nI 5) rfl dX8_person_38 ?_
            refine x_callV1 lk_X8_327 (m_refuse _) ho dX8_person_39 rfl (Nat.le_of_ble_eq_true rfl) (by omega) (by decide) (by omega) (by omega) ?_
            refine x_iret hr rfl dX8_person_42 (by omega) (by omega) (hQ _ _ ?_)
            exact ⟨by simp [spPerson, hx, hy], by simp [spPerson, hx, hy, mI_mI, mSA_id]⟩
    · try (exfalso; first | (simp (disch := omega) [inS_ix, inS_N, ixL_N, ix_nI, hx, hy, ixL_i] at c16 <;> omega) | (simp (disch := omega) only [h0, h1, h3, Int32.le_iff_toInt_le, Int32.lt_iff_toInt_lt, ← Int32.toInt_inj, nI_toInt, Int32.toInt_zero, m1_toInt, Int64.le_iff_toInt_le, Int64.lt_iff_toInt_lt, ← Int64.toInt_inj, pk_lT, i64_toInt, Int64.toInt_zero, eq_self, not_true_eq_false, not_false_eq_true] at c16 <;> omega) | omega)
      all_goals
        skip
        refine x_aload_n dX8_person_19 rfl ?_
        refine x_iconst (v := nI 2) rfl dX8_person_20 ?_
        refine x_callV1 lk_X8_327 (m_refuse _) ho dX8_person_21 rfl (Nat.le_of_ble_eq_true rfl) (by omega) (by decide) (by omega) (by omega) ?_
        refine x_iret hr rfl dX8_person_24 (by omega) (by omega) (hQ _ _ ?_)
        exact ⟨by simp [spPerson, hx, hy], by simp [spPerson, hx, hy, mI_mI, mSA_id]⟩
  · skip
    refine CT.of (ini := false) (by decide +kernel) q1937 q164 (Nat.le_of_ble_eq_true rfl) (by decide) ?_
    intro Γ hw ho hL hr hh hini hal hd hmc hms hQ
    subst hw
    show AW Γ cX8_person 0 0 0 [some (.ref 32), some (.int (nI t)), some (.int (nI 3))] [] (hM M R)
    have h0 := hF.c0
    have h1 := hF.c1
    have h3 := hF.c3
    have l0 := hF.l0
    have l1 := hF.l1
    have l3 := hF.l3
    refine x_aload_n dX8_person_0 rfl ?_
    refine x_iconst (v := nI 0) rfl dX8_person_1 ?_
    refine m_puti (k := 1) (pf_X8_70 (ini := false)) ho hini dX8_person_2 rfl rfl (by decide) (ms_1 _ _) ?_
    refine x_aload_n dX8_person_5 rfl ?_
    refine x_iconst (v := nI 0) rfl dX8_person_6 ?_
    refine m_puti (k := 0) (pf_X8_73 (ini := false)) ho hini dX8_person_7 rfl rfl (by decide) (ms_0 _ _) ?_
    refine x_aload_n dX8_person_10 rfl ?_
    refine x_iload_n dX8_person_11 rfl ?_
    refine x_i2lN (by omega) dX8_person_12 ?_
    refine x_callV1 lk_X8_336 (m_isPersonAt (M := (mI (mI M 1 (nI 0)) 0 (nI 0))) hF _) ho dX8_person_13 rfl (Nat.le_of_ble_eq_true rfl) (by omega) (by decide) (by omega) (by omega) ?_
    refine x_ifb_ne (tgt := 25) dX8_person_16 (by decide) (fun c16 => ?_) (fun c16 => ?_)
    · try (exfalso; first | (simp (disch := omega) [inS_ix, inS_N, ixL_N, ix_nI, hx, hy, ixL_i] at c16 <;> omega) | (simp (disch := omega) only [h0, h1, h3, Int32.le_iff_toInt_le, Int32.lt_iff_toInt_lt, ← Int32.toInt_inj, nI_toInt, Int32.toInt_zero, m1_toInt, Int64.le_iff_toInt_le, Int64.lt_iff_toInt_lt, ← Int64.toInt_inj, pk_lT, i64_toInt, Int64.toInt_zero, eq_self, not_true_eq_false, not_false_eq_true] at c16 <;> omega) | omega)
      all_goals
        skip
        refine x_iload_n dX8_person_25 rfl ?_
        refine x_i2lN (by omega) dX8_person_26 ?_
        refine x_lconst (v := lN 0) rfl dX8_person_27 ?_
        refine x_ldc2 (v := lN 4) ho q1942 dX8_person_28 ?_
        refine x_callS3 lk_X8_105 (m_isIn _ _ _) ho dX8_person_31 (Nat.le_of_ble_eq_true rfl) (by omega) (by decide) (by omega) (by omega) ?_
        refine x_ifb_ne (tgt := 43) dX8_person_34 (by decide) (fun c34 => ?_) (fun c34 => ?_)
        · try (exfalso; first | (simp (disch := omega) [inS_ix, inS_N, ixL_N, ix_nI, hx, hy, ixL_i] at c34 <;> omega) | (simp (disch := omega) only [h0, h1, h3, Int32.le_iff_toInt_le, Int32.lt_iff_toInt_lt, ← Int32.toInt_inj, nI_toInt, Int32.toInt_zero, m1_toInt, Int64.le_iff_toInt_le, Int64.lt_iff_toInt_lt, ← Int64.toInt_inj, pk_lT, i64_toInt, Int64.toInt_zero, eq_self, not_true_eq_false, not_false_eq_true] at c16 c34 <;> omega) | omega)
          all_goals
            skip
            refine x_iload_n dX8_person_43 rfl ?_
            refine x_iconst (v := nI 2) rfl dX8_person_44 ?_
            refine x_icmp_ne (tgt := 54) dX8_person_45 (by decide) (fun c45 => ?_) (fun c45 => ?_)
            · try (exfalso; first | (simp (disch := omega) [inS_ix, inS_N, ixL_N, ix_nI, hx, hy, ixL_i] at c45 <;> omega) | (simp (disch := omega) only [h0, h1, h3, Int32.le_iff_toInt_le, Int32.lt_iff_toInt_lt, ← Int32.toInt_inj, nI_toInt, Int32.toInt_zero, m1_toInt, Int64.le_iff_toInt_le, Int64.lt_iff_toInt_lt, ← Int64.toInt_inj, pk_lT, i64_toInt, Int64.toInt_zero, eq_self, not_true_eq_false, not_false_eq_true] at c16 c34 c45 <;> omega) | omega)
              all_goals
                skip
                refine x_iload_n dX8_person_54 rfl ?_
                refine x_iconst (v := nI 4) rfl dX8_person_55 ?_
                refine x_icmp_ne (tgt := 69) dX8_person_56 (by decide) (fun c56 => ?_) (fun c56 => ?_)
                · try (exfalso; first | (simp (disch := omega) [inS_ix, inS_N, ixL_N, ix_nI, hx, hy, ixL_i] at c56 <;> omega) | (simp (disch := omega) only [h0, h1, h3, Int32.le_iff_toInt_le, Int32.lt_iff_toInt_lt, ← Int32.toInt_inj, nI_toInt, Int32.toInt_zero, m1_toInt, Int64.le_iff_toInt_le, Int64.lt_iff_toInt_lt, ← Int64.toInt_inj, pk_lT, i64_toInt, Int64.toInt_zero, eq_self, not_true_eq_false, not_false_eq_true] at c16 c34 c45 c56 <;> omega) | omega)
                  all_goals
                    skip
                    refine x_aload_n dX8_person_69 rfl ?_
                    refine x_getf gf_X8_35 ho dX8_person_70 rfl rfl ?_
                    refine x_iload_n dX8_person_73 rfl ?_
                    refine x_if_ne (tgt := 82) dX8_person_74 (by decide) (fun c74 => ?_) (fun c74 => ?_)
                    · try (exfalso; first | (simp (disch := omega) [inS_ix, inS_N, ixL_N, ix_nI, hx, hy, ixL_i] at c74 <;> omega) | (simp (disch := omega) only [h0, h1, h3, Int32.le_iff_toInt_le, Int32.lt_iff_toInt_lt, ← Int32.toInt_inj, nI_toInt, Int32.toInt_zero, m1_toInt, Int64.le_iff_toInt_le, Int64.lt_iff_toInt_lt, ← Int64.toInt_inj, pk_lT, i64_toInt, Int64.toInt_zero, eq_self, not_true_eq_false, not_false_eq_true] at c16 c34 c45 c56 c74 <;> omega) | omega)
                      all_goals
                        skip
                        refine x_iload_n dX8_person_82 rfl ?_
                        refine x_iconst (v := nI 1) rfl dX8_person_83 ?_
                        refine x_icmp_ne (tgt := 92) dX8_person_84 (by decide) (fun c84 => ?_) (fun c84 => ?_)
                        · try (exfalso; first | (simp (disch := omega) [inS_ix, inS_N, ixL_N, ix_nI, hx, hy, ixL_i] at c84 <;> omega) | (simp (disch := omega) only [h0, h1, h3, Int32.le_iff_toInt_le, Int32.lt_iff_toInt_lt, ← Int32.toInt_inj, nI_toInt, Int32.toInt_zero, m1_toInt, Int64.le_iff_toInt_le, Int64.lt_iff_toInt_lt, ← Int64.toInt_inj, pk_lT, i64_toInt, Int64.toInt_zero, eq_self, not_true_eq_false, not_false_eq_true] at c16 c34 c45 c56 c74 c84 <;> omega) | omega)
                          all_goals
                            skip
                            refine x_bipush (v := nI 26) rfl dX8_person_92 ?_
                            refine x_iload_n dX8_person_94 rfl ?_
                            refine x_iaddN dX8_person_95 ?_
                            refine x_iald dX8_person_96 rfl (by first | rfl | exact nI_add _ _ | (simp only [nI_add, pk_mul]; rfl)) (by omega) (by decide) ?_
                            refine x_iret hr rfl dX8_person_97 (by omega) (by omega) (hQ _ _ ?_)
                            exact ⟨by simp [spPerson, hx, hy], by simp [spPerson, hx, hy, mI_mI, mSA_id]⟩
                        · try (exfalso; first | (simp (disch := omega) [inS_ix, inS_N, ixL_N, ix_nI, hx, hy, ixL_i] at c84 <;> omega) | (simp (disch := omega) only [h0, h1, h3, Int32.le_iff_toInt_le, Int32.lt_iff_toInt_lt, ← Int32.toInt_inj, nI_toInt, Int32.toInt_zero, m1_toInt, Int64.le_iff_toInt_le, Int64.lt_iff_toInt_lt, ← Int64.toInt_inj, pk_lT, i64_toInt, Int64.toInt_zero, eq_self, not_true_eq_false, not_false_eq_true] at c16 c34 c45 c56 c74 c84 <;> omega) | omega)
                          all_goals
                            skip
                            refine x_bipush (v := nI 19) rfl dX8_person_87 ?_
                            refine x_goto (tgt := 94) dX8_person_89 (by decide) ?_
                            refine x_iload_n dX8_person_94 rfl ?_
                            refine x_iaddN dX8_person_95 ?_
                            refine x_iald dX8_person_96 rfl (by first | rfl | exact nI_add _ _ | (simp only [nI_add, pk_mul]; rfl)) (by omega) (by decide) ?_
                            refine x_iret hr rfl dX8_person_97 (by omega) (by omega) (hQ _ _ ?_)
                            exact ⟨by simp [spPerson, hx, hy], by simp [spPerson, hx, hy, mI_mI, mSA_id]⟩
                    · try (exfalso; first | (simp (disch := omega) [inS_ix, inS_N, ixL_N, ix_nI, hx, hy, ixL_i] at c74 <;> omega) | (simp (disch := omega) only [h0, h1, h3, Int32.le_iff_toInt_le, Int32.lt_iff_toInt_lt, ← Int32.toInt_inj, nI_toInt, Int32.toInt_zero, m1_toInt, Int64.le_iff_toInt_le, Int64.lt_iff_toInt_lt, ← Int64.toInt_inj, pk_lT, i64_toInt, Int64.toInt_zero, eq_self, not_true_eq_false, not_false_eq_true] at c16 c34 c45 c56 c74 <;> omega) | omega)
                      all_goals
                        skip
                        refine x_bipush (v := nI 12) rfl dX8_person_77 ?_
                        refine x_goto (tgt := 94) dX8_person_79 (by decide) ?_
                        refine x_iload_n dX8_person_94 rfl ?_
                        refine x_iaddN dX8_person_95 ?_
                        refine x_iald dX8_person_96 rfl (by first | rfl | exact nI_add _ _ | (simp only [nI_add, pk_mul]; rfl)) (by omega) (by decide) ?_
                        refine x_iret hr rfl dX8_person_97 (by omega) (by omega) (hQ _ _ ?_)
                        exact ⟨by simp [spPerson, hx, hy], by simp [spPerson, hx, hy, mI_mI, mSA_id]⟩
                · try (exfalso; first | (simp (disch := omega) [inS_ix, inS_N, ixL_N, ix_nI, hx, hy, ixL_i] at c56 <;> omega) | (simp (disch := omega) only [h0, h1, h3, Int32.le_iff_toInt_le, Int32.lt_iff_toInt_lt, ← Int32.toInt_inj, nI_toInt, Int32.toInt_zero, m1_toInt, Int64.le_iff_toInt_le, Int64.lt_iff_toInt_lt, ← Int64.toInt_inj, pk_lT, i64_toInt, Int64.toInt_zero, eq_self, not_true_eq_false, not_false_eq_true] at c16 c34 c45 c56 <;> omega) | omega)
                  all_goals
                    skip
                    refine x_aload_n dX8_person_59 rfl ?_
                    refine x_aload_n dX8_person_60 rfl ?_
                    refine x_iload_n dX8_person_61 rfl ?_
                    refine x_callV1 lk_X8_341 (m_tinsOn (M := (mI (mI M 1 (nI 0)) 0 (nI 0))) hF _) ho dX8_person_62 rfl (Nat.le_of_ble_eq_true rfl) (by omega) (by decide) (by omega) (by omega) ?_
                    refine x_callV1 lk_X8_322 (m_worthAll (M := (mI (mI M 1 (nI 0)) 0 (nI 0))) hF _) ho dX8_person_65 rfl (Nat.le_of_ble_eq_true rfl) (by omega) (by decide) (by omega) (by omega) ?_
                    refine x_iret hr rfl dX8_person_68 (by omega) (by omega) (hQ _ _ ?_)
                    exact ⟨by simp [spPerson, hx, hy], by simp [spPerson, hx, hy, mI_mI, mSA_id]⟩
            · try (exfalso; first | (simp (disch := omega) [inS_ix, inS_N, ixL_N, ix_nI, hx, hy, ixL_i] at c45 <;> omega) | (simp (disch := omega) only [h0, h1, h3, Int32.le_iff_toInt_le, Int32.lt_iff_toInt_lt, ← Int32.toInt_inj, nI_toInt, Int32.toInt_zero, m1_toInt, Int64.le_iff_toInt_le, Int64.lt_iff_toInt_lt, ← Int64.toInt_inj, pk_lT, i64_toInt, Int64.toInt_zero, eq_self, not_true_eq_false, not_false_eq_true] at c16 c34 c45 <;> omega) | omega)
              all_goals
                skip
                refine x_aload_n dX8_person_48 rfl ?_
                refine x_iload_n dX8_person_49 rfl ?_
                refine x_callV1 lk_X8_341 (m_tinsOn (M := (mI (mI M 1 (nI 0)) 0 (nI 0))) hF _) ho dX8_person_50 rfl (Nat.le_of_ble_eq_true rfl) (by omega) (by decide) (by omega) (by omega) ?_
                refine x_iret hr rfl dX8_person_53 (by omega) (by omega) (hQ _ _ ?_)
                exact ⟨by simp [spPerson, hx, hy], by simp [spPerson, hx, hy, mI_mI, mSA_id]⟩
        · try (exfalso; first | (simp (disch := omega) [inS_ix, inS_N, ixL_N, ix_nI, hx, hy, ixL_i] at c34 <;> omega) | (simp (disch := omega) only [h0, h1, h3, Int32.le_iff_toInt_le, Int32.lt_iff_toInt_lt, ← Int32.toInt_inj, nI_toInt, Int32.toInt_zero, m1_toInt, Int64.le_iff_toInt_le, Int64.lt_iff_toInt_lt, ← Int64.toInt_inj, pk_lT, i64_toInt, Int64.toInt_zero, eq_self, not_true_eq_false, not_false_eq_true] at c16 c34 <;> omega) | omega)
          all_goals
            skip
            refine x_aload_n dX8_person_37 rfl ?_
            refine x_iconst (v := nI 5) rfl dX8_person_38 ?_
            refine x_callV1 lk_X8_327 (m_refuse _) ho dX8_person_39 rfl (Nat.le_of_ble_eq_true rfl) (by omega) (by decide) (by omega) (by omega) ?_
            refine x_iret hr rfl dX8_person_42 (by omega) (by omega) (hQ _ _ ?_)
            exact ⟨by simp [spPerson, hx, hy], by simp [spPerson, hx, hy, mI_mI, mSA_id]⟩
    · try (exfalso; first | (simp (disch := omega) [inS_ix, inS_N, ixL_N, ix_nI, hx, hy, ixL_i] at c16 <;> omega) | (simp (disch := omega) only [h0, h1, h3, Int32.le_iff_toInt_le, Int32.lt_iff_toInt_lt, ← Int32.toInt_inj, nI_toInt, Int32.toInt_zero, m1_toInt, Int64.le_iff_toInt_le, Int64.lt_iff_toInt_lt, ← Int64.toInt_inj, pk_lT, i64_toInt, Int64.toInt_zero, eq_self, not_true_eq_false, not_false_eq_true] at c16 <;> omega) | omega)
      all_goals
        skip
        refine x_aload_n dX8_person_19 rfl ?_
        refine x_iconst (v := nI 2) rfl dX8_person_20 ?_
        refine x_callV1 lk_X8_327 (m_refuse _) ho dX8_person_21 rfl (Nat.le_of_ble_eq_true rfl) (by omega) (by decide) (by omega) (by omega) ?_
        refine x_iret hr rfl dX8_person_24 (by omega) (by omega) (hQ _ _ ?_)
        exact ⟨by simp [spPerson, hx, hy], by simp [spPerson, hx, hy, mI_mI, mSA_id]⟩
  · skip
    refine CT.of (ini := false) (by decide +kernel) q1937 q164 (Nat.le_of_ble_eq_true rfl) (by decide) ?_
    intro Γ hw ho hL hr hh hini hal hd hmc hms hQ
    subst hw
    show AW Γ cX8_person 0 0 0 [some (.ref 32), some (.int (nI t)), some (.int (nI 4))] [] (hM M R)
    have h0 := hF.c0
    have h1 := hF.c1
    have h3 := hF.c3
    have l0 := hF.l0
    have l1 := hF.l1
    have l3 := hF.l3
    refine x_aload_n dX8_person_0 rfl ?_
    refine x_iconst (v := nI 0) rfl dX8_person_1 ?_
    refine m_puti (k := 1) (pf_X8_70 (ini := false)) ho hini dX8_person_2 rfl rfl (by decide) (ms_1 _ _) ?_
    refine x_aload_n dX8_person_5 rfl ?_
    refine x_iconst (v := nI 0) rfl dX8_person_6 ?_
    refine m_puti (k := 0) (pf_X8_73 (ini := false)) ho hini dX8_person_7 rfl rfl (by decide) (ms_0 _ _) ?_
    refine x_aload_n dX8_person_10 rfl ?_
    refine x_iload_n dX8_person_11 rfl ?_
    refine x_i2lN (by omega) dX8_person_12 ?_
    refine x_callV1 lk_X8_336 (m_isPersonAt (M := (mI (mI M 1 (nI 0)) 0 (nI 0))) hF _) ho dX8_person_13 rfl (Nat.le_of_ble_eq_true rfl) (by omega) (by decide) (by omega) (by omega) ?_
    refine x_ifb_ne (tgt := 25) dX8_person_16 (by decide) (fun c16 => ?_) (fun c16 => ?_)
    · try (exfalso; first | (simp (disch := omega) [inS_ix, inS_N, ixL_N, ix_nI, hx, hy, ixL_i] at c16 <;> omega) | (simp (disch := omega) only [h0, h1, h3, Int32.le_iff_toInt_le, Int32.lt_iff_toInt_lt, ← Int32.toInt_inj, nI_toInt, Int32.toInt_zero, m1_toInt, Int64.le_iff_toInt_le, Int64.lt_iff_toInt_lt, ← Int64.toInt_inj, pk_lT, i64_toInt, Int64.toInt_zero, eq_self, not_true_eq_false, not_false_eq_true] at c16 <;> omega) | omega)
      all_goals
        skip
        refine x_iload_n dX8_person_25 rfl ?_
        refine x_i2lN (by omega) dX8_person_26 ?_
        refine x_lconst (v := lN 0) rfl dX8_person_27 ?_
        refine x_ldc2 (v := lN 4) ho q1942 dX8_person_28 ?_
        refine x_callS3 lk_X8_105 (m_isIn _ _ _) ho dX8_person_31 (Nat.le_of_ble_eq_true rfl) (by omega) (by decide) (by omega) (by omega) ?_
        refine x_ifb_ne (tgt := 43) dX8_person_34 (by decide) (fun c34 => ?_) (fun c34 => ?_)
        · try (exfalso; first | (simp (disch := omega) [inS_ix, inS_N, ixL_N, ix_nI, hx, hy, ixL_i] at c34 <;> omega) | (simp (disch := omega) only [h0, h1, h3, Int32.le_iff_toInt_le, Int32.lt_iff_toInt_lt, ← Int32.toInt_inj, nI_toInt, Int32.toInt_zero, m1_toInt, Int64.le_iff_toInt_le, Int64.lt_iff_toInt_lt, ← Int64.toInt_inj, pk_lT, i64_toInt, Int64.toInt_zero, eq_self, not_true_eq_false, not_false_eq_true] at c16 c34 <;> omega) | omega)
          all_goals
            skip
            refine x_iload_n dX8_person_43 rfl ?_
            refine x_iconst (v := nI 2) rfl dX8_person_44 ?_
            refine x_icmp_ne (tgt := 54) dX8_person_45 (by decide) (fun c45 => ?_) (fun c45 => ?_)
            · try (exfalso; first | (simp (disch := omega) [inS_ix, inS_N, ixL_N, ix_nI, hx, hy, ixL_i] at c45 <;> omega) | (simp (disch := omega) only [h0, h1, h3, Int32.le_iff_toInt_le, Int32.lt_iff_toInt_lt, ← Int32.toInt_inj, nI_toInt, Int32.toInt_zero, m1_toInt, Int64.le_iff_toInt_le, Int64.lt_iff_toInt_lt, ← Int64.toInt_inj, pk_lT, i64_toInt, Int64.toInt_zero, eq_self, not_true_eq_false, not_false_eq_true] at c16 c34 c45 <;> omega) | omega)
              all_goals
                skip
                refine x_iload_n dX8_person_54 rfl ?_
                refine x_iconst (v := nI 4) rfl dX8_person_55 ?_
                refine x_icmp_ne (tgt := 69) dX8_person_56 (by decide) (fun c56 => ?_) (fun c56 => ?_)
                · try (exfalso; first | (simp (disch := omega) [inS_ix, inS_N, ixL_N, ix_nI, hx, hy, ixL_i] at c56 <;> omega) | (simp (disch := omega) only [h0, h1, h3, Int32.le_iff_toInt_le, Int32.lt_iff_toInt_lt, ← Int32.toInt_inj, nI_toInt, Int32.toInt_zero, m1_toInt, Int64.le_iff_toInt_le, Int64.lt_iff_toInt_lt, ← Int64.toInt_inj, pk_lT, i64_toInt, Int64.toInt_zero, eq_self, not_true_eq_false, not_false_eq_true] at c16 c34 c45 c56 <;> omega) | omega)
                  all_goals
                    skip
                    refine x_aload_n dX8_person_69 rfl ?_
                    refine x_getf gf_X8_35 ho dX8_person_70 rfl rfl ?_
                    refine x_iload_n dX8_person_73 rfl ?_
                    refine x_if_ne (tgt := 82) dX8_person_74 (by decide) (fun c74 => ?_) (fun c74 => ?_)
                    · try (exfalso; first | (simp (disch := omega) [inS_ix, inS_N, ixL_N, ix_nI, hx, hy, ixL_i] at c74 <;> omega) | (simp (disch := omega) only [h0, h1, h3, Int32.le_iff_toInt_le, Int32.lt_iff_toInt_lt, ← Int32.toInt_inj, nI_toInt, Int32.toInt_zero, m1_toInt, Int64.le_iff_toInt_le, Int64.lt_iff_toInt_lt, ← Int64.toInt_inj, pk_lT, i64_toInt, Int64.toInt_zero, eq_self, not_true_eq_false, not_false_eq_true] at c16 c34 c45 c56 c74 <;> omega) | omega)
                      all_goals
                        skip
                        refine x_iload_n dX8_person_82 rfl ?_
                        refine x_iconst (v := nI 1) rfl dX8_person_83 ?_
                        refine x_icmp_ne (tgt := 92) dX8_person_84 (by decide) (fun c84 => ?_) (fun c84 => ?_)
                        · try (exfalso; first | (simp (disch := omega) [inS_ix, inS_N, ixL_N, ix_nI, hx, hy, ixL_i] at c84 <;> omega) | (simp (disch := omega) only [h0, h1, h3, Int32.le_iff_toInt_le, Int32.lt_iff_toInt_lt, ← Int32.toInt_inj, nI_toInt, Int32.toInt_zero, m1_toInt, Int64.le_iff_toInt_le, Int64.lt_iff_toInt_lt, ← Int64.toInt_inj, pk_lT, i64_toInt, Int64.toInt_zero, eq_self, not_true_eq_false, not_false_eq_true] at c16 c34 c45 c56 c74 c84 <;> omega) | omega)
                          all_goals
                            skip
                            refine x_bipush (v := nI 26) rfl dX8_person_92 ?_
                            refine x_iload_n dX8_person_94 rfl ?_
                            refine x_iaddN dX8_person_95 ?_
                            refine x_iald dX8_person_96 rfl (by first | rfl | exact nI_add _ _ | (simp only [nI_add, pk_mul]; rfl)) (by omega) (by decide) ?_
                            refine x_iret hr rfl dX8_person_97 (by omega) (by omega) (hQ _ _ ?_)
                            exact ⟨by simp [spPerson, hx, hy], by simp [spPerson, hx, hy, mI_mI, mSA_id]⟩
                        · try (exfalso; first | (simp (disch := omega) [inS_ix, inS_N, ixL_N, ix_nI, hx, hy, ixL_i] at c84 <;> omega) | (simp (disch := omega) only [h0, h1, h3, Int32.le_iff_toInt_le, Int32.lt_iff_toInt_lt, ← Int32.toInt_inj, nI_toInt, Int32.toInt_zero, m1_toInt, Int64.le_iff_toInt_le, Int64.lt_iff_toInt_lt, ← Int64.toInt_inj, pk_lT, i64_toInt, Int64.toInt_zero, eq_self, not_true_eq_false, not_false_eq_true] at c16 c34 c45 c56 c74 c84 <;> omega) | omega)
                          all_goals
                            skip
                            refine x_bipush (v := nI 19) rfl dX8_person_87 ?_
                            refine x_goto (tgt := 94) dX8_person_89 (by decide) ?_
                            refine x_iload_n dX8_person_94 rfl ?_
                            refine x_iaddN dX8_person_95 ?_
                            refine x_iald dX8_person_96 rfl (by first | rfl | exact nI_add _ _ | (simp only [nI_add, pk_mul]; rfl)) (by omega) (by decide) ?_
                            refine x_iret hr rfl dX8_person_97 (by omega) (by omega) (hQ _ _ ?_)
                            exact ⟨by simp [spPerson, hx, hy], by simp [spPerson, hx, hy, mI_mI, mSA_id]⟩
                    · try (exfalso; first | (simp (disch := omega) [inS_ix, inS_N, ixL_N, ix_nI, hx, hy, ixL_i] at c74 <;> omega) | (simp (disch := omega) only [h0, h1, h3, Int32.le_iff_toInt_le, Int32.lt_iff_toInt_lt, ← Int32.toInt_inj, nI_toInt, Int32.toInt_zero, m1_toInt, Int64.le_iff_toInt_le, Int64.lt_iff_toInt_lt, ← Int64.toInt_inj, pk_lT, i64_toInt, Int64.toInt_zero, eq_self, not_true_eq_false, not_false_eq_true] at c16 c34 c45 c56 c74 <;> omega) | omega)
                      all_goals
                        skip
                        refine x_bipush (v := nI 12) rfl dX8_person_77 ?_
                        refine x_goto (tgt := 94) dX8_person_79 (by decide) ?_
                        refine x_iload_n dX8_person_94 rfl ?_
                        refine x_iaddN dX8_person_95 ?_
                        refine x_iald dX8_person_96 rfl (by first | rfl | exact nI_add _ _ | (simp only [nI_add, pk_mul]; rfl)) (by omega) (by decide) ?_
                        refine x_iret hr rfl dX8_person_97 (by omega) (by omega) (hQ _ _ ?_)
                        exact ⟨by simp [spPerson, hx, hy], by simp [spPerson, hx, hy, mI_mI, mSA_id]⟩
                · try (exfalso; first | (simp (disch := omega) [inS_ix, inS_N, ixL_N, ix_nI, hx, hy, ixL_i] at c56 <;> omega) | (simp (disch := omega) only [h0, h1, h3, Int32.le_iff_toInt_le, Int32.lt_iff_toInt_lt, ← Int32.toInt_inj, nI_toInt, Int32.toInt_zero, m1_toInt, Int64.le_iff_toInt_le, Int64.lt_iff_toInt_lt, ← Int64.toInt_inj, pk_lT, i64_toInt, Int64.toInt_zero, eq_self, not_true_eq_false, not_false_eq_true] at c16 c34 c45 c56 <;> omega) | omega)
                  all_goals
                    skip
                    refine x_aload_n dX8_person_59 rfl ?_
                    refine x_aload_n dX8_person_60 rfl ?_
                    refine x_iload_n dX8_person_61 rfl ?_
                    refine x_callV1 lk_X8_341 (m_tinsOn (M := (mI (mI M 1 (nI 0)) 0 (nI 0))) hF _) ho dX8_person_62 rfl (Nat.le_of_ble_eq_true rfl) (by omega) (by decide) (by omega) (by omega) ?_
                    refine x_callV1 lk_X8_322 (m_worthAll (M := (mI (mI M 1 (nI 0)) 0 (nI 0))) hF _) ho dX8_person_65 rfl (Nat.le_of_ble_eq_true rfl) (by omega) (by decide) (by omega) (by omega) ?_
                    refine x_iret hr rfl dX8_person_68 (by omega) (by omega) (hQ _ _ ?_)
                    exact ⟨by simp [spPerson, hx, hy], by simp [spPerson, hx, hy, mI_mI, mSA_id]⟩
            · try (exfalso; first | (simp (disch := omega) [inS_ix, inS_N, ixL_N, ix_nI, hx, hy, ixL_i] at c45 <;> omega) | (simp (disch := omega) only [h0, h1, h3, Int32.le_iff_toInt_le, Int32.lt_iff_toInt_lt, ← Int32.toInt_inj, nI_toInt, Int32.toInt_zero, m1_toInt, Int64.le_iff_toInt_le, Int64.lt_iff_toInt_lt, ← Int64.toInt_inj, pk_lT, i64_toInt, Int64.toInt_zero, eq_self, not_true_eq_false, not_false_eq_true] at c16 c34 c45 <;> omega) | omega)
              all_goals
                skip
                refine x_aload_n dX8_person_48 rfl ?_
                refine x_iload_n dX8_person_49 rfl ?_
                refine x_callV1 lk_X8_341 (m_tinsOn (M := (mI (mI M 1 (nI 0)) 0 (nI 0))) hF _) ho dX8_person_50 rfl (Nat.le_of_ble_eq_true rfl) (by omega) (by decide) (by omega) (by omega) ?_
                refine x_iret hr rfl dX8_person_53 (by omega) (by omega) (hQ _ _ ?_)
                exact ⟨by simp [spPerson, hx, hy], by simp [spPerson, hx, hy, mI_mI, mSA_id]⟩
        · try (exfalso; first | (simp (disch := omega) [inS_ix, inS_N, ixL_N, ix_nI, hx, hy, ixL_i] at c34 <;> omega) | (simp (disch := omega) only [h0, h1, h3, Int32.le_iff_toInt_le, Int32.lt_iff_toInt_lt, ← Int32.toInt_inj, nI_toInt, Int32.toInt_zero, m1_toInt, Int64.le_iff_toInt_le, Int64.lt_iff_toInt_lt, ← Int64.toInt_inj, pk_lT, i64_toInt, Int64.toInt_zero, eq_self, not_true_eq_false, not_false_eq_true] at c16 c34 <;> omega) | omega)
          all_goals
            skip
            refine x_aload_n dX8_person_37 rfl ?_
            refine x_iconst (v := nI 5) rfl dX8_person_38 ?_
            refine x_callV1 lk_X8_327 (m_refuse _) ho dX8_person_39 rfl (Nat.le_of_ble_eq_true rfl) (by omega) (by decide) (by omega) (by omega) ?_
            refine x_iret hr rfl dX8_person_42 (by omega) (by omega) (hQ _ _ ?_)
            exact ⟨by simp [spPerson, hx, hy], by simp [spPerson, hx, hy, mI_mI, mSA_id]⟩
    · try (exfalso; first | (simp (disch := omega) [inS_ix, inS_N, ixL_N, ix_nI, hx, hy, ixL_i] at c16 <;> omega) | (simp (disch := omega) only [h0, h1, h3, Int32.le_iff_toInt_le, Int32.lt_iff_toInt_lt, ← Int32.toInt_inj, nI_toInt, Int32.toInt_zero, m1_toInt, Int64.le_iff_toInt_le, Int64.lt_iff_toInt_lt, ← Int64.toInt_inj, pk_lT, i64_toInt, Int64.toInt_zero, eq_self, not_true_eq_false, not_false_eq_true] at c16 <;> omega) | omega)
      all_goals
        skip
        refine x_aload_n dX8_person_19 rfl ?_
        refine x_iconst (v := nI 2) rfl dX8_person_20 ?_
        refine x_callV1 lk_X8_327 (m_refuse _) ho dX8_person_21 rfl (Nat.le_of_ble_eq_true rfl) (by omega) (by decide) (by omega) (by omega) ?_
        refine x_iret hr rfl dX8_person_24 (by omega) (by omega) (hQ _ _ ?_)
        exact ⟨by simp [spPerson, hx, hy], by simp [spPerson, hx, hy, mI_mI, mSA_id]⟩
  · skip
    refine CT.of (ini := false) (by decide +kernel) q1937 q164 (Nat.le_of_ble_eq_true rfl) (by decide) ?_
    intro Γ hw ho hL hr hh hini hal hd hmc hms hQ
    subst hw
    show AW Γ cX8_person 0 0 0 [some (.ref 32), some (.int p9), some (.int w9)] [] (hM M R)
    have h0 := hF.c0
    have h1 := hF.c1
    have h3 := hF.c3
    have l0 := hF.l0
    have l1 := hF.l1
    have l3 := hF.l3
    refine x_aload_n dX8_person_0 rfl ?_
    refine x_iconst (v := nI 0) rfl dX8_person_1 ?_
    refine m_puti (k := 1) (pf_X8_70 (ini := false)) ho hini dX8_person_2 rfl rfl (by decide) (ms_1 _ _) ?_
    refine x_aload_n dX8_person_5 rfl ?_
    refine x_iconst (v := nI 0) rfl dX8_person_6 ?_
    refine m_puti (k := 0) (pf_X8_73 (ini := false)) ho hini dX8_person_7 rfl rfl (by decide) (ms_0 _ _) ?_
    refine x_aload_n dX8_person_10 rfl ?_
    refine x_iload_n dX8_person_11 rfl ?_
    refine x_i2l dX8_person_12 ?_
    refine x_callV1 lk_X8_336 (m_isPersonAt (M := (mI (mI M 1 (nI 0)) 0 (nI 0))) hF _) ho dX8_person_13 rfl (Nat.le_of_ble_eq_true rfl) (by omega) (by decide) (by omega) (by omega) ?_
    refine x_ifb_ne (tgt := 25) dX8_person_16 (by decide) (fun c16 => ?_) (fun c16 => ?_)
    · try (exfalso; first | (simp (disch := omega) [inS_ix, inS_N, ixL_N, ix_nI, hx, ixL_i] at c16 <;> omega) | (simp (disch := omega) only [h0, h1, h3, Int32.le_iff_toInt_le, Int32.lt_iff_toInt_lt, ← Int32.toInt_inj, nI_toInt, Int32.toInt_zero, m1_toInt, Int64.le_iff_toInt_le, Int64.lt_iff_toInt_lt, ← Int64.toInt_inj, pk_lT, i64_toInt, Int64.toInt_zero, eq_self, not_true_eq_false, not_false_eq_true] at c16 <;> omega) | omega)
      all_goals
        skip
        refine x_iload_n dX8_person_25 rfl ?_
        refine x_i2l dX8_person_26 ?_
        refine x_lconst (v := lN 0) rfl dX8_person_27 ?_
        refine x_ldc2 (v := lN 4) ho q1942 dX8_person_28 ?_
        refine x_callS3 lk_X8_105 (m_isIn _ _ _) ho dX8_person_31 (Nat.le_of_ble_eq_true rfl) (by omega) (by decide) (by omega) (by omega) ?_
        refine x_ifb_ne (tgt := 43) dX8_person_34 (by decide) (fun c34 => ?_) (fun c34 => ?_)
        · try (exfalso; first | (simp (disch := omega) [inS_ix, inS_N, ixL_N, ix_nI, hx, ixL_i] at c34 <;> omega) | (simp (disch := omega) only [h0, h1, h3, Int32.le_iff_toInt_le, Int32.lt_iff_toInt_lt, ← Int32.toInt_inj, nI_toInt, Int32.toInt_zero, m1_toInt, Int64.le_iff_toInt_le, Int64.lt_iff_toInt_lt, ← Int64.toInt_inj, pk_lT, i64_toInt, Int64.toInt_zero, eq_self, not_true_eq_false, not_false_eq_true] at c16 c34 <;> omega) | omega)
          all_goals
            skip
            refine x_iload_n dX8_person_43 rfl ?_
            refine x_iconst (v := nI 2) rfl dX8_person_44 ?_
            refine x_icmp_ne (tgt := 54) dX8_person_45 (by decide) (fun c45 => ?_) (fun c45 => ?_)
            · try (exfalso; first | (simp (disch := omega) [inS_ix, inS_N, ixL_N, ix_nI, hx, ixL_i] at c45 <;> omega) | (simp (disch := omega) only [h0, h1, h3, Int32.le_iff_toInt_le, Int32.lt_iff_toInt_lt, ← Int32.toInt_inj, nI_toInt, Int32.toInt_zero, m1_toInt, Int64.le_iff_toInt_le, Int64.lt_iff_toInt_lt, ← Int64.toInt_inj, pk_lT, i64_toInt, Int64.toInt_zero, eq_self, not_true_eq_false, not_false_eq_true] at c16 c34 c45 <;> omega) | omega)
              all_goals
                skip
                refine x_iload_n dX8_person_54 rfl ?_
                refine x_iconst (v := nI 4) rfl dX8_person_55 ?_
                refine x_icmp_ne (tgt := 69) dX8_person_56 (by decide) (fun c56 => ?_) (fun c56 => ?_)
                · try (exfalso; first | (simp (disch := omega) [inS_ix, inS_N, ixL_N, ix_nI, hx, ixL_i] at c56 <;> omega) | (simp (disch := omega) only [h0, h1, h3, Int32.le_iff_toInt_le, Int32.lt_iff_toInt_lt, ← Int32.toInt_inj, nI_toInt, Int32.toInt_zero, m1_toInt, Int64.le_iff_toInt_le, Int64.lt_iff_toInt_lt, ← Int64.toInt_inj, pk_lT, i64_toInt, Int64.toInt_zero, eq_self, not_true_eq_false, not_false_eq_true] at c16 c34 c45 c56 <;> omega) | omega)
                  all_goals
                    skip
                    refine x_aload_n dX8_person_69 rfl ?_
                    refine x_getf gf_X8_35 ho dX8_person_70 rfl rfl ?_
                    refine x_iload_n dX8_person_73 rfl ?_
                    refine x_if_ne (tgt := 82) dX8_person_74 (by decide) (fun c74 => ?_) (fun c74 => ?_)
                    · try (exfalso; first | (simp (disch := omega) [inS_ix, inS_N, ixL_N, ix_nI, hx, ixL_i] at c74 <;> omega) | (simp (disch := omega) only [h0, h1, h3, Int32.le_iff_toInt_le, Int32.lt_iff_toInt_lt, ← Int32.toInt_inj, nI_toInt, Int32.toInt_zero, m1_toInt, Int64.le_iff_toInt_le, Int64.lt_iff_toInt_lt, ← Int64.toInt_inj, pk_lT, i64_toInt, Int64.toInt_zero, eq_self, not_true_eq_false, not_false_eq_true] at c16 c34 c45 c56 c74 <;> omega) | omega)
                      all_goals
                        skip
                        refine x_iload_n dX8_person_82 rfl ?_
                        refine x_iconst (v := nI 1) rfl dX8_person_83 ?_
                        refine x_icmp_ne (tgt := 92) dX8_person_84 (by decide) (fun c84 => ?_) (fun c84 => ?_)
                        · try (exfalso; first | (simp (disch := omega) [inS_ix, inS_N, ixL_N, ix_nI, hx, ixL_i] at c84 <;> omega) | (simp (disch := omega) only [h0, h1, h3, Int32.le_iff_toInt_le, Int32.lt_iff_toInt_lt, ← Int32.toInt_inj, nI_toInt, Int32.toInt_zero, m1_toInt, Int64.le_iff_toInt_le, Int64.lt_iff_toInt_lt, ← Int64.toInt_inj, pk_lT, i64_toInt, Int64.toInt_zero, eq_self, not_true_eq_false, not_false_eq_true] at c16 c34 c45 c56 c74 c84 <;> omega) | omega)
                          all_goals
                            skip
                            refine x_bipush (v := nI 26) rfl dX8_person_92 ?_
                            refine x_iload_n dX8_person_94 rfl ?_
                            refine x_iadd dX8_person_95 ?_
                            refine x_iald dX8_person_96 rfl (by first | rfl | exact nI_add _ _ | (simp only [nI_add, pk_mul]; rfl)) (by omega) (by decide) ?_
                            refine x_iret hr rfl dX8_person_97 (by omega) (by omega) (hQ _ _ ?_)
                            exact ⟨by simp [spPerson, hx], by simp [spPerson, hx, mI_mI, mSA_id]⟩
                        · try (exfalso; first | (simp (disch := omega) [inS_ix, inS_N, ixL_N, ix_nI, hx, ixL_i] at c84 <;> omega) | (simp (disch := omega) only [h0, h1, h3, Int32.le_iff_toInt_le, Int32.lt_iff_toInt_lt, ← Int32.toInt_inj, nI_toInt, Int32.toInt_zero, m1_toInt, Int64.le_iff_toInt_le, Int64.lt_iff_toInt_lt, ← Int64.toInt_inj, pk_lT, i64_toInt, Int64.toInt_zero, eq_self, not_true_eq_false, not_false_eq_true] at c16 c34 c45 c56 c74 c84 <;> omega) | omega)
                          all_goals
                            skip
                            refine x_bipush (v := nI 19) rfl dX8_person_87 ?_
                            refine x_goto (tgt := 94) dX8_person_89 (by decide) ?_
                            refine x_iload_n dX8_person_94 rfl ?_
                            refine x_iadd dX8_person_95 ?_
                            refine x_iald dX8_person_96 rfl (by first | rfl | exact nI_add _ _ | (simp only [nI_add, pk_mul]; rfl)) (by omega) (by decide) ?_
                            refine x_iret hr rfl dX8_person_97 (by omega) (by omega) (hQ _ _ ?_)
                            exact ⟨by simp [spPerson, hx], by simp [spPerson, hx, mI_mI, mSA_id]⟩
                    · try (exfalso; first | (simp (disch := omega) [inS_ix, inS_N, ixL_N, ix_nI, hx, ixL_i] at c74 <;> omega) | (simp (disch := omega) only [h0, h1, h3, Int32.le_iff_toInt_le, Int32.lt_iff_toInt_lt, ← Int32.toInt_inj, nI_toInt, Int32.toInt_zero, m1_toInt, Int64.le_iff_toInt_le, Int64.lt_iff_toInt_lt, ← Int64.toInt_inj, pk_lT, i64_toInt, Int64.toInt_zero, eq_self, not_true_eq_false, not_false_eq_true] at c16 c34 c45 c56 c74 <;> omega) | omega)
                      all_goals
                        skip
                        refine x_bipush (v := nI 12) rfl dX8_person_77 ?_
                        refine x_goto (tgt := 94) dX8_person_79 (by decide) ?_
                        refine x_iload_n dX8_person_94 rfl ?_
                        refine x_iadd dX8_person_95 ?_
                        refine x_iald dX8_person_96 rfl (by first | rfl | exact nI_add _ _ | (simp only [nI_add, pk_mul]; rfl)) (by omega) (by decide) ?_
                        refine x_iret hr rfl dX8_person_97 (by omega) (by omega) (hQ _ _ ?_)
                        exact ⟨by simp [spPerson, hx], by simp [spPerson, hx, mI_mI, mSA_id]⟩
                · try (exfalso; first | (simp (disch := omega) [inS_ix, inS_N, ixL_N, ix_nI, hx, ixL_i] at c56 <;> omega) | (simp (disch := omega) only [h0, h1, h3, Int32.le_iff_toInt_le, Int32.lt_iff_toInt_lt, ← Int32.toInt_inj, nI_toInt, Int32.toInt_zero, m1_toInt, Int64.le_iff_toInt_le, Int64.lt_iff_toInt_lt, ← Int64.toInt_inj, pk_lT, i64_toInt, Int64.toInt_zero, eq_self, not_true_eq_false, not_false_eq_true] at c16 c34 c45 c56 <;> omega) | omega)
                  all_goals
                    skip
                    refine x_aload_n dX8_person_59 rfl ?_
                    refine x_aload_n dX8_person_60 rfl ?_
                    refine x_iload_n dX8_person_61 rfl ?_
                    refine x_callV1 lk_X8_341 (m_tinsOn (M := (mI (mI M 1 (nI 0)) 0 (nI 0))) hF _) ho dX8_person_62 rfl (Nat.le_of_ble_eq_true rfl) (by omega) (by decide) (by omega) (by omega) ?_
                    refine x_callV1 lk_X8_322 (m_worthAll (M := (mI (mI M 1 (nI 0)) 0 (nI 0))) hF _) ho dX8_person_65 rfl (Nat.le_of_ble_eq_true rfl) (by omega) (by decide) (by omega) (by omega) ?_
                    refine x_iret hr rfl dX8_person_68 (by omega) (by omega) (hQ _ _ ?_)
                    exact ⟨by simp [spPerson, hx], by simp [spPerson, hx, mI_mI, mSA_id]⟩
            · try (exfalso; first | (simp (disch := omega) [inS_ix, inS_N, ixL_N, ix_nI, hx, ixL_i] at c45 <;> omega) | (simp (disch := omega) only [h0, h1, h3, Int32.le_iff_toInt_le, Int32.lt_iff_toInt_lt, ← Int32.toInt_inj, nI_toInt, Int32.toInt_zero, m1_toInt, Int64.le_iff_toInt_le, Int64.lt_iff_toInt_lt, ← Int64.toInt_inj, pk_lT, i64_toInt, Int64.toInt_zero, eq_self, not_true_eq_false, not_false_eq_true] at c16 c34 c45 <;> omega) | omega)
              all_goals
                skip
                refine x_aload_n dX8_person_48 rfl ?_
                refine x_iload_n dX8_person_49 rfl ?_
                refine x_callV1 lk_X8_341 (m_tinsOn (M := (mI (mI M 1 (nI 0)) 0 (nI 0))) hF _) ho dX8_person_50 rfl (Nat.le_of_ble_eq_true rfl) (by omega) (by decide) (by omega) (by omega) ?_
                refine x_iret hr rfl dX8_person_53 (by omega) (by omega) (hQ _ _ ?_)
                exact ⟨by simp [spPerson, hx], by simp [spPerson, hx, mI_mI, mSA_id]⟩
        · try (exfalso; first | (simp (disch := omega) [inS_ix, inS_N, ixL_N, ix_nI, hx, ixL_i] at c34 <;> omega) | (simp (disch := omega) only [h0, h1, h3, Int32.le_iff_toInt_le, Int32.lt_iff_toInt_lt, ← Int32.toInt_inj, nI_toInt, Int32.toInt_zero, m1_toInt, Int64.le_iff_toInt_le, Int64.lt_iff_toInt_lt, ← Int64.toInt_inj, pk_lT, i64_toInt, Int64.toInt_zero, eq_self, not_true_eq_false, not_false_eq_true] at c16 c34 <;> omega) | omega)
          all_goals
            skip
            refine x_aload_n dX8_person_37 rfl ?_
            refine x_iconst (v := nI 5) rfl dX8_person_38 ?_
            refine x_callV1 lk_X8_327 (m_refuse _) ho dX8_person_39 rfl (Nat.le_of_ble_eq_true rfl) (by omega) (by decide) (by omega) (by omega) ?_
            refine x_iret hr rfl dX8_person_42 (by omega) (by omega) (hQ _ _ ?_)
            exact ⟨by simp [spPerson, hx], by simp [spPerson, hx, mI_mI, mSA_id]⟩
    · try (exfalso; first | (simp (disch := omega) [inS_ix, inS_N, ixL_N, ix_nI, hx, ixL_i] at c16 <;> omega) | (simp (disch := omega) only [h0, h1, h3, Int32.le_iff_toInt_le, Int32.lt_iff_toInt_lt, ← Int32.toInt_inj, nI_toInt, Int32.toInt_zero, m1_toInt, Int64.le_iff_toInt_le, Int64.lt_iff_toInt_lt, ← Int64.toInt_inj, pk_lT, i64_toInt, Int64.toInt_zero, eq_self, not_true_eq_false, not_false_eq_true] at c16 <;> omega) | omega)
      all_goals
        skip
        refine x_aload_n dX8_person_19 rfl ?_
        refine x_iconst (v := nI 2) rfl dX8_person_20 ?_
        refine x_callV1 lk_X8_327 (m_refuse _) ho dX8_person_21 rfl (Nat.le_of_ble_eq_true rfl) (by omega) (by decide) (by omega) (by omega) ?_
        refine x_iret hr rfl dX8_person_24 (by omega) (by omega) (hQ _ _ ?_)
        exact ⟨by simp [spPerson, hx], by simp [spPerson, hx, mI_mI, mSA_id]⟩
  · skip
    refine CT.of (ini := false) (by decide +kernel) q1937 q164 (Nat.le_of_ble_eq_true rfl) (by decide) ?_
    intro Γ hw ho hL hr hh hini hal hd hmc hms hQ
    subst hw
    show AW Γ cX8_person 0 0 0 [some (.ref 32), some (.int (nI t)), some (.int w9)] [] (hM M R)
    have h0 := hF.c0
    have h1 := hF.c1
    have h3 := hF.c3
    have l0 := hF.l0
    have l1 := hF.l1
    have l3 := hF.l3
    refine x_aload_n dX8_person_0 rfl ?_
    refine x_iconst (v := nI 0) rfl dX8_person_1 ?_
    refine m_puti (k := 1) (pf_X8_70 (ini := false)) ho hini dX8_person_2 rfl rfl (by decide) (ms_1 _ _) ?_
    refine x_aload_n dX8_person_5 rfl ?_
    refine x_iconst (v := nI 0) rfl dX8_person_6 ?_
    refine m_puti (k := 0) (pf_X8_73 (ini := false)) ho hini dX8_person_7 rfl rfl (by decide) (ms_0 _ _) ?_
    refine x_aload_n dX8_person_10 rfl ?_
    refine x_iload_n dX8_person_11 rfl ?_
    refine x_i2lN (by omega) dX8_person_12 ?_
    refine x_callV1 lk_X8_336 (m_isPersonAt (M := (mI (mI M 1 (nI 0)) 0 (nI 0))) hF _) ho dX8_person_13 rfl (Nat.le_of_ble_eq_true rfl) (by omega) (by decide) (by omega) (by omega) ?_
    refine x_ifb_ne (tgt := 25) dX8_person_16 (by decide) (fun c16 => ?_) (fun c16 => ?_)
    · try (exfalso; first | (simp (disch := omega) [inS_ix, inS_N, ixL_N, ix_nI, hx, hy, ixL_i] at c16 <;> omega) | (simp (disch := omega) only [h0, h1, h3, Int32.le_iff_toInt_le, Int32.lt_iff_toInt_lt, ← Int32.toInt_inj, nI_toInt, Int32.toInt_zero, m1_toInt, Int64.le_iff_toInt_le, Int64.lt_iff_toInt_lt, ← Int64.toInt_inj, pk_lT, i64_toInt, Int64.toInt_zero, eq_self, not_true_eq_false, not_false_eq_true] at c16 <;> omega) | omega)
      all_goals
        skip
        refine x_iload_n dX8_person_25 rfl ?_
        refine x_i2l dX8_person_26 ?_
        refine x_lconst (v := lN 0) rfl dX8_person_27 ?_
        refine x_ldc2 (v := lN 4) ho q1942 dX8_person_28 ?_
        refine x_callS3 lk_X8_105 (m_isIn _ _ _) ho dX8_person_31 (Nat.le_of_ble_eq_true rfl) (by omega) (by decide) (by omega) (by omega) ?_
        refine x_ifb_ne (tgt := 43) dX8_person_34 (by decide) (fun c34 => ?_) (fun c34 => ?_)
        · try (exfalso; first | (simp (disch := omega) [inS_ix, inS_N, ixL_N, ix_nI, hx, hy, ixL_i] at c34 <;> omega) | (simp (disch := omega) only [h0, h1, h3, Int32.le_iff_toInt_le, Int32.lt_iff_toInt_lt, ← Int32.toInt_inj, nI_toInt, Int32.toInt_zero, m1_toInt, Int64.le_iff_toInt_le, Int64.lt_iff_toInt_lt, ← Int64.toInt_inj, pk_lT, i64_toInt, Int64.toInt_zero, eq_self, not_true_eq_false, not_false_eq_true] at c16 c34 <;> omega) | omega)
          all_goals
            skip
            refine x_iload_n dX8_person_43 rfl ?_
            refine x_iconst (v := nI 2) rfl dX8_person_44 ?_
            refine x_icmp_ne (tgt := 54) dX8_person_45 (by decide) (fun c45 => ?_) (fun c45 => ?_)
            · try (exfalso; first | (simp (disch := omega) [inS_ix, inS_N, ixL_N, ix_nI, hx, hy, ixL_i] at c45 <;> omega) | (simp (disch := omega) only [h0, h1, h3, Int32.le_iff_toInt_le, Int32.lt_iff_toInt_lt, ← Int32.toInt_inj, nI_toInt, Int32.toInt_zero, m1_toInt, Int64.le_iff_toInt_le, Int64.lt_iff_toInt_lt, ← Int64.toInt_inj, pk_lT, i64_toInt, Int64.toInt_zero, eq_self, not_true_eq_false, not_false_eq_true] at c16 c34 c45 <;> omega) | omega)
              all_goals
                skip
                refine x_iload_n dX8_person_54 rfl ?_
                refine x_iconst (v := nI 4) rfl dX8_person_55 ?_
                refine x_icmp_ne (tgt := 69) dX8_person_56 (by decide) (fun c56 => ?_) (fun c56 => ?_)
                · try (exfalso; first | (simp (disch := omega) [inS_ix, inS_N, ixL_N, ix_nI, hx, hy, ixL_i] at c56 <;> omega) | (simp (disch := omega) only [h0, h1, h3, Int32.le_iff_toInt_le, Int32.lt_iff_toInt_lt, ← Int32.toInt_inj, nI_toInt, Int32.toInt_zero, m1_toInt, Int64.le_iff_toInt_le, Int64.lt_iff_toInt_lt, ← Int64.toInt_inj, pk_lT, i64_toInt, Int64.toInt_zero, eq_self, not_true_eq_false, not_false_eq_true] at c16 c34 c45 c56 <;> omega) | omega)
                  all_goals
                    skip
                    refine x_aload_n dX8_person_69 rfl ?_
                    refine x_getf gf_X8_35 ho dX8_person_70 rfl rfl ?_
                    refine x_iload_n dX8_person_73 rfl ?_
                    refine x_if_ne (tgt := 82) dX8_person_74 (by decide) (fun c74 => ?_) (fun c74 => ?_)
                    · try (exfalso; first | (simp (disch := omega) [inS_ix, inS_N, ixL_N, ix_nI, hx, hy, ixL_i] at c74 <;> omega) | (simp (disch := omega) only [h0, h1, h3, Int32.le_iff_toInt_le, Int32.lt_iff_toInt_lt, ← Int32.toInt_inj, nI_toInt, Int32.toInt_zero, m1_toInt, Int64.le_iff_toInt_le, Int64.lt_iff_toInt_lt, ← Int64.toInt_inj, pk_lT, i64_toInt, Int64.toInt_zero, eq_self, not_true_eq_false, not_false_eq_true] at c16 c34 c45 c56 c74 <;> omega) | omega)
                      all_goals
                        skip
                        refine x_iload_n dX8_person_82 rfl ?_
                        refine x_iconst (v := nI 1) rfl dX8_person_83 ?_
                        refine x_icmp_ne (tgt := 92) dX8_person_84 (by decide) (fun c84 => ?_) (fun c84 => ?_)
                        · try (exfalso; first | (simp (disch := omega) [inS_ix, inS_N, ixL_N, ix_nI, hx, hy, ixL_i] at c84 <;> omega) | (simp (disch := omega) only [h0, h1, h3, Int32.le_iff_toInt_le, Int32.lt_iff_toInt_lt, ← Int32.toInt_inj, nI_toInt, Int32.toInt_zero, m1_toInt, Int64.le_iff_toInt_le, Int64.lt_iff_toInt_lt, ← Int64.toInt_inj, pk_lT, i64_toInt, Int64.toInt_zero, eq_self, not_true_eq_false, not_false_eq_true] at c16 c34 c45 c56 c74 c84 <;> omega) | omega)
                          all_goals
                            skip
                            refine x_bipush (v := nI 26) rfl dX8_person_92 ?_
                            refine x_iload_n dX8_person_94 rfl ?_
                            refine x_iaddN dX8_person_95 ?_
                            refine x_iald dX8_person_96 rfl (by first | rfl | exact nI_add _ _ | (simp only [nI_add, pk_mul]; rfl)) (by omega) (by decide) ?_
                            refine x_iret hr rfl dX8_person_97 (by omega) (by omega) (hQ _ _ ?_)
                            exact ⟨by simp [spPerson, hx, hy], by simp [spPerson, hx, hy, mI_mI, mSA_id]⟩
                        · try (exfalso; first | (simp (disch := omega) [inS_ix, inS_N, ixL_N, ix_nI, hx, hy, ixL_i] at c84 <;> omega) | (simp (disch := omega) only [h0, h1, h3, Int32.le_iff_toInt_le, Int32.lt_iff_toInt_lt, ← Int32.toInt_inj, nI_toInt, Int32.toInt_zero, m1_toInt, Int64.le_iff_toInt_le, Int64.lt_iff_toInt_lt, ← Int64.toInt_inj, pk_lT, i64_toInt, Int64.toInt_zero, eq_self, not_true_eq_false, not_false_eq_true] at c16 c34 c45 c56 c74 c84 <;> omega) | omega)
                          all_goals
                            skip
                            refine x_bipush (v := nI 19) rfl dX8_person_87 ?_
                            refine x_goto (tgt := 94) dX8_person_89 (by decide) ?_
                            refine x_iload_n dX8_person_94 rfl ?_
                            refine x_iaddN dX8_person_95 ?_
                            refine x_iald dX8_person_96 rfl (by first | rfl | exact nI_add _ _ | (simp only [nI_add, pk_mul]; rfl)) (by omega) (by decide) ?_
                            refine x_iret hr rfl dX8_person_97 (by omega) (by omega) (hQ _ _ ?_)
                            exact ⟨by simp [spPerson, hx, hy], by simp [spPerson, hx, hy, mI_mI, mSA_id]⟩
                    · try (exfalso; first | (simp (disch := omega) [inS_ix, inS_N, ixL_N, ix_nI, hx, hy, ixL_i] at c74 <;> omega) | (simp (disch := omega) only [h0, h1, h3, Int32.le_iff_toInt_le, Int32.lt_iff_toInt_lt, ← Int32.toInt_inj, nI_toInt, Int32.toInt_zero, m1_toInt, Int64.le_iff_toInt_le, Int64.lt_iff_toInt_lt, ← Int64.toInt_inj, pk_lT, i64_toInt, Int64.toInt_zero, eq_self, not_true_eq_false, not_false_eq_true] at c16 c34 c45 c56 c74 <;> omega) | omega)
                      all_goals
                        skip
                        refine x_bipush (v := nI 12) rfl dX8_person_77 ?_
                        refine x_goto (tgt := 94) dX8_person_79 (by decide) ?_
                        refine x_iload_n dX8_person_94 rfl ?_
                        refine x_iaddN dX8_person_95 ?_
                        refine x_iald dX8_person_96 rfl (by first | rfl | exact nI_add _ _ | (simp only [nI_add, pk_mul]; rfl)) (by omega) (by decide) ?_
                        refine x_iret hr rfl dX8_person_97 (by omega) (by omega) (hQ _ _ ?_)
                        exact ⟨by simp [spPerson, hx, hy], by simp [spPerson, hx, hy, mI_mI, mSA_id]⟩
                · try (exfalso; first | (simp (disch := omega) [inS_ix, inS_N, ixL_N, ix_nI, hx, hy, ixL_i] at c56 <;> omega) | (simp (disch := omega) only [h0, h1, h3, Int32.le_iff_toInt_le, Int32.lt_iff_toInt_lt, ← Int32.toInt_inj, nI_toInt, Int32.toInt_zero, m1_toInt, Int64.le_iff_toInt_le, Int64.lt_iff_toInt_lt, ← Int64.toInt_inj, pk_lT, i64_toInt, Int64.toInt_zero, eq_self, not_true_eq_false, not_false_eq_true] at c16 c34 c45 c56 <;> omega) | omega)
                  all_goals
                    skip
                    refine x_aload_n dX8_person_59 rfl ?_
                    refine x_aload_n dX8_person_60 rfl ?_
                    refine x_iload_n dX8_person_61 rfl ?_
                    refine x_callV1 lk_X8_341 (m_tinsOn (M := (mI (mI M 1 (nI 0)) 0 (nI 0))) hF _) ho dX8_person_62 rfl (Nat.le_of_ble_eq_true rfl) (by omega) (by decide) (by omega) (by omega) ?_
                    refine x_callV1 lk_X8_322 (m_worthAll (M := (mI (mI M 1 (nI 0)) 0 (nI 0))) hF _) ho dX8_person_65 rfl (Nat.le_of_ble_eq_true rfl) (by omega) (by decide) (by omega) (by omega) ?_
                    refine x_iret hr rfl dX8_person_68 (by omega) (by omega) (hQ _ _ ?_)
                    exact ⟨by simp [spPerson, hx, hy], by simp [spPerson, hx, hy, mI_mI, mSA_id]⟩
            · try (exfalso; first | (simp (disch := omega) [inS_ix, inS_N, ixL_N, ix_nI, hx, hy, ixL_i] at c45 <;> omega) | (simp (disch := omega) only [h0, h1, h3, Int32.le_iff_toInt_le, Int32.lt_iff_toInt_lt, ← Int32.toInt_inj, nI_toInt, Int32.toInt_zero, m1_toInt, Int64.le_iff_toInt_le, Int64.lt_iff_toInt_lt, ← Int64.toInt_inj, pk_lT, i64_toInt, Int64.toInt_zero, eq_self, not_true_eq_false, not_false_eq_true] at c16 c34 c45 <;> omega) | omega)
              all_goals
                skip
                refine x_aload_n dX8_person_48 rfl ?_
                refine x_iload_n dX8_person_49 rfl ?_
                refine x_callV1 lk_X8_341 (m_tinsOn (M := (mI (mI M 1 (nI 0)) 0 (nI 0))) hF _) ho dX8_person_50 rfl (Nat.le_of_ble_eq_true rfl) (by omega) (by decide) (by omega) (by omega) ?_
                refine x_iret hr rfl dX8_person_53 (by omega) (by omega) (hQ _ _ ?_)
                exact ⟨by simp [spPerson, hx, hy], by simp [spPerson, hx, hy, mI_mI, mSA_id]⟩
        · try (exfalso; first | (simp (disch := omega) [inS_ix, inS_N, ixL_N, ix_nI, hx, hy, ixL_i] at c34 <;> omega) | (simp (disch := omega) only [h0, h1, h3, Int32.le_iff_toInt_le, Int32.lt_iff_toInt_lt, ← Int32.toInt_inj, nI_toInt, Int32.toInt_zero, m1_toInt, Int64.le_iff_toInt_le, Int64.lt_iff_toInt_lt, ← Int64.toInt_inj, pk_lT, i64_toInt, Int64.toInt_zero, eq_self, not_true_eq_false, not_false_eq_true] at c16 c34 <;> omega) | omega)
          all_goals
            skip
            refine x_aload_n dX8_person_37 rfl ?_
            refine x_iconst (v := nI 5) rfl dX8_person_38 ?_
            refine x_callV1 lk_X8_327 (m_refuse _) ho dX8_person_39 rfl (Nat.le_of_ble_eq_true rfl) (by omega) (by decide) (by omega) (by omega) ?_
            refine x_iret hr rfl dX8_person_42 (by omega) (by omega) (hQ _ _ ?_)
            exact ⟨by simp [spPerson, hx, hy], by simp [spPerson, hx, hy, mI_mI, mSA_id]⟩
    · try (exfalso; first | (simp (disch := omega) [inS_ix, inS_N, ixL_N, ix_nI, hx, hy, ixL_i] at c16 <;> omega) | (simp (disch := omega) only [h0, h1, h3, Int32.le_iff_toInt_le, Int32.lt_iff_toInt_lt, ← Int32.toInt_inj, nI_toInt, Int32.toInt_zero, m1_toInt, Int64.le_iff_toInt_le, Int64.lt_iff_toInt_lt, ← Int64.toInt_inj, pk_lT, i64_toInt, Int64.toInt_zero, eq_self, not_true_eq_false, not_false_eq_true] at c16 <;> omega) | omega)
      all_goals
        skip
        refine x_aload_n dX8_person_19 rfl ?_
        refine x_iconst (v := nI 2) rfl dX8_person_20 ?_
        refine x_callV1 lk_X8_327 (m_refuse _) ho dX8_person_21 rfl (Nat.le_of_ble_eq_true rfl) (by omega) (by decide) (by omega) (by omega) ?_
        refine x_iret hr rfl dX8_person_24 (by omega) (by omega) (hQ _ _ ?_)
        exact ⟨by simp [spPerson, hx, hy], by simp [spPerson, hx, hy, mI_mI, mSA_id]⟩
set_option maxHeartbeats 4000000 in
theorem m_tin {w : xW} {M : mS} {R : xH} {tm pm tn G : Nat} (hF : wF (M.2.2.1 5) tm pm tn G) (p9 w9 : Int32) : CT w yX8_tin cX8_tin 3 (some (.int)) [] false (3) 0 0 [.ref 32, .int p9, .int w9] (hM M R) (xret (some (.int (spTin (M.2.2.1 5) tn p9 w9).1)) (hM (mI (mI M 1 (nI 0)) 0 (nI (spTin (M.2.2.1 5) tn p9 w9).2)) R)) := by
  have l0 := hF.l0
  have l1 := hF.l1
  have l3 := hF.l3
  rcases ix_or p9 (n := tn) (by omega) with ⟨hx, hx2⟩ | ⟨t, ht, rfl, hx⟩
  rotate_left 1
  rcases ix_or w9 (n := 5) (by omega) with ⟨hy, hy2⟩ | ⟨j, hj, rfl, hy⟩
  rotate_left 1
  rcases (show j = 0 ∨ j = 1 ∨ j = 2 ∨ j = 3 ∨ j = 4 by omega) with rfl | rfl | rfl | rfl | rfl
  · skip
    refine CT.of (ini := false) (by decide +kernel) q1950 q164 (Nat.le_of_ble_eq_true rfl) (by decide) ?_
    intro Γ hw ho hL hr hh hini hal hd hmc hms hQ
    subst hw
    show AW Γ cX8_tin 0 0 0 [some (.ref 32), some (.int (nI t)), some (.int (nI 0))] [] (hM M R)
    have h0 := hF.c0
    have h1 := hF.c1
    have h3 := hF.c3
    have l0 := hF.l0
    have l1 := hF.l1
    have l3 := hF.l3
    refine x_aload_n dX8_tin_0 rfl ?_
    refine x_iconst (v := nI 0) rfl dX8_tin_1 ?_
    refine m_puti (k := 1) (pf_X8_70 (ini := false)) ho hini dX8_tin_2 rfl rfl (by decide) (ms_1 _ _) ?_
    refine x_aload_n dX8_tin_5 rfl ?_
    refine x_iconst (v := nI 0) rfl dX8_tin_6 ?_
    refine m_puti (k := 0) (pf_X8_73 (ini := false)) ho hini dX8_tin_7 rfl rfl (by decide) (ms_0 _ _) ?_
    refine x_aload_n dX8_tin_10 rfl ?_
    refine x_iload_n dX8_tin_11 rfl ?_
    refine x_callV1 lk_X8_344 (m_isTinAt (M := (mI (mI M 1 (nI 0)) 0 (nI 0))) hF _) ho dX8_tin_12 rfl (Nat.le_of_ble_eq_true rfl) (by omega) (by decide) (by omega) (by omega) ?_
    refine x_ifb_ne (tgt := 24) dX8_tin_15 (by decide) (fun c15 => ?_) (fun c15 => ?_)
    · try (exfalso; first | (simp (disch := omega) [inS_ix, inS_N, ixL_N, ix_nI, hx, hy] at c15 <;> omega) | (simp (disch := omega) only [h0, h1, h3, Int32.le_iff_toInt_le, Int32.lt_iff_toInt_lt, ← Int32.toInt_inj, nI_toInt, Int32.toInt_zero, m1_toInt, Int64.le_iff_toInt_le, Int64.lt_iff_toInt_lt, ← Int64.toInt_inj, pk_lT, i64_toInt, Int64.toInt_zero, eq_self, not_true_eq_false, not_false_eq_true] at c15 <;> omega) | omega)
      all_goals
        skip
        refine x_iload_n dX8_tin_24 rfl ?_
        refine x_i2lN (by omega) dX8_tin_25 ?_
        refine x_lconst (v := lN 0) rfl dX8_tin_26 ?_
        refine x_ldc2 (v := lN 4) ho q1942 dX8_tin_27 ?_
        refine x_callS3 lk_X8_105 (m_isIn _ _ _) ho dX8_tin_30 (Nat.le_of_ble_eq_true rfl) (by omega) (by decide) (by omega) (by omega) ?_
        refine x_ifb_ne (tgt := 42) dX8_tin_33 (by decide) (fun c33 => ?_) (fun c33 => ?_)
        · try (exfalso; first | (simp (disch := omega) [inS_ix, inS_N, ixL_N, ix_nI, hx, hy] at c33 <;> omega) | (simp (disch := omega) only [h0, h1, h3, Int32.le_iff_toInt_le, Int32.lt_iff_toInt_lt, ← Int32.toInt_inj, nI_toInt, Int32.toInt_zero, m1_toInt, Int64.le_iff_toInt_le, Int64.lt_iff_toInt_lt, ← Int64.toInt_inj, pk_lT, i64_toInt, Int64.toInt_zero, eq_self, not_true_eq_false, not_false_eq_true] at c15 c33 <;> omega) | omega)
          all_goals
            skip
            refine x_iload_n dX8_tin_42 rfl ?_
            refine x_iconst (v := nI 1) rfl dX8_tin_43 ?_
            refine x_icmp_ne (tgt := 74) dX8_tin_44 (by decide) (fun c44 => ?_) (fun c44 => ?_)
            · try (exfalso; first | (simp (disch := omega) [inS_ix, inS_N, ixL_N, ix_nI, hx, hy] at c44 <;> omega) | (simp (disch := omega) only [h0, h1, h3, Int32.le_iff_toInt_le, Int32.lt_iff_toInt_lt, ← Int32.toInt_inj, nI_toInt, Int32.toInt_zero, m1_toInt, Int64.le_iff_toInt_le, Int64.lt_iff_toInt_lt, ← Int64.toInt_inj, pk_lT, i64_toInt, Int64.toInt_zero, eq_self, not_true_eq_false, not_false_eq_true] at c15 c33 c44 <;> omega) | omega)
              all_goals
                skip
                refine x_aload_n dX8_tin_74 rfl ?_
                refine x_getf gf_X8_35 ho dX8_tin_75 rfl rfl ?_
                refine x_iload_n dX8_tin_78 rfl ?_
                refine x_if_ne (tgt := 87) dX8_tin_79 (by decide) (fun c79 => ?_) (fun c79 => ?_)
                · try (exfalso; first | (simp (disch := omega) [inS_ix, inS_N, ixL_N, ix_nI, hx, hy] at c79 <;> omega) | (simp (disch := omega) only [h0, h1, h3, Int32.le_iff_toInt_le, Int32.lt_iff_toInt_lt, ← Int32.toInt_inj, nI_toInt, Int32.toInt_zero, m1_toInt, Int64.le_iff_toInt_le, Int64.lt_iff_toInt_lt, ← Int64.toInt_inj, pk_lT, i64_toInt, Int64.toInt_zero, eq_self, not_true_eq_false, not_false_eq_true] at c15 c33 c44 c79 <;> omega) | omega)
                  all_goals
                    skip
                    refine x_iload_n dX8_tin_87 rfl ?_
                    refine x_iconst (v := nI 2) rfl dX8_tin_88 ?_
                    refine x_icmp_ne (tgt := 97) dX8_tin_89 (by decide) (fun c89 => ?_) (fun c89 => ?_)
                    · try (exfalso; first | (simp (disch := omega) [inS_ix, inS_N, ixL_N, ix_nI, hx, hy] at c89 <;> omega) | (simp (disch := omega) only [h0, h1, h3, Int32.le_iff_toInt_le, Int32.lt_iff_toInt_lt, ← Int32.toInt_inj, nI_toInt, Int32.toInt_zero, m1_toInt, Int64.le_iff_toInt_le, Int64.lt_iff_toInt_lt, ← Int64.toInt_inj, pk_lT, i64_toInt, Int64.toInt_zero, eq_self, not_true_eq_false, not_false_eq_true] at c15 c33 c44 c79 c89 <;> omega) | omega)
                      all_goals
                        skip
                        refine x_iload_n dX8_tin_97 rfl ?_
                        refine x_iconst (v := nI 3) rfl dX8_tin_98 ?_
                        refine x_icmp_ne (tgt := 107) dX8_tin_99 (by decide) (fun c99 => ?_) (fun c99 => ?_)
                        · try (exfalso; first | (simp (disch := omega) [inS_ix, inS_N, ixL_N, ix_nI, hx, hy] at c99 <;> omega) | (simp (disch := omega) only [h0, h1, h3, Int32.le_iff_toInt_le, Int32.lt_iff_toInt_lt, ← Int32.toInt_inj, nI_toInt, Int32.toInt_zero, m1_toInt, Int64.le_iff_toInt_le, Int64.lt_iff_toInt_lt, ← Int64.toInt_inj, pk_lT, i64_toInt, Int64.toInt_zero, eq_self, not_true_eq_false, not_false_eq_true] at c15 c33 c44 c79 c89 c99 <;> omega) | omega)
                          all_goals
                            skip
                            refine x_bipush (v := nI 78) rfl dX8_tin_107 ?_
                            refine x_iload_n dX8_tin_109 rfl ?_
                            refine x_iaddN dX8_tin_110 ?_
                            refine x_iald dX8_tin_111 rfl (by first | rfl | exact nI_add _ _ | (simp only [nI_add, pk_mul]; rfl)) (by omega) (by decide) ?_
                            refine x_iret hr rfl dX8_tin_112 (by omega) (by omega) (hQ _ _ ?_)
                            exact ⟨by simp [spTin, hx, hy], by simp [spTin, hx, hy, mI_mI, mSA_id]⟩
                        · try (exfalso; first | (simp (disch := omega) [inS_ix, inS_N, ixL_N, ix_nI, hx, hy] at c99 <;> omega) | (simp (disch := omega) only [h0, h1, h3, Int32.le_iff_toInt_le, Int32.lt_iff_toInt_lt, ← Int32.toInt_inj, nI_toInt, Int32.toInt_zero, m1_toInt, Int64.le_iff_toInt_le, Int64.lt_iff_toInt_lt, ← Int64.toInt_inj, pk_lT, i64_toInt, Int64.toInt_zero, eq_self, not_true_eq_false, not_false_eq_true] at c15 c33 c44 c79 c89 c99 <;> omega) | omega)
                          all_goals
                            skip
                            refine x_bipush (v := nI 69) rfl dX8_tin_102 ?_
                            refine x_goto (tgt := 109) dX8_tin_104 (by decide) ?_
                            refine x_iload_n dX8_tin_109 rfl ?_
                            refine x_iaddN dX8_tin_110 ?_
                            refine x_iald dX8_tin_111 rfl (by first | rfl | exact nI_add _ _ | (simp only [nI_add, pk_mul]; rfl)) (by omega) (by decide) ?_
                            refine x_iret hr rfl dX8_tin_112 (by omega) (by omega) (hQ _ _ ?_)
                            exact ⟨by simp [spTin, hx, hy], by simp [spTin, hx, hy, mI_mI, mSA_id]⟩
                    · try (exfalso; first | (simp (disch := omega) [inS_ix, inS_N, ixL_N, ix_nI, hx, hy] at c89 <;> omega) | (simp (disch := omega) only [h0, h1, h3, Int32.le_iff_toInt_le, Int32.lt_iff_toInt_lt, ← Int32.toInt_inj, nI_toInt, Int32.toInt_zero, m1_toInt, Int64.le_iff_toInt_le, Int64.lt_iff_toInt_lt, ← Int64.toInt_inj, pk_lT, i64_toInt, Int64.toInt_zero, eq_self, not_true_eq_false, not_false_eq_true] at c15 c33 c44 c79 c89 <;> omega) | omega)
                      all_goals
                        skip
                        refine x_bipush (v := nI 51) rfl dX8_tin_92 ?_
                        refine x_goto (tgt := 109) dX8_tin_94 (by decide) ?_
                        refine x_iload_n dX8_tin_109 rfl ?_
                        refine x_iaddN dX8_tin_110 ?_
                        refine x_iald dX8_tin_111 rfl (by first | rfl | exact nI_add _ _ | (simp only [nI_add, pk_mul]; rfl)) (by omega) (by decide) ?_
                        refine x_iret hr rfl dX8_tin_112 (by omega) (by omega) (hQ _ _ ?_)
                        exact ⟨by simp [spTin, hx, hy], by simp [spTin, hx, hy, mI_mI, mSA_id]⟩
                · try (exfalso; first | (simp (disch := omega) [inS_ix, inS_N, ixL_N, ix_nI, hx, hy] at c79 <;> omega) | (simp (disch := omega) only [h0, h1, h3, Int32.le_iff_toInt_le, Int32.lt_iff_toInt_lt, ← Int32.toInt_inj, nI_toInt, Int32.toInt_zero, m1_toInt, Int64.le_iff_toInt_le, Int64.lt_iff_toInt_lt, ← Int64.toInt_inj, pk_lT, i64_toInt, Int64.toInt_zero, eq_self, not_true_eq_false, not_false_eq_true] at c15 c33 c44 c79 <;> omega) | omega)
                  all_goals
                    skip
                    refine x_bipush (v := nI 33) rfl dX8_tin_82 ?_
                    refine x_goto (tgt := 109) dX8_tin_84 (by decide) ?_
                    refine x_iload_n dX8_tin_109 rfl ?_
                    refine x_iaddN dX8_tin_110 ?_
                    refine x_iald dX8_tin_111 rfl (by first | rfl | exact nI_add _ _ | (simp only [nI_add, pk_mul]; rfl)) (by omega) (by decide) ?_
                    refine x_iret hr rfl dX8_tin_112 (by omega) (by omega) (hQ _ _ ?_)
                    exact ⟨by simp [spTin, hx, hy], by simp [spTin, hx, hy, mI_mI, mSA_id]⟩
            · try (exfalso; first | (simp (disch := omega) [inS_ix, inS_N, ixL_N, ix_nI, hx, hy] at c44 <;> omega) | (simp (disch := omega) only [h0, h1, h3, Int32.le_iff_toInt_le, Int32.lt_iff_toInt_lt, ← Int32.toInt_inj, nI_toInt, Int32.toInt_zero, m1_toInt, Int64.le_iff_toInt_le, Int64.lt_iff_toInt_lt, ← Int64.toInt_inj, pk_lT, i64_toInt, Int64.toInt_zero, eq_self, not_true_eq_false, not_false_eq_true] at c15 c33 c44 <;> omega) | omega)
              all_goals
                skip
                refine x_aload_n dX8_tin_47 rfl ?_
                refine x_iload_n dX8_tin_48 rfl ?_
                refine x_callV1 lk_X8_310 (m_isGone (M := (mI (mI M 1 (nI 0)) 0 (nI 0))) hF _ (by omega)) ho dX8_tin_49 rfl (Nat.le_of_ble_eq_true rfl) (by omega) (by decide) (by omega) (by omega) ?_
                refine x_ifb_eq (tgt := 64) dX8_tin_52 (by decide) (fun c52 => ?_) (fun c52 => ?_)
                · try (exfalso; first | (simp (disch := omega) [inS_ix, inS_N, ixL_N, ix_nI, hx, hy] at c52 <;> omega) | (simp (disch := omega) only [h0, h1, h3, Int32.le_iff_toInt_le, Int32.lt_iff_toInt_lt, ← Int32.toInt_inj, nI_toInt, Int32.toInt_zero, m1_toInt, Int64.le_iff_toInt_le, Int64.lt_iff_toInt_lt, ← Int64.toInt_inj, pk_lT, i64_toInt, Int64.toInt_zero, eq_self, not_true_eq_false, not_false_eq_true] at c15 c33 c44 c52 <;> omega) | omega)
                  all_goals
                    skip
                    refine x_aload_n dX8_tin_64 rfl ?_
                    refine x_getf gf_X8_35 ho dX8_tin_65 rfl rfl ?_
                    refine x_bipush (v := nI 42) rfl dX8_tin_68 ?_
                    refine x_iload_n dX8_tin_70 rfl ?_
                    refine x_iaddN dX8_tin_71 ?_
                    refine x_iald dX8_tin_72 rfl (by first | rfl | exact nI_add _ _ | (simp only [nI_add, pk_mul]; rfl)) (by omega) (by decide) ?_
                    refine x_iret hr rfl dX8_tin_73 (by omega) (by omega) (hQ _ _ ?_)
                    exact ⟨by simp [spTin, hx, hy, c52], by simp [spTin, hx, hy, c52, mI_mI, mSA_id]⟩
                · try (exfalso; first | (simp (disch := omega) [inS_ix, inS_N, ixL_N, ix_nI, hx, hy] at c52 <;> omega) | (simp (disch := omega) only [h0, h1, h3, Int32.le_iff_toInt_le, Int32.lt_iff_toInt_lt, ← Int32.toInt_inj, nI_toInt, Int32.toInt_zero, m1_toInt, Int64.le_iff_toInt_le, Int64.lt_iff_toInt_lt, ← Int64.toInt_inj, pk_lT, i64_toInt, Int64.toInt_zero, eq_self, not_true_eq_false, not_false_eq_true] at c15 c33 c44 c52 <;> omega) | omega)
                  all_goals
                    skip
                    refine x_aload_n dX8_tin_55 rfl ?_
                    refine x_bipush (v := nI 8) rfl dX8_tin_56 ?_
                    refine x_callV1 lk_X8_327 (m_refuse _) ho dX8_tin_58 rfl (Nat.le_of_ble_eq_true rfl) (by omega) (by decide) (by omega) (by omega) ?_
                    refine x_goto (tgt := 73) dX8_tin_61 (by decide) ?_
                    refine x_iret hr rfl dX8_tin_73 (by omega) (by omega) (hQ _ _ ?_)
                    exact ⟨by simp [spTin, hx, hy, c52], by simp [spTin, hx, hy, c52, mI_mI, mSA_id]⟩
        · try (exfalso; first | (simp (disch := omega) [inS_ix, inS_N, ixL_N, ix_nI, hx, hy] at c33 <;> omega) | (simp (disch := omega) only [h0, h1, h3, Int32.le_iff_toInt_le, Int32.lt_iff_toInt_lt, ← Int32.toInt_inj, nI_toInt, Int32.toInt_zero, m1_toInt, Int64.le_iff_toInt_le, Int64.lt_iff_toInt_lt, ← Int64.toInt_inj, pk_lT, i64_toInt, Int64.toInt_zero, eq_self, not_true_eq_false, not_false_eq_true] at c15 c33 <;> omega) | omega)
          all_goals
            skip
            refine x_aload_n dX8_tin_36 rfl ?_
            refine x_iconst (v := nI 5) rfl dX8_tin_37 ?_
            refine x_callV1 lk_X8_327 (m_refuse _) ho dX8_tin_38 rfl (Nat.le_of_ble_eq_true rfl) (by omega) (by decide) (by omega) (by omega) ?_
            refine x_iret hr rfl dX8_tin_41 (by omega) (by omega) (hQ _ _ ?_)
            exact ⟨by simp [spTin, hx, hy], by simp [spTin, hx, hy, mI_mI, mSA_id]⟩
    · try (exfalso; first | (simp (disch := omega) [inS_ix, inS_N, ixL_N, ix_nI, hx, hy] at c15 <;> omega) | (simp (disch := omega) only [h0, h1, h3, Int32.le_iff_toInt_le, Int32.lt_iff_toInt_lt, ← Int32.toInt_inj, nI_toInt, Int32.toInt_zero, m1_toInt, Int64.le_iff_toInt_le, Int64.lt_iff_toInt_lt, ← Int64.toInt_inj, pk_lT, i64_toInt, Int64.toInt_zero, eq_self, not_true_eq_false, not_false_eq_true] at c15 <;> omega) | omega)
      all_goals
        skip
        refine x_aload_n dX8_tin_18 rfl ?_
        refine x_iconst (v := nI 2) rfl dX8_tin_19 ?_
        refine x_callV1 lk_X8_327 (m_refuse _) ho dX8_tin_20 rfl (Nat.le_of_ble_eq_true rfl) (by omega) (by decide) (by omega) (by omega) ?_
        refine x_iret hr rfl dX8_tin_23 (by omega) (by omega) (hQ _ _ ?_)
        exact ⟨by simp [spTin, hx, hy], by simp [spTin, hx, hy, mI_mI, mSA_id]⟩
  · skip
    refine CT.of (ini := false) (by decide +kernel) q1950 q164 (Nat.le_of_ble_eq_true rfl) (by decide) ?_
    intro Γ hw ho hL hr hh hini hal hd hmc hms hQ
    subst hw
    show AW Γ cX8_tin 0 0 0 [some (.ref 32), some (.int (nI t)), some (.int (nI 1))] [] (hM M R)
    have h0 := hF.c0
    have h1 := hF.c1
    have h3 := hF.c3
    have l0 := hF.l0
    have l1 := hF.l1
    have l3 := hF.l3
    refine x_aload_n dX8_tin_0 rfl ?_
    refine x_iconst (v := nI 0) rfl dX8_tin_1 ?_
    refine m_puti (k := 1) (pf_X8_70 (ini := false)) ho hini dX8_tin_2 rfl rfl (by decide) (ms_1 _ _) ?_
    refine x_aload_n dX8_tin_5 rfl ?_
    refine x_iconst (v := nI 0) rfl dX8_tin_6 ?_
    refine m_puti (k := 0) (pf_X8_73 (ini := false)) ho hini dX8_tin_7 rfl rfl (by decide) (ms_0 _ _) ?_
    refine x_aload_n dX8_tin_10 rfl ?_
    refine x_iload_n dX8_tin_11 rfl ?_
    refine x_callV1 lk_X8_344 (m_isTinAt (M := (mI (mI M 1 (nI 0)) 0 (nI 0))) hF _) ho dX8_tin_12 rfl (Nat.le_of_ble_eq_true rfl) (by omega) (by decide) (by omega) (by omega) ?_
    refine x_ifb_ne (tgt := 24) dX8_tin_15 (by decide) (fun c15 => ?_) (fun c15 => ?_)
    · try (exfalso; first | (simp (disch := omega) [inS_ix, inS_N, ixL_N, ix_nI, hx, hy] at c15 <;> omega) | (simp (disch := omega) only [h0, h1, h3, Int32.le_iff_toInt_le, Int32.lt_iff_toInt_lt, ← Int32.toInt_inj, nI_toInt, Int32.toInt_zero, m1_toInt, Int64.le_iff_toInt_le, Int64.lt_iff_toInt_lt, ← Int64.toInt_inj, pk_lT, i64_toInt, Int64.toInt_zero, eq_self, not_true_eq_false, not_false_eq_true] at c15 <;> omega) | omega)
      all_goals
        skip
        refine x_iload_n dX8_tin_24 rfl ?_
        refine x_i2lN (by omega) dX8_tin_25 ?_
        refine x_lconst (v := lN 0) rfl dX8_tin_26 ?_
        refine x_ldc2 (v := lN 4) ho q1942 dX8_tin_27 ?_
        refine x_callS3 lk_X8_105 (m_isIn _ _ _) ho dX8_tin_30 (Nat.le_of_ble_eq_true rfl) (by omega) (by decide) (by omega) (by omega) ?_
        refine x_ifb_ne (tgt := 42) dX8_tin_33 (by decide) (fun c33 => ?_) (fun c33 => ?_)
        · try (exfalso; first | (simp (disch := omega) [inS_ix, inS_N, ixL_N, ix_nI, hx, hy] at c33 <;> omega) | (simp (disch := omega) only [h0, h1, h3, Int32.le_iff_toInt_le, Int32.lt_iff_toInt_lt, ← Int32.toInt_inj, nI_toInt, Int32.toInt_zero, m1_toInt, Int64.le_iff_toInt_le, Int64.lt_iff_toInt_lt, ← Int64.toInt_inj, pk_lT, i64_toInt, Int64.toInt_zero, eq_self, not_true_eq_false, not_false_eq_true] at c15 c33 <;> omega) | omega)
          all_goals
            skip
            refine x_iload_n dX8_tin_42 rfl ?_
            refine x_iconst (v := nI 1) rfl dX8_tin_43 ?_
            refine x_icmp_ne (tgt := 74) dX8_tin_44 (by decide) (fun c44 => ?_) (fun c44 => ?_)
            · try (exfalso; first | (simp (disch := omega) [inS_ix, inS_N, ixL_N, ix_nI, hx, hy] at c44 <;> omega) | (simp (disch := omega) only [h0, h1, h3, Int32.le_iff_toInt_le, Int32.lt_iff_toInt_lt, ← Int32.toInt_inj, nI_toInt, Int32.toInt_zero, m1_toInt, Int64.le_iff_toInt_le, Int64.lt_iff_toInt_lt, ← Int64.toInt_inj, pk_lT, i64_toInt, Int64.toInt_zero, eq_self, not_true_eq_false, not_false_eq_true] at c15 c33 c44 <;> omega) | omega)
              all_goals
                skip
                refine x_aload_n dX8_tin_74 rfl ?_
                refine x_getf gf_X8_35 ho dX8_tin_75 rfl rfl ?_
                refine x_iload_n dX8_tin_78 rfl ?_
                refine x_if_ne (tgt := 87) dX8_tin_79 (by decide) (fun c79 => ?_) (fun c79 => ?_)
                · try (exfalso; first | (simp (disch := omega) [inS_ix, inS_N, ixL_N, ix_nI, hx, hy] at c79 <;> omega) | (simp (disch := omega) only [h0, h1, h3, Int32.le_iff_toInt_le, Int32.lt_iff_toInt_lt, ← Int32.toInt_inj, nI_toInt, Int32.toInt_zero, m1_toInt, Int64.le_iff_toInt_le, Int64.lt_iff_toInt_lt, ← Int64.toInt_inj, pk_lT, i64_toInt, Int64.toInt_zero, eq_self, not_true_eq_false, not_false_eq_true] at c15 c33 c44 c79 <;> omega) | omega)
                  all_goals
                    skip
                    refine x_iload_n dX8_tin_87 rfl ?_
                    refine x_iconst (v := nI 2) rfl dX8_tin_88 ?_
                    refine x_icmp_ne (tgt := 97) dX8_tin_89 (by decide) (fun c89 => ?_) (fun c89 => ?_)
                    · try (exfalso; first | (simp (disch := omega) [inS_ix, inS_N, ixL_N, ix_nI, hx, hy] at c89 <;> omega) | (simp (disch := omega) only [h0, h1, h3, Int32.le_iff_toInt_le, Int32.lt_iff_toInt_lt, ← Int32.toInt_inj, nI_toInt, Int32.toInt_zero, m1_toInt, Int64.le_iff_toInt_le, Int64.lt_iff_toInt_lt, ← Int64.toInt_inj, pk_lT, i64_toInt, Int64.toInt_zero, eq_self, not_true_eq_false, not_false_eq_true] at c15 c33 c44 c79 c89 <;> omega) | omega)
                      all_goals
                        skip
                        refine x_iload_n dX8_tin_97 rfl ?_
                        refine x_iconst (v := nI 3) rfl dX8_tin_98 ?_
                        refine x_icmp_ne (tgt := 107) dX8_tin_99 (by decide) (fun c99 => ?_) (fun c99 => ?_)
                        · try (exfalso; first | (simp (disch := omega) [inS_ix, inS_N, ixL_N, ix_nI, hx, hy] at c99 <;> omega) | (simp (disch := omega) only [h0, h1, h3, Int32.le_iff_toInt_le, Int32.lt_iff_toInt_lt, ← Int32.toInt_inj, nI_toInt, Int32.toInt_zero, m1_toInt, Int64.le_iff_toInt_le, Int64.lt_iff_toInt_lt, ← Int64.toInt_inj, pk_lT, i64_toInt, Int64.toInt_zero, eq_self, not_true_eq_false, not_false_eq_true] at c15 c33 c44 c79 c89 c99 <;> omega) | omega)
                          all_goals
                            skip
                            refine x_bipush (v := nI 78) rfl dX8_tin_107 ?_
                            refine x_iload_n dX8_tin_109 rfl ?_
                            refine x_iaddN dX8_tin_110 ?_
                            refine x_iald dX8_tin_111 rfl (by first | rfl | exact nI_add _ _ | (simp only [nI_add, pk_mul]; rfl)) (by omega) (by decide) ?_
                            refine x_iret hr rfl dX8_tin_112 (by omega) (by omega) (hQ _ _ ?_)
                            exact ⟨by simp [spTin, hx, hy], by simp [spTin, hx, hy, mI_mI, mSA_id]⟩
                        · try (exfalso; first | (simp (disch := omega) [inS_ix, inS_N, ixL_N, ix_nI, hx, hy] at c99 <;> omega) | (simp (disch := omega) only [h0, h1, h3, Int32.le_iff_toInt_le, Int32.lt_iff_toInt_lt, ← Int32.toInt_inj, nI_toInt, Int32.toInt_zero, m1_toInt, Int64.le_iff_toInt_le, Int64.lt_iff_toInt_lt, ← Int64.toInt_inj, pk_lT, i64_toInt, Int64.toInt_zero, eq_self, not_true_eq_false, not_false_eq_true] at c15 c33 c44 c79 c89 c99 <;> omega) | omega)
                          all_goals
                            skip
                            refine x_bipush (v := nI 69) rfl dX8_tin_102 ?_
                            refine x_goto (tgt := 109) dX8_tin_104 (by decide) ?_
                            refine x_iload_n dX8_tin_109 rfl ?_
                            refine x_iaddN dX8_tin_110 ?_
                            refine x_iald dX8_tin_111 rfl (by first | rfl | exact nI_add _ _ | (simp only [nI_add, pk_mul]; rfl)) (by omega) (by decide) ?_
                            refine x_iret hr rfl dX8_tin_112 (by omega) (by omega) (hQ _ _ ?_)
                            exact ⟨by simp [spTin, hx, hy], by simp [spTin, hx, hy, mI_mI, mSA_id]⟩
                    · try (exfalso; first | (simp (disch := omega) [inS_ix, inS_N, ixL_N, ix_nI, hx, hy] at c89 <;> omega) | (simp (disch := omega) only [h0, h1, h3, Int32.le_iff_toInt_le, Int32.lt_iff_toInt_lt, ← Int32.toInt_inj, nI_toInt, Int32.toInt_zero, m1_toInt, Int64.le_iff_toInt_le, Int64.lt_iff_toInt_lt, ← Int64.toInt_inj, pk_lT, i64_toInt, Int64.toInt_zero, eq_self, not_true_eq_false, not_false_eq_true] at c15 c33 c44 c79 c89 <;> omega) | omega)
                      all_goals
                        skip
                        refine x_bipush (v := nI 51) rfl dX8_tin_92 ?_
                        refine x_goto (tgt := 109) dX8_tin_94 (by decide) ?_
                        refine x_iload_n dX8_tin_109 rfl ?_
                        refine x_iaddN dX8_tin_110 ?_
                        refine x_iald dX8_tin_111 rfl (by first | rfl | exact nI_add _ _ | (simp only [nI_add, pk_mul]; rfl)) (by omega) (by decide) ?_
                        refine x_iret hr rfl dX8_tin_112 (by omega) (by omega) (hQ _ _ ?_)
                        exact ⟨by simp [spTin, hx, hy], by simp [spTin, hx, hy, mI_mI, mSA_id]⟩
                · try (exfalso; first | (simp (disch := omega) [inS_ix, inS_N, ixL_N, ix_nI, hx, hy] at c79 <;> omega) | (simp (disch := omega) only [h0, h1, h3, Int32.le_iff_toInt_le, Int32.lt_iff_toInt_lt, ← Int32.toInt_inj, nI_toInt, Int32.toInt_zero, m1_toInt, Int64.le_iff_toInt_le, Int64.lt_iff_toInt_lt, ← Int64.toInt_inj, pk_lT, i64_toInt, Int64.toInt_zero, eq_self, not_true_eq_false, not_false_eq_true] at c15 c33 c44 c79 <;> omega) | omega)
                  all_goals
                    skip
                    refine x_bipush (v := nI 33) rfl dX8_tin_82 ?_
                    refine x_goto (tgt := 109) dX8_tin_84 (by decide) ?_
                    refine x_iload_n dX8_tin_109 rfl ?_
                    refine x_iaddN dX8_tin_110 ?_
                    refine x_iald dX8_tin_111 rfl (by first | rfl | exact nI_add _ _ | (simp only [nI_add, pk_mul]; rfl)) (by omega) (by decide) ?_
                    refine x_iret hr rfl dX8_tin_112 (by omega) (by omega) (hQ _ _ ?_)
                    exact ⟨by simp [spTin, hx, hy], by simp [spTin, hx, hy, mI_mI, mSA_id]⟩
            · try (exfalso; first | (simp (disch := omega) [inS_ix, inS_N, ixL_N, ix_nI, hx, hy] at c44 <;> omega) | (simp (disch := omega) only [h0, h1, h3, Int32.le_iff_toInt_le, Int32.lt_iff_toInt_lt, ← Int32.toInt_inj, nI_toInt, Int32.toInt_zero, m1_toInt, Int64.le_iff_toInt_le, Int64.lt_iff_toInt_lt, ← Int64.toInt_inj, pk_lT, i64_toInt, Int64.toInt_zero, eq_self, not_true_eq_false, not_false_eq_true] at c15 c33 c44 <;> omega) | omega)
              all_goals
                skip
                refine x_aload_n dX8_tin_47 rfl ?_
                refine x_iload_n dX8_tin_48 rfl ?_
                refine x_callV1 lk_X8_310 (m_isGone (M := (mI (mI M 1 (nI 0)) 0 (nI 0))) hF _ (by omega)) ho dX8_tin_49 rfl (Nat.le_of_ble_eq_true rfl) (by omega) (by decide) (by omega) (by omega) ?_
                refine x_ifb_eq (tgt := 64) dX8_tin_52 (by decide) (fun c52 => ?_) (fun c52 => ?_)
                · try (exfalso; first | (simp (disch := omega) [inS_ix, inS_N, ixL_N, ix_nI, hx, hy] at c52 <;> omega) | (simp (disch := omega) only [h0, h1, h3, Int32.le_iff_toInt_le, Int32.lt_iff_toInt_lt, ← Int32.toInt_inj, nI_toInt, Int32.toInt_zero, m1_toInt, Int64.le_iff_toInt_le, Int64.lt_iff_toInt_lt, ← Int64.toInt_inj, pk_lT, i64_toInt, Int64.toInt_zero, eq_self, not_true_eq_false, not_false_eq_true] at c15 c33 c44 c52 <;> omega) | omega)
                  all_goals
                    skip
                    refine x_aload_n dX8_tin_64 rfl ?_
                    refine x_getf gf_X8_35 ho dX8_tin_65 rfl rfl ?_
                    refine x_bipush (v := nI 42) rfl dX8_tin_68 ?_
                    refine x_iload_n dX8_tin_70 rfl ?_
                    refine x_iaddN dX8_tin_71 ?_
                    refine x_iald dX8_tin_72 rfl (by first | rfl | exact nI_add _ _ | (simp only [nI_add, pk_mul]; rfl)) (by omega) (by decide) ?_
                    refine x_iret hr rfl dX8_tin_73 (by omega) (by omega) (hQ _ _ ?_)
                    exact ⟨by simp [spTin, hx, hy, c52], by simp [spTin, hx, hy, c52, mI_mI, mSA_id]⟩
                · try (exfalso; first | (simp (disch := omega) [inS_ix, inS_N, ixL_N, ix_nI, hx, hy] at c52 <;> omega) | (simp (disch := omega) only [h0, h1, h3, Int32.le_iff_toInt_le, Int32.lt_iff_toInt_lt, ← Int32.toInt_inj, nI_toInt, Int32.toInt_zero, m1_toInt, Int64.le_iff_toInt_le, Int64.lt_iff_toInt_lt, ← Int64.toInt_inj, pk_lT, i64_toInt, Int64.toInt_zero, eq_self, not_true_eq_false, not_false_eq_true] at c15 c33 c44 c52 <;> omega) | omega)
                  all_goals
                    skip
                    refine x_aload_n dX8_tin_55 rfl ?_
                    refine x_bipush (v := nI 8) rfl dX8_tin_56 ?_
                    refine x_callV1 lk_X8_327 (m_refuse _) ho dX8_tin_58 rfl (Nat.le_of_ble_eq_true rfl) (by omega) (by decide) (by omega) (by omega) ?_
                    refine x_goto (tgt := 73) dX8_tin_61 (by decide) ?_
                    refine x_iret hr rfl dX8_tin_73 (by omega) (by omega) (hQ _ _ ?_)
                    exact ⟨by simp [spTin, hx, hy, c52], by simp [spTin, hx, hy, c52, mI_mI, mSA_id]⟩
        · try (exfalso; first | (simp (disch := omega) [inS_ix, inS_N, ixL_N, ix_nI, hx, hy] at c33 <;> omega) | (simp (disch := omega) only [h0, h1, h3, Int32.le_iff_toInt_le, Int32.lt_iff_toInt_lt, ← Int32.toInt_inj, nI_toInt, Int32.toInt_zero, m1_toInt, Int64.le_iff_toInt_le, Int64.lt_iff_toInt_lt, ← Int64.toInt_inj, pk_lT, i64_toInt, Int64.toInt_zero, eq_self, not_true_eq_false, not_false_eq_true] at c15 c33 <;> omega) | omega)
          all_goals
            skip
            refine x_aload_n dX8_tin_36 rfl ?_
            refine x_iconst (v := nI 5) rfl dX8_tin_37 ?_
            refine x_callV1 lk_X8_327 (m_refuse _) ho dX8_tin_38 rfl (Nat.le_of_ble_eq_true rfl) (by omega) (by decide) (by omega) (by omega) ?_
            refine x_iret hr rfl dX8_tin_41 (by omega) (by omega) (hQ _ _ ?_)
            exact ⟨by simp [spTin, hx, hy], by simp [spTin, hx, hy, mI_mI, mSA_id]⟩
    · try (exfalso; first | (simp (disch := omega) [inS_ix, inS_N, ixL_N, ix_nI, hx, hy] at c15 <;> omega) | (simp (disch := omega) only [h0, h1, h3, Int32.le_iff_toInt_le, Int32.lt_iff_toInt_lt, ← Int32.toInt_inj, nI_toInt, Int32.toInt_zero, m1_toInt, Int64.le_iff_toInt_le, Int64.lt_iff_toInt_lt, ← Int64.toInt_inj, pk_lT, i64_toInt, Int64.toInt_zero, eq_self, not_true_eq_false, not_false_eq_true] at c15 <;> omega) | omega)
      all_goals
        skip
        refine x_aload_n dX8_tin_18 rfl ?_
        refine x_iconst (v := nI 2) rfl dX8_tin_19 ?_
        refine x_callV1 lk_X8_327 (m_refuse _) ho dX8_tin_20 rfl (Nat.le_of_ble_eq_true rfl) (by omega) (by decide) (by omega) (by omega) ?_
        refine x_iret hr rfl dX8_tin_23 (by omega) (by omega) (hQ _ _ ?_)
        exact ⟨by simp [spTin, hx, hy], by simp [spTin, hx, hy, mI_mI, mSA_id]⟩
  · skip
    refine CT.of (ini := false) (by decide +kernel) q1950 q164 (Nat.le_of_ble_eq_true rfl) (by decide) ?_
    intro Γ hw ho hL hr hh hini hal hd hmc hms hQ
    subst hw
    show AW Γ cX8_tin 0 0 0 [some (.ref 32), some (.int (nI t)), some (.int (nI 2))] [] (hM M R)
    have h0 := hF.c0
    have h1 := hF.c1
    have h3 := hF.c3
    have l0 := hF.l0
    have l1 := hF.l1
    have l3 := hF.l3
    refine x_aload_n dX8_tin_0 rfl ?_
    refine x_iconst (v := nI 0) rfl dX8_tin_1 ?_
    refine m_puti (k := 1) (pf_X8_70 (ini := false)) ho hini dX8_tin_2 rfl rfl (by decide) (ms_1 _ _) ?_
    refine x_aload_n dX8_tin_5 rfl ?_
    refine x_iconst (v := nI 0) rfl dX8_tin_6 ?_
    refine m_puti (k := 0) (pf_X8_73 (ini := false)) ho hini dX8_tin_7 rfl rfl (by decide) (ms_0 _ _) ?_
    refine x_aload_n dX8_tin_10 rfl ?_
    refine x_iload_n dX8_tin_11 rfl ?_
    refine x_callV1 lk_X8_344 (m_isTinAt (M := (mI (mI M 1 (nI 0)) 0 (nI 0))) hF _) ho dX8_tin_12 rfl (Nat.le_of_ble_eq_true rfl) (by omega) (by decide) (by omega) (by omega) ?_
    refine x_ifb_ne (tgt := 24) dX8_tin_15 (by decide) (fun c15 => ?_) (fun c15 => ?_)
    · try (exfalso; first | (simp (disch := omega) [inS_ix, inS_N, ixL_N, ix_nI, hx, hy] at c15 <;> omega) | (simp (disch := omega) only [h0, h1, h3, Int32.le_iff_toInt_le, Int32.lt_iff_toInt_lt, ← Int32.toInt_inj, nI_toInt, Int32.toInt_zero, m1_toInt, Int64.le_iff_toInt_le, Int64.lt_iff_toInt_lt, ← Int64.toInt_inj, pk_lT, i64_toInt, Int64.toInt_zero, eq_self, not_true_eq_false, not_false_eq_true] at c15 <;> omega) | omega)
      all_goals
        skip
        refine x_iload_n dX8_tin_24 rfl ?_
        refine x_i2lN (by omega) dX8_tin_25 ?_
        refine x_lconst (v := lN 0) rfl dX8_tin_26 ?_
        refine x_ldc2 (v := lN 4) ho q1942 dX8_tin_27 ?_
        refine x_callS3 lk_X8_105 (m_isIn _ _ _) ho dX8_tin_30 (Nat.le_of_ble_eq_true rfl) (by omega) (by decide) (by omega) (by omega) ?_
        refine x_ifb_ne (tgt := 42) dX8_tin_33 (by decide) (fun c33 => ?_) (fun c33 => ?_)
        · try (exfalso; first | (simp (disch := omega) [inS_ix, inS_N, ixL_N, ix_nI, hx, hy] at c33 <;> omega) | (simp (disch := omega) only [h0, h1, h3, Int32.le_iff_toInt_le, Int32.lt_iff_toInt_lt, ← Int32.toInt_inj, nI_toInt, Int32.toInt_zero, m1_toInt, Int64.le_iff_toInt_le, Int64.lt_iff_toInt_lt, ← Int64.toInt_inj, pk_lT, i64_toInt, Int64.toInt_zero, eq_self, not_true_eq_false, not_false_eq_true] at c15 c33 <;> omega) | omega)
          all_goals
            skip
            refine x_iload_n dX8_tin_42 rfl ?_
            refine x_iconst (v := nI 1) rfl dX8_tin_43 ?_
            refine x_icmp_ne (tgt := 74) dX8_tin_44 (by decide) (fun c44 => ?_) (fun c44 => ?_)
            · try (exfalso; first | (simp (disch := omega) [inS_ix, inS_N, ixL_N, ix_nI, hx, hy] at c44 <;> omega) | (simp (disch := omega) only [h0, h1, h3, Int32.le_iff_toInt_le, Int32.lt_iff_toInt_lt, ← Int32.toInt_inj, nI_toInt, Int32.toInt_zero, m1_toInt, Int64.le_iff_toInt_le, Int64.lt_iff_toInt_lt, ← Int64.toInt_inj, pk_lT, i64_toInt, Int64.toInt_zero, eq_self, not_true_eq_false, not_false_eq_true] at c15 c33 c44 <;> omega) | omega)
              all_goals
                skip
                refine x_aload_n dX8_tin_74 rfl ?_
                refine x_getf gf_X8_35 ho dX8_tin_75 rfl rfl ?_
                refine x_iload_n dX8_tin_78 rfl ?_
                refine x_if_ne (tgt := 87) dX8_tin_79 (by decide) (fun c79 => ?_) (fun c79 => ?_)
                · try (exfalso; first | (simp (disch := omega) [inS_ix, inS_N, ixL_N, ix_nI, hx, hy] at c79 <;> omega) | (simp (disch := omega) only [h0, h1, h3, Int32.le_iff_toInt_le, Int32.lt_iff_toInt_lt, ← Int32.toInt_inj, nI_toInt, Int32.toInt_zero, m1_toInt, Int64.le_iff_toInt_le, Int64.lt_iff_toInt_lt, ← Int64.toInt_inj, pk_lT, i64_toInt, Int64.toInt_zero, eq_self, not_true_eq_false, not_false_eq_true] at c15 c33 c44 c79 <;> omega) | omega)
                  all_goals
                    skip
                    refine x_iload_n dX8_tin_87 rfl ?_
                    refine x_iconst (v := nI 2) rfl dX8_tin_88 ?_
                    refine x_icmp_ne (tgt := 97) dX8_tin_89 (by decide) (fun c89 => ?_) (fun c89 => ?_)
                    · try (exfalso; first | (simp (disch := omega) [inS_ix, inS_N, ixL_N, ix_nI, hx, hy] at c89 <;> omega) | (simp (disch := omega) only [h0, h1, h3, Int32.le_iff_toInt_le, Int32.lt_iff_toInt_lt, ← Int32.toInt_inj, nI_toInt, Int32.toInt_zero, m1_toInt, Int64.le_iff_toInt_le, Int64.lt_iff_toInt_lt, ← Int64.toInt_inj, pk_lT, i64_toInt, Int64.toInt_zero, eq_self, not_true_eq_false, not_false_eq_true] at c15 c33 c44 c79 c89 <;> omega) | omega)
                      all_goals
                        skip
                        refine x_iload_n dX8_tin_97 rfl ?_
                        refine x_iconst (v := nI 3) rfl dX8_tin_98 ?_
                        refine x_icmp_ne (tgt := 107) dX8_tin_99 (by decide) (fun c99 => ?_) (fun c99 => ?_)
                        · try (exfalso; first | (simp (disch := omega) [inS_ix, inS_N, ixL_N, ix_nI, hx, hy] at c99 <;> omega) | (simp (disch := omega) only [h0, h1, h3, Int32.le_iff_toInt_le, Int32.lt_iff_toInt_lt, ← Int32.toInt_inj, nI_toInt, Int32.toInt_zero, m1_toInt, Int64.le_iff_toInt_le, Int64.lt_iff_toInt_lt, ← Int64.toInt_inj, pk_lT, i64_toInt, Int64.toInt_zero, eq_self, not_true_eq_false, not_false_eq_true] at c15 c33 c44 c79 c89 c99 <;> omega) | omega)
                          all_goals
                            skip
                            refine x_bipush (v := nI 78) rfl dX8_tin_107 ?_
                            refine x_iload_n dX8_tin_109 rfl ?_
                            refine x_iaddN dX8_tin_110 ?_
                            refine x_iald dX8_tin_111 rfl (by first | rfl | exact nI_add _ _ | (simp only [nI_add, pk_mul]; rfl)) (by omega) (by decide) ?_
                            refine x_iret hr rfl dX8_tin_112 (by omega) (by omega) (hQ _ _ ?_)
                            exact ⟨by simp [spTin, hx, hy], by simp [spTin, hx, hy, mI_mI, mSA_id]⟩
                        · try (exfalso; first | (simp (disch := omega) [inS_ix, inS_N, ixL_N, ix_nI, hx, hy] at c99 <;> omega) | (simp (disch := omega) only [h0, h1, h3, Int32.le_iff_toInt_le, Int32.lt_iff_toInt_lt, ← Int32.toInt_inj, nI_toInt, Int32.toInt_zero, m1_toInt, Int64.le_iff_toInt_le, Int64.lt_iff_toInt_lt, ← Int64.toInt_inj, pk_lT, i64_toInt, Int64.toInt_zero, eq_self, not_true_eq_false, not_false_eq_true] at c15 c33 c44 c79 c89 c99 <;> omega) | omega)
                          all_goals
                            skip
                            refine x_bipush (v := nI 69) rfl dX8_tin_102 ?_
                            refine x_goto (tgt := 109) dX8_tin_104 (by decide) ?_
                            refine x_iload_n dX8_tin_109 rfl ?_
                            refine x_iaddN dX8_tin_110 ?_
                            refine x_iald dX8_tin_111 rfl (by first | rfl | exact nI_add _ _ | (simp only [nI_add, pk_mul]; rfl)) (by omega) (by decide) ?_
                            refine x_iret hr rfl dX8_tin_112 (by omega) (by omega) (hQ _ _ ?_)
                            exact ⟨by simp [spTin, hx, hy], by simp [spTin, hx, hy, mI_mI, mSA_id]⟩
                    · try (exfalso; first | (simp (disch := omega) [inS_ix, inS_N, ixL_N, ix_nI, hx, hy] at c89 <;> omega) | (simp (disch := omega) only [h0, h1, h3, Int32.le_iff_toInt_le, Int32.lt_iff_toInt_lt, ← Int32.toInt_inj, nI_toInt, Int32.toInt_zero, m1_toInt, Int64.le_iff_toInt_le, Int64.lt_iff_toInt_lt, ← Int64.toInt_inj, pk_lT, i64_toInt, Int64.toInt_zero, eq_self, not_true_eq_false, not_false_eq_true] at c15 c33 c44 c79 c89 <;> omega) | omega)
                      all_goals
                        skip
                        refine x_bipush (v := nI 51) rfl dX8_tin_92 ?_
                        refine x_goto (tgt := 109) dX8_tin_94 (by decide) ?_
                        refine x_iload_n dX8_tin_109 rfl ?_
                        refine x_iaddN dX8_tin_110 ?_
                        refine x_iald dX8_tin_111 rfl (by first | rfl | exact nI_add _ _ | (simp only [nI_add, pk_mul]; rfl)) (by omega) (by decide) ?_
                        refine x_iret hr rfl dX8_tin_112 (by omega) (by omega) (hQ _ _ ?_)
                        exact ⟨by simp [spTin, hx, hy], by simp [spTin, hx, hy, mI_mI, mSA_id]⟩
                · try (exfalso; first | (simp (disch := omega) [inS_ix, inS_N, ixL_N, ix_nI, hx, hy] at c79 <;> omega) | (simp (disch := omega) only [h0, h1, h3, Int32.le_iff_toInt_le, Int32.lt_iff_toInt_lt, ← Int32.toInt_inj, nI_toInt, Int32.toInt_zero, m1_toInt, Int64.le_iff_toInt_le, Int64.lt_iff_toInt_lt, ← Int64.toInt_inj, pk_lT, i64_toInt, Int64.toInt_zero, eq_self, not_true_eq_false, not_false_eq_true] at c15 c33 c44 c79 <;> omega) | omega)
                  all_goals
                    skip
                    refine x_bipush (v := nI 33) rfl dX8_tin_82 ?_
                    refine x_goto (tgt := 109) dX8_tin_84 (by decide) ?_
                    refine x_iload_n dX8_tin_109 rfl ?_
                    refine x_iaddN dX8_tin_110 ?_
                    refine x_iald dX8_tin_111 rfl (by first | rfl | exact nI_add _ _ | (simp only [nI_add, pk_mul]; rfl)) (by omega) (by decide) ?_
                    refine x_iret hr rfl dX8_tin_112 (by omega) (by omega) (hQ _ _ ?_)
                    exact ⟨by simp [spTin, hx, hy], by simp [spTin, hx, hy, mI_mI, mSA_id]⟩
            · try (exfalso; first | (simp (disch := omega) [inS_ix, inS_N, ixL_N, ix_nI, hx, hy] at c44 <;> omega) | (simp (disch := omega) only [h0, h1, h3, Int32.le_iff_toInt_le, Int32.lt_iff_toInt_lt, ← Int32.toInt_inj, nI_toInt, Int32.toInt_zero, m1_toInt, Int64.le_iff_toInt_le, Int64.lt_iff_toInt_lt, ← Int64.toInt_inj, pk_lT, i64_toInt, Int64.toInt_zero, eq_self, not_true_eq_false, not_false_eq_true] at c15 c33 c44 <;> omega) | omega)
              all_goals
                skip
                refine x_aload_n dX8_tin_47 rfl ?_
                refine x_iload_n dX8_tin_48 rfl ?_
                refine x_callV1 lk_X8_310 (m_isGone (M := (mI (mI M 1 (nI 0)) 0 (nI 0))) hF _ (by omega)) ho dX8_tin_49 rfl (Nat.le_of_ble_eq_true rfl) (by omega) (by decide) (by omega) (by omega) ?_
                refine x_ifb_eq (tgt := 64) dX8_tin_52 (by decide) (fun c52 => ?_) (fun c52 => ?_)
                · try (exfalso; first | (simp (disch := omega) [inS_ix, inS_N, ixL_N, ix_nI, hx, hy] at c52 <;> omega) | (simp (disch := omega) only [h0, h1, h3, Int32.le_iff_toInt_le, Int32.lt_iff_toInt_lt, ← Int32.toInt_inj, nI_toInt, Int32.toInt_zero, m1_toInt, Int64.le_iff_toInt_le, Int64.lt_iff_toInt_lt, ← Int64.toInt_inj, pk_lT, i64_toInt, Int64.toInt_zero, eq_self, not_true_eq_false, not_false_eq_true] at c15 c33 c44 c52 <;> omega) | omega)
                  all_goals
                    skip
                    refine x_aload_n dX8_tin_64 rfl ?_
                    refine x_getf gf_X8_35 ho dX8_tin_65 rfl rfl ?_
                    refine x_bipush (v := nI 42) rfl dX8_tin_68 ?_
                    refine x_iload_n dX8_tin_70 rfl ?_
                    refine x_iaddN dX8_tin_71 ?_
                    refine x_iald dX8_tin_72 rfl (by first | rfl | exact nI_add _ _ | (simp only [nI_add, pk_mul]; rfl)) (by omega) (by decide) ?_
                    refine x_iret hr rfl dX8_tin_73 (by omega) (by omega) (hQ _ _ ?_)
                    exact ⟨by simp [spTin, hx, hy, c52], by simp [spTin, hx, hy, c52, mI_mI, mSA_id]⟩
                · try (exfalso; first | (simp (disch := omega) [inS_ix, inS_N, ixL_N, ix_nI, hx, hy] at c52 <;> omega) | (simp (disch := omega) only [h0, h1, h3, Int32.le_iff_toInt_le, Int32.lt_iff_toInt_lt, ← Int32.toInt_inj, nI_toInt, Int32.toInt_zero, m1_toInt, Int64.le_iff_toInt_le, Int64.lt_iff_toInt_lt, ← Int64.toInt_inj, pk_lT, i64_toInt, Int64.toInt_zero, eq_self, not_true_eq_false, not_false_eq_true] at c15 c33 c44 c52 <;> omega) | omega)
                  all_goals
                    skip
                    refine x_aload_n dX8_tin_55 rfl ?_
                    refine x_bipush (v := nI 8) rfl dX8_tin_56 ?_
                    refine x_callV1 lk_X8_327 (m_refuse _) ho dX8_tin_58 rfl (Nat.le_of_ble_eq_true rfl) (by omega) (by decide) (by omega) (by omega) ?_
                    refine x_goto (tgt := 73) dX8_tin_61 (by decide) ?_
                    refine x_iret hr rfl dX8_tin_73 (by omega) (by omega) (hQ _ _ ?_)
                    exact ⟨by simp [spTin, hx, hy, c52], by simp [spTin, hx, hy, c52, mI_mI, mSA_id]⟩
        · try (exfalso; first | (simp (disch := omega) [inS_ix, inS_N, ixL_N, ix_nI, hx, hy] at c33 <;> omega) | (simp (disch := omega) only [h0, h1, h3, Int32.le_iff_toInt_le, Int32.lt_iff_toInt_lt, ← Int32.toInt_inj, nI_toInt, Int32.toInt_zero, m1_toInt, Int64.le_iff_toInt_le, Int64.lt_iff_toInt_lt, ← Int64.toInt_inj, pk_lT, i64_toInt, Int64.toInt_zero, eq_self, not_true_eq_false, not_false_eq_true] at c15 c33 <;> omega) | omega)
          all_goals
            skip
            refine x_aload_n dX8_tin_36 rfl ?_
            refine x_iconst (v := nI 5) rfl dX8_tin_37 ?_
            refine x_callV1 lk_X8_327 (m_refuse _) ho dX8_tin_38 rfl (Nat.le_of_ble_eq_true rfl) (by omega) (by decide) (by omega) (by omega) ?_
            refine x_iret hr rfl dX8_tin_41 (by omega) (by omega) (hQ _ _ ?_)
            exact ⟨by simp [spTin, hx, hy], by simp [spTin, hx, hy, mI_mI, mSA_id]⟩
    · try (exfalso; first | (simp (disch := omega) [inS_ix, inS_N, ixL_N, ix_nI, hx, hy] at c15 <;> omega) | (simp (disch := omega) only [h0, h1, h3, Int32.le_iff_toInt_le, Int32.lt_iff_toInt_lt, ← Int32.toInt_inj, nI_toInt, Int32.toInt_zero, m1_toInt, Int64.le_iff_toInt_le, Int64.lt_iff_toInt_lt, ← Int64.toInt_inj, pk_lT, i64_toInt, Int64.toInt_zero, eq_self, not_true_eq_false, not_false_eq_true] at c15 <;> omega) | omega)
      all_goals
        skip
        refine x_aload_n dX8_tin_18 rfl ?_
        refine x_iconst (v := nI 2) rfl dX8_tin_19 ?_
        refine x_callV1 lk_X8_327 (m_refuse _) ho dX8_tin_20 rfl (Nat.le_of_ble_eq_true rfl) (by omega) (by decide) (by omega) (by omega) ?_
        refine x_iret hr rfl dX8_tin_23 (by omega) (by omega) (hQ _ _ ?_)
        exact ⟨by simp [spTin, hx, hy], by simp [spTin, hx, hy, mI_mI, mSA_id]⟩
  · skip
    refine CT.of (ini := false) (by decide +kernel) q1950 q164 (Nat.le_of_ble_eq_true rfl) (by decide) ?_
    intro Γ hw ho hL hr hh hini hal hd hmc hms hQ
    subst hw
    show AW Γ cX8_tin 0 0 0 [some (.ref 32), some (.int (nI t)), some (.int (nI 3))] [] (hM M R)
    have h0 := hF.c0
    have h1 := hF.c1
    have h3 := hF.c3
    have l0 := hF.l0
    have l1 := hF.l1
    have l3 := hF.l3
    refine x_aload_n dX8_tin_0 rfl ?_
    refine x_iconst (v := nI 0) rfl dX8_tin_1 ?_
    refine m_puti (k := 1) (pf_X8_70 (ini := false)) ho hini dX8_tin_2 rfl rfl (by decide) (ms_1 _ _) ?_
    refine x_aload_n dX8_tin_5 rfl ?_
    refine x_iconst (v := nI 0) rfl dX8_tin_6 ?_
    refine m_puti (k := 0) (pf_X8_73 (ini := false)) ho hini dX8_tin_7 rfl rfl (by decide) (ms_0 _ _) ?_
    refine x_aload_n dX8_tin_10 rfl ?_
    refine x_iload_n dX8_tin_11 rfl ?_
    refine x_callV1 lk_X8_344 (m_isTinAt (M := (mI (mI M 1 (nI 0)) 0 (nI 0))) hF _) ho dX8_tin_12 rfl (Nat.le_of_ble_eq_true rfl) (by omega) (by decide) (by omega) (by omega) ?_
    refine x_ifb_ne (tgt := 24) dX8_tin_15 (by decide) (fun c15 => ?_) (fun c15 => ?_)
    · try (exfalso; first | (simp (disch := omega) [inS_ix, inS_N, ixL_N, ix_nI, hx, hy] at c15 <;> omega) | (simp (disch := omega) only [h0, h1, h3, Int32.le_iff_toInt_le, Int32.lt_iff_toInt_lt, ← Int32.toInt_inj, nI_toInt, Int32.toInt_zero, m1_toInt, Int64.le_iff_toInt_le, Int64.lt_iff_toInt_lt, ← Int64.toInt_inj, pk_lT, i64_toInt, Int64.toInt_zero, eq_self, not_true_eq_false, not_false_eq_true] at c15 <;> omega) | omega)
      all_goals
        skip
        refine x_iload_n dX8_tin_24 rfl ?_
        refine x_i2lN (by omega) dX8_tin_25 ?_
        refine x_lconst (v := lN 0) rfl dX8_tin_26 ?_
        refine x_ldc2 (v := lN 4) ho q1942 dX8_tin_27 ?_
        refine x_callS3 lk_X8_105 (m_isIn _ _ _) ho dX8_tin_30 (Nat.le_of_ble_eq_true rfl) (by omega) (by decide) (by omega) (by omega) ?_
        refine x_ifb_ne (tgt := 42) dX8_tin_33 (by decide) (fun c33 => ?_) (fun c33 => ?_)
        · try (exfalso; first | (simp (disch := omega) [inS_ix, inS_N, ixL_N, ix_nI, hx, hy] at c33 <;> omega) | (simp (disch := omega) only [h0, h1, h3, Int32.le_iff_toInt_le, Int32.lt_iff_toInt_lt, ← Int32.toInt_inj, nI_toInt, Int32.toInt_zero, m1_toInt, Int64.le_iff_toInt_le, Int64.lt_iff_toInt_lt, ← Int64.toInt_inj, pk_lT, i64_toInt, Int64.toInt_zero, eq_self, not_true_eq_false, not_false_eq_true] at c15 c33 <;> omega) | omega)
          all_goals
            skip
            refine x_iload_n dX8_tin_42 rfl ?_
            refine x_iconst (v := nI 1) rfl dX8_tin_43 ?_
            refine x_icmp_ne (tgt := 74) dX8_tin_44 (by decide) (fun c44 => ?_) (fun c44 => ?_)
            · try (exfalso; first | (simp (disch := omega) [inS_ix, inS_N, ixL_N, ix_nI, hx, hy] at c44 <;> omega) | (simp (disch := omega) only [h0, h1, h3, Int32.le_iff_toInt_le, Int32.lt_iff_toInt_lt, ← Int32.toInt_inj, nI_toInt, Int32.toInt_zero, m1_toInt, Int64.le_iff_toInt_le, Int64.lt_iff_toInt_lt, ← Int64.toInt_inj, pk_lT, i64_toInt, Int64.toInt_zero, eq_self, not_true_eq_false, not_false_eq_true] at c15 c33 c44 <;> omega) | omega)
              all_goals
                skip
                refine x_aload_n dX8_tin_74 rfl ?_
                refine x_getf gf_X8_35 ho dX8_tin_75 rfl rfl ?_
                refine x_iload_n dX8_tin_78 rfl ?_
                refine x_if_ne (tgt := 87) dX8_tin_79 (by decide) (fun c79 => ?_) (fun c79 => ?_)
                · try (exfalso; first | (simp (disch := omega) [inS_ix, inS_N, ixL_N, ix_nI, hx, hy] at c79 <;> omega) | (simp (disch := omega) only [h0, h1, h3, Int32.le_iff_toInt_le, Int32.lt_iff_toInt_lt, ← Int32.toInt_inj, nI_toInt, Int32.toInt_zero, m1_toInt, Int64.le_iff_toInt_le, Int64.lt_iff_toInt_lt, ← Int64.toInt_inj, pk_lT, i64_toInt, Int64.toInt_zero, eq_self, not_true_eq_false, not_false_eq_true] at c15 c33 c44 c79 <;> omega) | omega)
                  all_goals
                    skip
                    refine x_iload_n dX8_tin_87 rfl ?_
                    refine x_iconst (v := nI 2) rfl dX8_tin_88 ?_
                    refine x_icmp_ne (tgt := 97) dX8_tin_89 (by decide) (fun c89 => ?_) (fun c89 => ?_)
                    · try (exfalso; first | (simp (disch := omega) [inS_ix, inS_N, ixL_N, ix_nI, hx, hy] at c89 <;> omega) | (simp (disch := omega) only [h0, h1, h3, Int32.le_iff_toInt_le, Int32.lt_iff_toInt_lt, ← Int32.toInt_inj, nI_toInt, Int32.toInt_zero, m1_toInt, Int64.le_iff_toInt_le, Int64.lt_iff_toInt_lt, ← Int64.toInt_inj, pk_lT, i64_toInt, Int64.toInt_zero, eq_self, not_true_eq_false, not_false_eq_true] at c15 c33 c44 c79 c89 <;> omega) | omega)
                      all_goals
                        skip
                        refine x_iload_n dX8_tin_97 rfl ?_
                        refine x_iconst (v := nI 3) rfl dX8_tin_98 ?_
                        refine x_icmp_ne (tgt := 107) dX8_tin_99 (by decide) (fun c99 => ?_) (fun c99 => ?_)
                        · try (exfalso; first | (simp (disch := omega) [inS_ix, inS_N, ixL_N, ix_nI, hx, hy] at c99 <;> omega) | (simp (disch := omega) only [h0, h1, h3, Int32.le_iff_toInt_le, Int32.lt_iff_toInt_lt, ← Int32.toInt_inj, nI_toInt, Int32.toInt_zero, m1_toInt, Int64.le_iff_toInt_le, Int64.lt_iff_toInt_lt, ← Int64.toInt_inj, pk_lT, i64_toInt, Int64.toInt_zero, eq_self, not_true_eq_false, not_false_eq_true] at c15 c33 c44 c79 c89 c99 <;> omega) | omega)
                          all_goals
                            skip
                            refine x_bipush (v := nI 78) rfl dX8_tin_107 ?_
                            refine x_iload_n dX8_tin_109 rfl ?_
                            refine x_iaddN dX8_tin_110 ?_
                            refine x_iald dX8_tin_111 rfl (by first | rfl | exact nI_add _ _ | (simp only [nI_add, pk_mul]; rfl)) (by omega) (by decide) ?_
                            refine x_iret hr rfl dX8_tin_112 (by omega) (by omega) (hQ _ _ ?_)
                            exact ⟨by simp [spTin, hx, hy], by simp [spTin, hx, hy, mI_mI, mSA_id]⟩
                        · try (exfalso; first | (simp (disch := omega) [inS_ix, inS_N, ixL_N, ix_nI, hx, hy] at c99 <;> omega) | (simp (disch := omega) only [h0, h1, h3, Int32.le_iff_toInt_le, Int32.lt_iff_toInt_lt, ← Int32.toInt_inj, nI_toInt, Int32.toInt_zero, m1_toInt, Int64.le_iff_toInt_le, Int64.lt_iff_toInt_lt, ← Int64.toInt_inj, pk_lT, i64_toInt, Int64.toInt_zero, eq_self, not_true_eq_false, not_false_eq_true] at c15 c33 c44 c79 c89 c99 <;> omega) | omega)
                          all_goals
                            skip
                            refine x_bipush (v := nI 69) rfl dX8_tin_102 ?_
                            refine x_goto (tgt := 109) dX8_tin_104 (by decide) ?_
                            refine x_iload_n dX8_tin_109 rfl ?_
                            refine x_iaddN dX8_tin_110 ?_
                            refine x_iald dX8_tin_111 rfl (by first | rfl | exact nI_add _ _ | (simp only [nI_add, pk_mul]; rfl)) (by omega) (by decide) ?_
                            refine x_iret hr rfl dX8_tin_112 (by omega) (by omega) (hQ _ _ ?_)
                            exact ⟨by simp [spTin, hx, hy], by simp [spTin, hx, hy, mI_mI, mSA_id]⟩
                    · try (exfalso; first | (simp (disch := omega) [inS_ix, inS_N, ixL_N, ix_nI, hx, hy] at c89 <;> omega) | (simp (disch := omega) only [h0, h1, h3, Int32.le_iff_toInt_le, Int32.lt_iff_toInt_lt, ← Int32.toInt_inj, nI_toInt, Int32.toInt_zero, m1_toInt, Int64.le_iff_toInt_le, Int64.lt_iff_toInt_lt, ← Int64.toInt_inj, pk_lT, i64_toInt, Int64.toInt_zero, eq_self, not_true_eq_false, not_false_eq_true] at c15 c33 c44 c79 c89 <;> omega) | omega)
                      all_goals
                        skip
                        refine x_bipush (v := nI 51) rfl dX8_tin_92 ?_
                        refine x_goto (tgt := 109) dX8_tin_94 (by decide) ?_
                        refine x_iload_n dX8_tin_109 rfl ?_
                        refine x_iaddN dX8_tin_110 ?_
                        refine x_iald dX8_tin_111 rfl (by first | rfl | exact nI_add _ _ | (simp only [nI_add, pk_mul]; rfl)) (by omega) (by decide) ?_
                        refine x_iret hr rfl dX8_tin_112 (by omega) (by omega) (hQ _ _ ?_)
                        exact ⟨by simp [spTin, hx, hy], by simp [spTin, hx, hy, mI_mI, mSA_id]⟩
                · try (exfalso; first | (simp (disch := omega) [inS_ix, inS_N, ixL_N, ix_nI, hx, hy] at c79 <;> omega) | (simp (disch := omega) only [h0, h1, h3, Int32.le_iff_toInt_le, Int32.lt_iff_toInt_lt, ← Int32.toInt_inj, nI_toInt, Int32.toInt_zero, m1_toInt, Int64.le_iff_toInt_le, Int64.lt_iff_toInt_lt, ← Int64.toInt_inj, pk_lT, i64_toInt, Int64.toInt_zero, eq_self, not_true_eq_false, not_false_eq_true] at c15 c33 c44 c79 <;> omega) | omega)
                  all_goals
                    skip
                    refine x_bipush (v := nI 33) rfl dX8_tin_82 ?_
                    refine x_goto (tgt := 109) dX8_tin_84 (by decide) ?_
                    refine x_iload_n dX8_tin_109 rfl ?_
                    refine x_iaddN dX8_tin_110 ?_
                    refine x_iald dX8_tin_111 rfl (by first | rfl | exact nI_add _ _ | (simp only [nI_add, pk_mul]; rfl)) (by omega) (by decide) ?_
                    refine x_iret hr rfl dX8_tin_112 (by omega) (by omega) (hQ _ _ ?_)
                    exact ⟨by simp [spTin, hx, hy], by simp [spTin, hx, hy, mI_mI, mSA_id]⟩
            · try (exfalso; first | (simp (disch := omega) [inS_ix, inS_N, ixL_N, ix_nI, hx, hy] at c44 <;> omega) | (simp (disch := omega) only [h0, h1, h3, Int32.le_iff_toInt_le, Int32.lt_iff_toInt_lt, ← Int32.toInt_inj, nI_toInt, Int32.toInt_zero, m1_toInt, Int64.le_iff_toInt_le, Int64.lt_iff_toInt_lt, ← Int64.toInt_inj, pk_lT, i64_toInt, Int64.toInt_zero, eq_self, not_true_eq_false, not_false_eq_true] at c15 c33 c44 <;> omega) | omega)
              all_goals
                skip
                refine x_aload_n dX8_tin_47 rfl ?_
                refine x_iload_n dX8_tin_48 rfl ?_
                refine x_callV1 lk_X8_310 (m_isGone (M := (mI (mI M 1 (nI 0)) 0 (nI 0))) hF _ (by omega)) ho dX8_tin_49 rfl (Nat.le_of_ble_eq_true rfl) (by omega) (by decide) (by omega) (by omega) ?_
                refine x_ifb_eq (tgt := 64) dX8_tin_52 (by decide) (fun c52 => ?_) (fun c52 => ?_)
                · try (exfalso; first | (simp (disch := omega) [inS_ix, inS_N, ixL_N, ix_nI, hx, hy] at c52 <;> omega) | (simp (disch := omega) only [h0, h1, h3, Int32.le_iff_toInt_le, Int32.lt_iff_toInt_lt, ← Int32.toInt_inj, nI_toInt, Int32.toInt_zero, m1_toInt, Int64.le_iff_toInt_le, Int64.lt_iff_toInt_lt, ← Int64.toInt_inj, pk_lT, i64_toInt, Int64.toInt_zero, eq_self, not_true_eq_false, not_false_eq_true] at c15 c33 c44 c52 <;> omega) | omega)
                  all_goals
                    skip
                    refine x_aload_n dX8_tin_64 rfl ?_
                    refine x_getf gf_X8_35 ho dX8_tin_65 rfl rfl ?_
                    refine x_bipush (v := nI 42) rfl dX8_tin_68 ?_
                    refine x_iload_n dX8_tin_70 rfl ?_
                    refine x_iaddN dX8_tin_71 ?_
                    refine x_iald dX8_tin_72 rfl (by first | rfl | exact nI_add _ _ | (simp only [nI_add, pk_mul]; rfl)) (by omega) (by decide) ?_
                    refine x_iret hr rfl dX8_tin_73 (by omega) (by omega) (hQ _ _ ?_)
                    exact ⟨by simp [spTin, hx, hy, c52], by simp [spTin, hx, hy, c52, mI_mI, mSA_id]⟩
                · try (exfalso; first | (simp (disch := omega) [inS_ix, inS_N, ixL_N, ix_nI, hx, hy] at c52 <;> omega) | (simp (disch := omega) only [h0, h1, h3, Int32.le_iff_toInt_le, Int32.lt_iff_toInt_lt, ← Int32.toInt_inj, nI_toInt, Int32.toInt_zero, m1_toInt, Int64.le_iff_toInt_le, Int64.lt_iff_toInt_lt, ← Int64.toInt_inj, pk_lT, i64_toInt, Int64.toInt_zero, eq_self, not_true_eq_false, not_false_eq_true] at c15 c33 c44 c52 <;> omega) | omega)
                  all_goals
                    skip
                    refine x_aload_n dX8_tin_55 rfl ?_
                    refine x_bipush (v := nI 8) rfl dX8_tin_56 ?_
                    refine x_callV1 lk_X8_327 (m_refuse _) ho dX8_tin_58 rfl (Nat.le_of_ble_eq_true rfl) (by omega) (by decide) (by omega) (by omega) ?_
                    refine x_goto (tgt := 73) dX8_tin_61 (by decide) ?_
                    refine x_iret hr rfl dX8_tin_73 (by omega) (by omega) (hQ _ _ ?_)
                    exact ⟨by simp [spTin, hx, hy, c52], by simp [spTin, hx, hy, c52, mI_mI, mSA_id]⟩
        · try (exfalso; first | (simp (disch := omega) [inS_ix, inS_N, ixL_N, ix_nI, hx, hy] at c33 <;> omega) | (simp (disch := omega) only [h0, h1, h3, Int32.le_iff_toInt_le, Int32.lt_iff_toInt_lt, ← Int32.toInt_inj, nI_toInt, Int32.toInt_zero, m1_toInt, Int64.le_iff_toInt_le, Int64.lt_iff_toInt_lt, ← Int64.toInt_inj, pk_lT, i64_toInt, Int64.toInt_zero, eq_self, not_true_eq_false, not_false_eq_true] at c15 c33 <;> omega) | omega)
          all_goals
            skip
            refine x_aload_n dX8_tin_36 rfl ?_
            refine x_iconst (v := nI 5) rfl dX8_tin_37 ?_
            refine x_callV1 lk_X8_327 (m_refuse _) ho dX8_tin_38 rfl (Nat.le_of_ble_eq_true rfl) (by omega) (by decide) (by omega) (by omega) ?_
            refine x_iret hr rfl dX8_tin_41 (by omega) (by omega) (hQ _ _ ?_)
            exact ⟨by simp [spTin, hx, hy], by simp [spTin, hx, hy, mI_mI, mSA_id]⟩
    · try (exfalso; first | (simp (disch := omega) [inS_ix, inS_N, ixL_N, ix_nI, hx, hy] at c15 <;> omega) | (simp (disch := omega) only [h0, h1, h3, Int32.le_iff_toInt_le, Int32.lt_iff_toInt_lt, ← Int32.toInt_inj, nI_toInt, Int32.toInt_zero, m1_toInt, Int64.le_iff_toInt_le, Int64.lt_iff_toInt_lt, ← Int64.toInt_inj, pk_lT, i64_toInt, Int64.toInt_zero, eq_self, not_true_eq_false, not_false_eq_true] at c15 <;> omega) | omega)
      all_goals
        skip
        refine x_aload_n dX8_tin_18 rfl ?_
        refine x_iconst (v := nI 2) rfl dX8_tin_19 ?_
        refine x_callV1 lk_X8_327 (m_refuse _) ho dX8_tin_20 rfl (Nat.le_of_ble_eq_true rfl) (by omega) (by decide) (by omega) (by omega) ?_
        refine x_iret hr rfl dX8_tin_23 (by omega) (by omega) (hQ _ _ ?_)
        exact ⟨by simp [spTin, hx, hy], by simp [spTin, hx, hy, mI_mI, mSA_id]⟩
  · skip
    refine CT.of (ini := false) (by decide +kernel) q1950 q164 (Nat.le_of_ble_eq_true rfl) (by decide) ?_
    intro Γ hw ho hL hr hh hini hal hd hmc hms hQ
    subst hw
    show AW Γ cX8_tin 0 0 0 [some (.ref 32), some (.int (nI t)), some (.int (nI 4))] [] (hM M R)
    have h0 := hF.c0
    have h1 := hF.c1
    have h3 := hF.c3
    have l0 := hF.l0
    have l1 := hF.l1
    have l3 := hF.l3
    refine x_aload_n dX8_tin_0 rfl ?_
    refine x_iconst (v := nI 0) rfl dX8_tin_1 ?_
    refine m_puti (k := 1) (pf_X8_70 (ini := false)) ho hini dX8_tin_2 rfl rfl (by decide) (ms_1 _ _) ?_
    refine x_aload_n dX8_tin_5 rfl ?_
    refine x_iconst (v := nI 0) rfl dX8_tin_6 ?_
    refine m_puti (k := 0) (pf_X8_73 (ini := false)) ho hini dX8_tin_7 rfl rfl (by decide) (ms_0 _ _) ?_
    refine x_aload_n dX8_tin_10 rfl ?_
    refine x_iload_n dX8_tin_11 rfl ?_
    refine x_callV1 lk_X8_344 (m_isTinAt (M := (mI (mI M 1 (nI 0)) 0 (nI 0))) hF _) ho dX8_tin_12 rfl (Nat.le_of_ble_eq_true rfl) (by omega) (by decide) (by omega) (by omega) ?_
    refine x_ifb_ne (tgt := 24) dX8_tin_15 (by decide) (fun c15 => ?_) (fun c15 => ?_)
    · try (exfalso; first | (simp (disch := omega) [inS_ix, inS_N, ixL_N, ix_nI, hx, hy] at c15 <;> omega) | (simp (disch := omega) only [h0, h1, h3, Int32.le_iff_toInt_le, Int32.lt_iff_toInt_lt, ← Int32.toInt_inj, nI_toInt, Int32.toInt_zero, m1_toInt, Int64.le_iff_toInt_le, Int64.lt_iff_toInt_lt, ← Int64.toInt_inj, pk_lT, i64_toInt, Int64.toInt_zero, eq_self, not_true_eq_false, not_false_eq_true] at c15 <;> omega) | omega)
      all_goals
        skip
        refine x_iload_n dX8_tin_24 rfl ?_
        refine x_i2lN (by omega) dX8_tin_25 ?_
        refine x_lconst (v := lN 0) rfl dX8_tin_26 ?_
        refine x_ldc2 (v := lN 4) ho q1942 dX8_tin_27 ?_
        refine x_callS3 lk_X8_105 (m_isIn _ _ _) ho dX8_tin_30 (Nat.le_of_ble_eq_true rfl) (by omega) (by decide) (by omega) (by omega) ?_
        refine x_ifb_ne (tgt := 42) dX8_tin_33 (by decide) (fun c33 => ?_) (fun c33 => ?_)
        · try (exfalso; first | (simp (disch := omega) [inS_ix, inS_N, ixL_N, ix_nI, hx, hy] at c33 <;> omega) | (simp (disch := omega) only [h0, h1, h3, Int32.le_iff_toInt_le, Int32.lt_iff_toInt_lt, ← Int32.toInt_inj, nI_toInt, Int32.toInt_zero, m1_toInt, Int64.le_iff_toInt_le, Int64.lt_iff_toInt_lt, ← Int64.toInt_inj, pk_lT, i64_toInt, Int64.toInt_zero, eq_self, not_true_eq_false, not_false_eq_true] at c15 c33 <;> omega) | omega)
          all_goals
            skip
            refine x_iload_n dX8_tin_42 rfl ?_
            refine x_iconst (v := nI 1) rfl dX8_tin_43 ?_
            refine x_icmp_ne (tgt := 74) dX8_tin_44 (by decide) (fun c44 => ?_) (fun c44 => ?_)
            · try (exfalso; first | (simp (disch := omega) [inS_ix, inS_N, ixL_N, ix_nI, hx, hy] at c44 <;> omega) | (simp (disch := omega) only [h0, h1, h3, Int32.le_iff_toInt_le, Int32.lt_iff_toInt_lt, ← Int32.toInt_inj, nI_toInt, Int32.toInt_zero, m1_toInt, Int64.le_iff_toInt_le, Int64.lt_iff_toInt_lt, ← Int64.toInt_inj, pk_lT, i64_toInt, Int64.toInt_zero, eq_self, not_true_eq_false, not_false_eq_true] at c15 c33 c44 <;> omega) | omega)
              all_goals
                skip
                refine x_aload_n dX8_tin_74 rfl ?_
                refine x_getf gf_X8_35 ho dX8_tin_75 rfl rfl ?_
                refine x_iload_n dX8_tin_78 rfl ?_
                refine x_if_ne (tgt := 87) dX8_tin_79 (by decide) (fun c79 => ?_) (fun c79 => ?_)
                · try (exfalso; first | (simp (disch := omega) [inS_ix, inS_N, ixL_N, ix_nI, hx, hy] at c79 <;> omega) | (simp (disch := omega) only [h0, h1, h3, Int32.le_iff_toInt_le, Int32.lt_iff_toInt_lt, ← Int32.toInt_inj, nI_toInt, Int32.toInt_zero, m1_toInt, Int64.le_iff_toInt_le, Int64.lt_iff_toInt_lt, ← Int64.toInt_inj, pk_lT, i64_toInt, Int64.toInt_zero, eq_self, not_true_eq_false, not_false_eq_true] at c15 c33 c44 c79 <;> omega) | omega)
                  all_goals
                    skip
                    refine x_iload_n dX8_tin_87 rfl ?_
                    refine x_iconst (v := nI 2) rfl dX8_tin_88 ?_
                    refine x_icmp_ne (tgt := 97) dX8_tin_89 (by decide) (fun c89 => ?_) (fun c89 => ?_)
                    · try (exfalso; first | (simp (disch := omega) [inS_ix, inS_N, ixL_N, ix_nI, hx, hy] at c89 <;> omega) | (simp (disch := omega) only [h0, h1, h3, Int32.le_iff_toInt_le, Int32.lt_iff_toInt_lt, ← Int32.toInt_inj, nI_toInt, Int32.toInt_zero, m1_toInt, Int64.le_iff_toInt_le, Int64.lt_iff_toInt_lt, ← Int64.toInt_inj, pk_lT, i64_toInt, Int64.toInt_zero, eq_self, not_true_eq_false, not_false_eq_true] at c15 c33 c44 c79 c89 <;> omega) | omega)
                      all_goals
                        skip
                        refine x_iload_n dX8_tin_97 rfl ?_
                        refine x_iconst (v := nI 3) rfl dX8_tin_98 ?_
                        refine x_icmp_ne (tgt := 107) dX8_tin_99 (by decide) (fun c99 => ?_) (fun c99 => ?_)
                        · try (exfalso; first | (simp (disch := omega) [inS_ix, inS_N, ixL_N, ix_nI, hx, hy] at c99 <;> omega) | (simp (disch := omega) only [h0, h1, h3, Int32.le_iff_toInt_le, Int32.lt_iff_toInt_lt, ← Int32.toInt_inj, nI_toInt, Int32.toInt_zero, m1_toInt, Int64.le_iff_toInt_le, Int64.lt_iff_toInt_lt, ← Int64.toInt_inj, pk_lT, i64_toInt, Int64.toInt_zero, eq_self, not_true_eq_false, not_false_eq_true] at c15 c33 c44 c79 c89 c99 <;> omega) | omega)
                          all_goals
                            skip
                            refine x_bipush (v := nI 78) rfl dX8_tin_107 ?_
                            refine x_iload_n dX8_tin_109 rfl ?_
                            refine x_iaddN dX8_tin_110 ?_
                            refine x_iald dX8_tin_111 rfl (by first | rfl | exact nI_add _ _ | (simp only [nI_add, pk_mul]; rfl)) (by omega) (by decide) ?_
                            refine x_iret hr rfl dX8_tin_112 (by omega) (by omega) (hQ _ _ ?_)
                            exact ⟨by simp [spTin, hx, hy], by simp [spTin, hx, hy, mI_mI, mSA_id]⟩
                        · try (exfalso; first | (simp (disch := omega) [inS_ix, inS_N, ixL_N, ix_nI, hx, hy] at c99 <;> omega) | (simp (disch := omega) only [h0, h1, h3, Int32.le_iff_toInt_le, Int32.lt_iff_toInt_lt, ← Int32.toInt_inj, nI_toInt, Int32.toInt_zero, m1_toInt, Int64.le_iff_toInt_le, Int64.lt_iff_toInt_lt, ← Int64.toInt_inj, pk_lT, i64_toInt, Int64.toInt_zero, eq_self, not_true_eq_false, not_false_eq_true] at c15 c33 c44 c79 c89 c99 <;> omega) | omega)
                          all_goals
                            skip
                            refine x_bipush (v := nI 69) rfl dX8_tin_102 ?_
                            refine x_goto (tgt := 109) dX8_tin_104 (by decide) ?_
                            refine x_iload_n dX8_tin_109 rfl ?_
                            refine x_iaddN dX8_tin_110 ?_
                            refine x_iald dX8_tin_111 rfl (by first | rfl | exact nI_add _ _ | (simp only [nI_add, pk_mul]; rfl)) (by omega) (by decide) ?_
                            refine x_iret hr rfl dX8_tin_112 (by omega) (by omega) (hQ _ _ ?_)
                            exact ⟨by simp [spTin, hx, hy], by simp [spTin, hx, hy, mI_mI, mSA_id]⟩
                    · try (exfalso; first | (simp (disch := omega) [inS_ix, inS_N, ixL_N, ix_nI, hx, hy] at c89 <;> omega) | (simp (disch := omega) only [h0, h1, h3, Int32.le_iff_toInt_le, Int32.lt_iff_toInt_lt, ← Int32.toInt_inj, nI_toInt, Int32.toInt_zero, m1_toInt, Int64.le_iff_toInt_le, Int64.lt_iff_toInt_lt, ← Int64.toInt_inj, pk_lT, i64_toInt, Int64.toInt_zero, eq_self, not_true_eq_false, not_false_eq_true] at c15 c33 c44 c79 c89 <;> omega) | omega)
                      all_goals
                        skip
                        refine x_bipush (v := nI 51) rfl dX8_tin_92 ?_
                        refine x_goto (tgt := 109) dX8_tin_94 (by decide) ?_
                        refine x_iload_n dX8_tin_109 rfl ?_
                        refine x_iaddN dX8_tin_110 ?_
                        refine x_iald dX8_tin_111 rfl (by first | rfl | exact nI_add _ _ | (simp only [nI_add, pk_mul]; rfl)) (by omega) (by decide) ?_
                        refine x_iret hr rfl dX8_tin_112 (by omega) (by omega) (hQ _ _ ?_)
                        exact ⟨by simp [spTin, hx, hy], by simp [spTin, hx, hy, mI_mI, mSA_id]⟩
                · try (exfalso; first | (simp (disch := omega) [inS_ix, inS_N, ixL_N, ix_nI, hx, hy] at c79 <;> omega) | (simp (disch := omega) only [h0, h1, h3, Int32.le_iff_toInt_le, Int32.lt_iff_toInt_lt, ← Int32.toInt_inj, nI_toInt, Int32.toInt_zero, m1_toInt, Int64.le_iff_toInt_le, Int64.lt_iff_toInt_lt, ← Int64.toInt_inj, pk_lT, i64_toInt, Int64.toInt_zero, eq_self, not_true_eq_false, not_false_eq_true] at c15 c33 c44 c79 <;> omega) | omega)
                  all_goals
                    skip
                    refine x_bipush (v := nI 33) rfl dX8_tin_82 ?_
                    refine x_goto (tgt := 109) dX8_tin_84 (by decide) ?_
                    refine x_iload_n dX8_tin_109 rfl ?_
                    refine x_iaddN dX8_tin_110 ?_
                    refine x_iald dX8_tin_111 rfl (by first | rfl | exact nI_add _ _ | (simp only [nI_add, pk_mul]; rfl)) (by omega) (by decide) ?_
                    refine x_iret hr rfl dX8_tin_112 (by omega) (by omega) (hQ _ _ ?_)
                    exact ⟨by simp [spTin, hx, hy], by simp [spTin, hx, hy, mI_mI, mSA_id]⟩
            · try (exfalso; first | (simp (disch := omega) [inS_ix, inS_N, ixL_N, ix_nI, hx, hy] at c44 <;> omega) | (simp (disch := omega) only [h0, h1, h3, Int32.le_iff_toInt_le, Int32.lt_iff_toInt_lt, ← Int32.toInt_inj, nI_toInt, Int32.toInt_zero, m1_toInt, Int64.le_iff_toInt_le, Int64.lt_iff_toInt_lt, ← Int64.toInt_inj, pk_lT, i64_toInt, Int64.toInt_zero, eq_self, not_true_eq_false, not_false_eq_true] at c15 c33 c44 <;> omega) | omega)
              all_goals
                skip
                refine x_aload_n dX8_tin_47 rfl ?_
                refine x_iload_n dX8_tin_48 rfl ?_
                refine x_callV1 lk_X8_310 (m_isGone (M := (mI (mI M 1 (nI 0)) 0 (nI 0))) hF _ (by omega)) ho dX8_tin_49 rfl (Nat.le_of_ble_eq_true rfl) (by omega) (by decide) (by omega) (by omega) ?_
                refine x_ifb_eq (tgt := 64) dX8_tin_52 (by decide) (fun c52 => ?_) (fun c52 => ?_)
                · try (exfalso; first | (simp (disch := omega) [inS_ix, inS_N, ixL_N, ix_nI, hx, hy] at c52 <;> omega) | (simp (disch := omega) only [h0, h1, h3, Int32.le_iff_toInt_le, Int32.lt_iff_toInt_lt, ← Int32.toInt_inj, nI_toInt, Int32.toInt_zero, m1_toInt, Int64.le_iff_toInt_le, Int64.lt_iff_toInt_lt, ← Int64.toInt_inj, pk_lT, i64_toInt, Int64.toInt_zero, eq_self, not_true_eq_false, not_false_eq_true] at c15 c33 c44 c52 <;> omega) | omega)
                  all_goals
                    skip
                    refine x_aload_n dX8_tin_64 rfl ?_
                    refine x_getf gf_X8_35 ho dX8_tin_65 rfl rfl ?_
                    refine x_bipush (v := nI 42) rfl dX8_tin_68 ?_
                    refine x_iload_n dX8_tin_70 rfl ?_
                    refine x_iaddN dX8_tin_71 ?_
                    refine x_iald dX8_tin_72 rfl (by first | rfl | exact nI_add _ _ | (simp only [nI_add, pk_mul]; rfl)) (by omega) (by decide) ?_
                    refine x_iret hr rfl dX8_tin_73 (by omega) (by omega) (hQ _ _ ?_)
                    exact ⟨by simp [spTin, hx, hy, c52], by simp [spTin, hx, hy, c52, mI_mI, mSA_id]⟩
                · try (exfalso; first | (simp (disch := omega) [inS_ix, inS_N, ixL_N, ix_nI, hx, hy] at c52 <;> omega) | (simp (disch := omega) only [h0, h1, h3, Int32.le_iff_toInt_le, Int32.lt_iff_toInt_lt, ← Int32.toInt_inj, nI_toInt, Int32.toInt_zero, m1_toInt, Int64.le_iff_toInt_le, Int64.lt_iff_toInt_lt, ← Int64.toInt_inj, pk_lT, i64_toInt, Int64.toInt_zero, eq_self, not_true_eq_false, not_false_eq_true] at c15 c33 c44 c52 <;> omega) | omega)
                  all_goals
                    skip
                    refine x_aload_n dX8_tin_55 rfl ?_
                    refine x_bipush (v := nI 8) rfl dX8_tin_56 ?_
                    refine x_callV1 lk_X8_327 (m_refuse _) ho dX8_tin_58 rfl (Nat.le_of_ble_eq_true rfl) (by omega) (by decide) (by omega) (by omega) ?_
                    refine x_goto (tgt := 73) dX8_tin_61 (by decide) ?_
                    refine x_iret hr rfl dX8_tin_73 (by omega) (by omega) (hQ _ _ ?_)
                    exact ⟨by simp [spTin, hx, hy, c52], by simp [spTin, hx, hy, c52, mI_mI, mSA_id]⟩
        · try (exfalso; first | (simp (disch := omega) [inS_ix, inS_N, ixL_N, ix_nI, hx, hy] at c33 <;> omega) | (simp (disch := omega) only [h0, h1, h3, Int32.le_iff_toInt_le, Int32.lt_iff_toInt_lt, ← Int32.toInt_inj, nI_toInt, Int32.toInt_zero, m1_toInt, Int64.le_iff_toInt_le, Int64.lt_iff_toInt_lt, ← Int64.toInt_inj, pk_lT, i64_toInt, Int64.toInt_zero, eq_self, not_true_eq_false, not_false_eq_true] at c15 c33 <;> omega) | omega)
          all_goals
            skip
            refine x_aload_n dX8_tin_36 rfl ?_
            refine x_iconst (v := nI 5) rfl dX8_tin_37 ?_
            refine x_callV1 lk_X8_327 (m_refuse _) ho dX8_tin_38 rfl (Nat.le_of_ble_eq_true rfl) (by omega) (by decide) (by omega) (by omega) ?_
            refine x_iret hr rfl dX8_tin_41 (by omega) (by omega) (hQ _ _ ?_)
            exact ⟨by simp [spTin, hx, hy], by simp [spTin, hx, hy, mI_mI, mSA_id]⟩
    · try (exfalso; first | (simp (disch := omega) [inS_ix, inS_N, ixL_N, ix_nI, hx, hy] at c15 <;> omega) | (simp (disch := omega) only [h0, h1, h3, Int32.le_iff_toInt_le, Int32.lt_iff_toInt_lt, ← Int32.toInt_inj, nI_toInt, Int32.toInt_zero, m1_toInt, Int64.le_iff_toInt_le, Int64.lt_iff_toInt_lt, ← Int64.toInt_inj, pk_lT, i64_toInt, Int64.toInt_zero, eq_self, not_true_eq_false, not_false_eq_true] at c15 <;> omega) | omega)
      all_goals
        skip
        refine x_aload_n dX8_tin_18 rfl ?_
        refine x_iconst (v := nI 2) rfl dX8_tin_19 ?_
        refine x_callV1 lk_X8_327 (m_refuse _) ho dX8_tin_20 rfl (Nat.le_of_ble_eq_true rfl) (by omega) (by decide) (by omega) (by omega) ?_
        refine x_iret hr rfl dX8_tin_23 (by omega) (by omega) (hQ _ _ ?_)
        exact ⟨by simp [spTin, hx, hy], by simp [spTin, hx, hy, mI_mI, mSA_id]⟩
  · skip
    refine CT.of (ini := false) (by decide +kernel) q1950 q164 (Nat.le_of_ble_eq_true rfl) (by decide) ?_
    intro Γ hw ho hL hr hh hini hal hd hmc hms hQ
    subst hw
    show AW Γ cX8_tin 0 0 0 [some (.ref 32), some (.int p9), some (.int w9)] [] (hM M R)
    have h0 := hF.c0
    have h1 := hF.c1
    have h3 := hF.c3
    have l0 := hF.l0
    have l1 := hF.l1
    have l3 := hF.l3
    refine x_aload_n dX8_tin_0 rfl ?_
    refine x_iconst (v := nI 0) rfl dX8_tin_1 ?_
    refine m_puti (k := 1) (pf_X8_70 (ini := false)) ho hini dX8_tin_2 rfl rfl (by decide) (ms_1 _ _) ?_
    refine x_aload_n dX8_tin_5 rfl ?_
    refine x_iconst (v := nI 0) rfl dX8_tin_6 ?_
    refine m_puti (k := 0) (pf_X8_73 (ini := false)) ho hini dX8_tin_7 rfl rfl (by decide) (ms_0 _ _) ?_
    refine x_aload_n dX8_tin_10 rfl ?_
    refine x_iload_n dX8_tin_11 rfl ?_
    refine x_callV1 lk_X8_344 (m_isTinAt (M := (mI (mI M 1 (nI 0)) 0 (nI 0))) hF _) ho dX8_tin_12 rfl (Nat.le_of_ble_eq_true rfl) (by omega) (by decide) (by omega) (by omega) ?_
    refine x_ifb_ne (tgt := 24) dX8_tin_15 (by decide) (fun c15 => ?_) (fun c15 => ?_)
    · try (exfalso; first | (simp (disch := omega) [inS_ix, inS_N, ixL_N, ix_nI, hx] at c15 <;> omega) | (simp (disch := omega) only [h0, h1, h3, Int32.le_iff_toInt_le, Int32.lt_iff_toInt_lt, ← Int32.toInt_inj, nI_toInt, Int32.toInt_zero, m1_toInt, Int64.le_iff_toInt_le, Int64.lt_iff_toInt_lt, ← Int64.toInt_inj, pk_lT, i64_toInt, Int64.toInt_zero, eq_self, not_true_eq_false, not_false_eq_true] at c15 <;> omega) | omega)
      all_goals
        skip
        refine x_iload_n dX8_tin_24 rfl ?_
        refine x_i2l dX8_tin_25 ?_
        refine x_lconst (v := lN 0) rfl dX8_tin_26 ?_
        refine x_ldc2 (v := lN 4) ho q1942 dX8_tin_27 ?_
        refine x_callS3 lk_X8_105 (m_isIn _ _ _) ho dX8_tin_30 (Nat.le_of_ble_eq_true rfl) (by omega) (by decide) (by omega) (by omega) ?_
        refine x_ifb_ne (tgt := 42) dX8_tin_33 (by decide) (fun c33 => ?_) (fun c33 => ?_)
        · try (exfalso; first | (simp (disch := omega) [inS_ix, inS_N, ixL_N, ix_nI, hx] at c33 <;> omega) | (simp (disch := omega) only [h0, h1, h3, Int32.le_iff_toInt_le, Int32.lt_iff_toInt_lt, ← Int32.toInt_inj, nI_toInt, Int32.toInt_zero, m1_toInt, Int64.le_iff_toInt_le, Int64.lt_iff_toInt_lt, ← Int64.toInt_inj, pk_lT, i64_toInt, Int64.toInt_zero, eq_self, not_true_eq_false, not_false_eq_true] at c15 c33 <;> omega) | omega)
          all_goals
            skip
            refine x_iload_n dX8_tin_42 rfl ?_
            refine x_iconst (v := nI 1) rfl dX8_tin_43 ?_
            refine x_icmp_ne (tgt := 74) dX8_tin_44 (by decide) (fun c44 => ?_) (fun c44 => ?_)
            · try (exfalso; first | (simp (disch := omega) [inS_ix, inS_N, ixL_N, ix_nI, hx] at c44 <;> omega) | (simp (disch := omega) only [h0, h1, h3, Int32.le_iff_toInt_le, Int32.lt_iff_toInt_lt, ← Int32.toInt_inj, nI_toInt, Int32.toInt_zero, m1_toInt, Int64.le_iff_toInt_le, Int64.lt_iff_toInt_lt, ← Int64.toInt_inj, pk_lT, i64_toInt, Int64.toInt_zero, eq_self, not_true_eq_false, not_false_eq_true] at c15 c33 c44 <;> omega) | omega)
              all_goals
                skip
                refine x_aload_n dX8_tin_74 rfl ?_
                refine x_getf gf_X8_35 ho dX8_tin_75 rfl rfl ?_
                refine x_iload_n dX8_tin_78 rfl ?_
                refine x_if_ne (tgt := 87) dX8_tin_79 (by decide) (fun c79 => ?_) (fun c79 => ?_)
                · try (exfalso; first | (simp (disch := omega) [inS_ix, inS_N, ixL_N, ix_nI, hx] at c79 <;> omega) | (simp (disch := omega) only [h0, h1, h3, Int32.le_iff_toInt_le, Int32.lt_iff_toInt_lt, ← Int32.toInt_inj, nI_toInt, Int32.toInt_zero, m1_toInt, Int64.le_iff_toInt_le, Int64.lt_iff_toInt_lt, ← Int64.toInt_inj, pk_lT, i64_toInt, Int64.toInt_zero, eq_self, not_true_eq_false, not_false_eq_true] at c15 c33 c44 c79 <;> omega) | omega)
                  all_goals
                    skip
                    refine x_iload_n dX8_tin_87 rfl ?_
                    refine x_iconst (v := nI 2) rfl dX8_tin_88 ?_
                    refine x_icmp_ne (tgt := 97) dX8_tin_89 (by decide) (fun c89 => ?_) (fun c89 => ?_)
                    · try (exfalso; first | (simp (disch := omega) [inS_ix, inS_N, ixL_N, ix_nI, hx] at c89 <;> omega) | (simp (disch := omega) only [h0, h1, h3, Int32.le_iff_toInt_le, Int32.lt_iff_toInt_lt, ← Int32.toInt_inj, nI_toInt, Int32.toInt_zero, m1_toInt, Int64.le_iff_toInt_le, Int64.lt_iff_toInt_lt, ← Int64.toInt_inj, pk_lT, i64_toInt, Int64.toInt_zero, eq_self, not_true_eq_false, not_false_eq_true] at c15 c33 c44 c79 c89 <;> omega) | omega)
                      all_goals
                        skip
                        refine x_iload_n dX8_tin_97 rfl ?_
                        refine x_iconst (v := nI 3) rfl dX8_tin_98 ?_
                        refine x_icmp_ne (tgt := 107) dX8_tin_99 (by decide) (fun c99 => ?_) (fun c99 => ?_)
                        · try (exfalso; first | (simp (disch := omega) [inS_ix, inS_N, ixL_N, ix_nI, hx] at c99 <;> omega) | (simp (disch := omega) only [h0, h1, h3, Int32.le_iff_toInt_le, Int32.lt_iff_toInt_lt, ← Int32.toInt_inj, nI_toInt, Int32.toInt_zero, m1_toInt, Int64.le_iff_toInt_le, Int64.lt_iff_toInt_lt, ← Int64.toInt_inj, pk_lT, i64_toInt, Int64.toInt_zero, eq_self, not_true_eq_false, not_false_eq_true] at c15 c33 c44 c79 c89 c99 <;> omega) | omega)
                          all_goals
                            skip
                            refine x_bipush (v := nI 78) rfl dX8_tin_107 ?_
                            refine x_iload_n dX8_tin_109 rfl ?_
                            refine x_iadd dX8_tin_110 ?_
                            refine x_iald dX8_tin_111 rfl (by first | rfl | exact nI_add _ _ | (simp only [nI_add, pk_mul]; rfl)) (by omega) (by decide) ?_
                            refine x_iret hr rfl dX8_tin_112 (by omega) (by omega) (hQ _ _ ?_)
                            exact ⟨by simp [spTin, hx], by simp [spTin, hx, mI_mI, mSA_id]⟩
                        · try (exfalso; first | (simp (disch := omega) [inS_ix, inS_N, ixL_N, ix_nI, hx] at c99 <;> omega) | (simp (disch := omega) only [h0, h1, h3, Int32.le_iff_toInt_le, Int32.lt_iff_toInt_lt, ← Int32.toInt_inj, nI_toInt, Int32.toInt_zero, m1_toInt, Int64.le_iff_toInt_le, Int64.lt_iff_toInt_lt, ← Int64.toInt_inj, pk_lT, i64_toInt, Int64.toInt_zero, eq_self, not_true_eq_false, not_false_eq_true] at c15 c33 c44 c79 c89 c99 <;> omega) | omega)
                          all_goals
                            skip
                            refine x_bipush (v := nI 69) rfl dX8_tin_102 ?_
                            refine x_goto (tgt := 109) dX8_tin_104 (by decide) ?_
                            refine x_iload_n dX8_tin_109 rfl ?_
                            refine x_iadd dX8_tin_110 ?_
                            refine x_iald dX8_tin_111 rfl (by first | rfl | exact nI_add _ _ | (simp only [nI_add, pk_mul]; rfl)) (by omega) (by decide) ?_
                            refine x_iret hr rfl dX8_tin_112 (by omega) (by omega) (hQ _ _ ?_)
                            exact ⟨by simp [spTin, hx], by simp [spTin, hx, mI_mI, mSA_id]⟩
                    · try (exfalso; first | (simp (disch := omega) [inS_ix, inS_N, ixL_N, ix_nI, hx] at c89 <;> omega) | (simp (disch := omega) only [h0, h1, h3, Int32.le_iff_toInt_le, Int32.lt_iff_toInt_lt, ← Int32.toInt_inj, nI_toInt, Int32.toInt_zero, m1_toInt, Int64.le_iff_toInt_le, Int64.lt_iff_toInt_lt, ← Int64.toInt_inj, pk_lT, i64_toInt, Int64.toInt_zero, eq_self, not_true_eq_false, not_false_eq_true] at c15 c33 c44 c79 c89 <;> omega) | omega)
                      all_goals
                        skip
                        refine x_bipush (v := nI 51) rfl dX8_tin_92 ?_
                        refine x_goto (tgt := 109) dX8_tin_94 (by decide) ?_
                        refine x_iload_n dX8_tin_109 rfl ?_
                        refine x_iadd dX8_tin_110 ?_
                        refine x_iald dX8_tin_111 rfl (by first | rfl | exact nI_add _ _ | (simp only [nI_add, pk_mul]; rfl)) (by omega) (by decide) ?_
                        refine x_iret hr rfl dX8_tin_112 (by omega) (by omega) (hQ _ _ ?_)
                        exact ⟨by simp [spTin, hx], by simp [spTin, hx, mI_mI, mSA_id]⟩
                · try (exfalso; first | (simp (disch := omega) [inS_ix, inS_N, ixL_N, ix_nI, hx] at c79 <;> omega) | (simp (disch := omega) only [h0, h1, h3, Int32.le_iff_toInt_le, Int32.lt_iff_toInt_lt, ← Int32.toInt_inj, nI_toInt, Int32.toInt_zero, m1_toInt, Int64.le_iff_toInt_le, Int64.lt_iff_toInt_lt, ← Int64.toInt_inj, pk_lT, i64_toInt, Int64.toInt_zero, eq_self, not_true_eq_false, not_false_eq_true] at c15 c33 c44 c79 <;> omega) | omega)
                  all_goals
                    skip
                    refine x_bipush (v := nI 33) rfl dX8_tin_82 ?_
                    refine x_goto (tgt := 109) dX8_tin_84 (by decide) ?_
                    refine x_iload_n dX8_tin_109 rfl ?_
                    refine x_iadd dX8_tin_110 ?_
                    refine x_iald dX8_tin_111 rfl (by first | rfl | exact nI_add _ _ | (simp only [nI_add, pk_mul]; rfl)) (by omega) (by decide) ?_
                    refine x_iret hr rfl dX8_tin_112 (by omega) (by omega) (hQ _ _ ?_)
                    exact ⟨by simp [spTin, hx], by simp [spTin, hx, mI_mI, mSA_id]⟩
            · try (exfalso; first | (simp (disch := omega) [inS_ix, inS_N, ixL_N, ix_nI, hx] at c44 <;> omega) | (simp (disch := omega) only [h0, h1, h3, Int32.le_iff_toInt_le, Int32.lt_iff_toInt_lt, ← Int32.toInt_inj, nI_toInt, Int32.toInt_zero, m1_toInt, Int64.le_iff_toInt_le, Int64.lt_iff_toInt_lt, ← Int64.toInt_inj, pk_lT, i64_toInt, Int64.toInt_zero, eq_self, not_true_eq_false, not_false_eq_true] at c15 c33 c44 <;> omega) | omega)
              all_goals
                skip
                refine x_aload_n dX8_tin_47 rfl ?_
                refine x_iload_n dX8_tin_48 rfl ?_
                refine x_callV1 lk_X8_310 (m_isGone (M := (mI (mI M 1 (nI 0)) 0 (nI 0))) hF _ (by omega)) ho dX8_tin_49 rfl (Nat.le_of_ble_eq_true rfl) (by omega) (by decide) (by omega) (by omega) ?_
                refine x_ifb_eq (tgt := 64) dX8_tin_52 (by decide) (fun c52 => ?_) (fun c52 => ?_)
                · try (exfalso; first | (simp (disch := omega) [inS_ix, inS_N, ixL_N, ix_nI, hx] at c52 <;> omega) | (simp (disch := omega) only [h0, h1, h3, Int32.le_iff_toInt_le, Int32.lt_iff_toInt_lt, ← Int32.toInt_inj, nI_toInt, Int32.toInt_zero, m1_toInt, Int64.le_iff_toInt_le, Int64.lt_iff_toInt_lt, ← Int64.toInt_inj, pk_lT, i64_toInt, Int64.toInt_zero, eq_self, not_true_eq_false, not_false_eq_true] at c15 c33 c44 c52 <;> omega) | omega)
                  all_goals
                    skip
                    refine x_aload_n dX8_tin_64 rfl ?_
                    refine x_getf gf_X8_35 ho dX8_tin_65 rfl rfl ?_
                    refine x_bipush (v := nI 42) rfl dX8_tin_68 ?_
                    refine x_iload_n dX8_tin_70 rfl ?_
                    refine x_iadd dX8_tin_71 ?_
                    refine x_iald dX8_tin_72 rfl (by first | rfl | exact nI_add _ _ | (simp only [nI_add, pk_mul]; rfl)) (by omega) (by decide) ?_
                    refine x_iret hr rfl dX8_tin_73 (by omega) (by omega) (hQ _ _ ?_)
                    exact ⟨by simp [spTin, hx], by simp [spTin, hx, mI_mI, mSA_id]⟩
                · try (exfalso; first | (simp (disch := omega) [inS_ix, inS_N, ixL_N, ix_nI, hx] at c52 <;> omega) | (simp (disch := omega) only [h0, h1, h3, Int32.le_iff_toInt_le, Int32.lt_iff_toInt_lt, ← Int32.toInt_inj, nI_toInt, Int32.toInt_zero, m1_toInt, Int64.le_iff_toInt_le, Int64.lt_iff_toInt_lt, ← Int64.toInt_inj, pk_lT, i64_toInt, Int64.toInt_zero, eq_self, not_true_eq_false, not_false_eq_true] at c15 c33 c44 c52 <;> omega) | omega)
                  all_goals
                    skip
                    refine x_aload_n dX8_tin_55 rfl ?_
                    refine x_bipush (v := nI 8) rfl dX8_tin_56 ?_
                    refine x_callV1 lk_X8_327 (m_refuse _) ho dX8_tin_58 rfl (Nat.le_of_ble_eq_true rfl) (by omega) (by decide) (by omega) (by omega) ?_
                    refine x_goto (tgt := 73) dX8_tin_61 (by decide) ?_
                    refine x_iret hr rfl dX8_tin_73 (by omega) (by omega) (hQ _ _ ?_)
                    exact ⟨by simp [spTin, hx], by simp [spTin, hx, mI_mI, mSA_id]⟩
        · try (exfalso; first | (simp (disch := omega) [inS_ix, inS_N, ixL_N, ix_nI, hx] at c33 <;> omega) | (simp (disch := omega) only [h0, h1, h3, Int32.le_iff_toInt_le, Int32.lt_iff_toInt_lt, ← Int32.toInt_inj, nI_toInt, Int32.toInt_zero, m1_toInt, Int64.le_iff_toInt_le, Int64.lt_iff_toInt_lt, ← Int64.toInt_inj, pk_lT, i64_toInt, Int64.toInt_zero, eq_self, not_true_eq_false, not_false_eq_true] at c15 c33 <;> omega) | omega)
          all_goals
            skip
            refine x_aload_n dX8_tin_36 rfl ?_
            refine x_iconst (v := nI 5) rfl dX8_tin_37 ?_
            refine x_callV1 lk_X8_327 (m_refuse _) ho dX8_tin_38 rfl (Nat.le_of_ble_eq_true rfl) (by omega) (by decide) (by omega) (by omega) ?_
            refine x_iret hr rfl dX8_tin_41 (by omega) (by omega) (hQ _ _ ?_)
            exact ⟨by simp [spTin, hx], by simp [spTin, hx, mI_mI, mSA_id]⟩
    · try (exfalso; first | (simp (disch := omega) [inS_ix, inS_N, ixL_N, ix_nI, hx] at c15 <;> omega) | (simp (disch := omega) only [h0, h1, h3, Int32.le_iff_toInt_le, Int32.lt_iff_toInt_lt, ← Int32.toInt_inj, nI_toInt, Int32.toInt_zero, m1_toInt, Int64.le_iff_toInt_le, Int64.lt_iff_toInt_lt, ← Int64.toInt_inj, pk_lT, i64_toInt, Int64.toInt_zero, eq_self, not_true_eq_false, not_false_eq_true] at c15 <;> omega) | omega)
      all_goals
        skip
        refine x_aload_n dX8_tin_18 rfl ?_
        refine x_iconst (v := nI 2) rfl dX8_tin_19 ?_
        refine x_callV1 lk_X8_327 (m_refuse _) ho dX8_tin_20 rfl (Nat.le_of_ble_eq_true rfl) (by omega) (by decide) (by omega) (by omega) ?_
        refine x_iret hr rfl dX8_tin_23 (by omega) (by omega) (hQ _ _ ?_)
        exact ⟨by simp [spTin, hx], by simp [spTin, hx, mI_mI, mSA_id]⟩
  · skip
    refine CT.of (ini := false) (by decide +kernel) q1950 q164 (Nat.le_of_ble_eq_true rfl) (by decide) ?_
    intro Γ hw ho hL hr hh hini hal hd hmc hms hQ
    subst hw
    show AW Γ cX8_tin 0 0 0 [some (.ref 32), some (.int (nI t)), some (.int w9)] [] (hM M R)
    have h0 := hF.c0
    have h1 := hF.c1
    have h3 := hF.c3
    have l0 := hF.l0
    have l1 := hF.l1
    have l3 := hF.l3
    refine x_aload_n dX8_tin_0 rfl ?_
    refine x_iconst (v := nI 0) rfl dX8_tin_1 ?_
    refine m_puti (k := 1) (pf_X8_70 (ini := false)) ho hini dX8_tin_2 rfl rfl (by decide) (ms_1 _ _) ?_
    refine x_aload_n dX8_tin_5 rfl ?_
    refine x_iconst (v := nI 0) rfl dX8_tin_6 ?_
    refine m_puti (k := 0) (pf_X8_73 (ini := false)) ho hini dX8_tin_7 rfl rfl (by decide) (ms_0 _ _) ?_
    refine x_aload_n dX8_tin_10 rfl ?_
    refine x_iload_n dX8_tin_11 rfl ?_
    refine x_callV1 lk_X8_344 (m_isTinAt (M := (mI (mI M 1 (nI 0)) 0 (nI 0))) hF _) ho dX8_tin_12 rfl (Nat.le_of_ble_eq_true rfl) (by omega) (by decide) (by omega) (by omega) ?_
    refine x_ifb_ne (tgt := 24) dX8_tin_15 (by decide) (fun c15 => ?_) (fun c15 => ?_)
    · try (exfalso; first | (simp (disch := omega) [inS_ix, inS_N, ixL_N, ix_nI, hx, hy] at c15 <;> omega) | (simp (disch := omega) only [h0, h1, h3, Int32.le_iff_toInt_le, Int32.lt_iff_toInt_lt, ← Int32.toInt_inj, nI_toInt, Int32.toInt_zero, m1_toInt, Int64.le_iff_toInt_le, Int64.lt_iff_toInt_lt, ← Int64.toInt_inj, pk_lT, i64_toInt, Int64.toInt_zero, eq_self, not_true_eq_false, not_false_eq_true] at c15 <;> omega) | omega)
      all_goals
        skip
        refine x_iload_n dX8_tin_24 rfl ?_
        refine x_i2l dX8_tin_25 ?_
        refine x_lconst (v := lN 0) rfl dX8_tin_26 ?_
        refine x_ldc2 (v := lN 4) ho q1942 dX8_tin_27 ?_
        refine x_callS3 lk_X8_105 (m_isIn _ _ _) ho dX8_tin_30 (Nat.le_of_ble_eq_true rfl) (by omega) (by decide) (by omega) (by omega) ?_
        refine x_ifb_ne (tgt := 42) dX8_tin_33 (by decide) (fun c33 => ?_) (fun c33 => ?_)
        · try (exfalso; first | (simp (disch := omega) [inS_ix, inS_N, ixL_N, ix_nI, hx, hy] at c33 <;> omega) | (simp (disch := omega) only [h0, h1, h3, Int32.le_iff_toInt_le, Int32.lt_iff_toInt_lt, ← Int32.toInt_inj, nI_toInt, Int32.toInt_zero, m1_toInt, Int64.le_iff_toInt_le, Int64.lt_iff_toInt_lt, ← Int64.toInt_inj, pk_lT, i64_toInt, Int64.toInt_zero, eq_self, not_true_eq_false, not_false_eq_true] at c15 c33 <;> omega) | omega)
          all_goals
            skip
            refine x_iload_n dX8_tin_42 rfl ?_
            refine x_iconst (v := nI 1) rfl dX8_tin_43 ?_
            refine x_icmp_ne (tgt := 74) dX8_tin_44 (by decide) (fun c44 => ?_) (fun c44 => ?_)
            · try (exfalso; first | (simp (disch := omega) [inS_ix, inS_N, ixL_N, ix_nI, hx, hy] at c44 <;> omega) | (simp (disch := omega) only [h0, h1, h3, Int32.le_iff_toInt_le, Int32.lt_iff_toInt_lt, ← Int32.toInt_inj, nI_toInt, Int32.toInt_zero, m1_toInt, Int64.le_iff_toInt_le, Int64.lt_iff_toInt_lt, ← Int64.toInt_inj, pk_lT, i64_toInt, Int64.toInt_zero, eq_self, not_true_eq_false, not_false_eq_true] at c15 c33 c44 <;> omega) | omega)
              all_goals
                skip
                refine x_aload_n dX8_tin_74 rfl ?_
                refine x_getf gf_X8_35 ho dX8_tin_75 rfl rfl ?_
                refine x_iload_n dX8_tin_78 rfl ?_
                refine x_if_ne (tgt := 87) dX8_tin_79 (by decide) (fun c79 => ?_) (fun c79 => ?_)
                · try (exfalso; first | (simp (disch := omega) [inS_ix, inS_N, ixL_N, ix_nI, hx, hy] at c79 <;> omega) | (simp (disch := omega) only [h0, h1, h3, Int32.le_iff_toInt_le, Int32.lt_iff_toInt_lt, ← Int32.toInt_inj, nI_toInt, Int32.toInt_zero, m1_toInt, Int64.le_iff_toInt_le, Int64.lt_iff_toInt_lt, ← Int64.toInt_inj, pk_lT, i64_toInt, Int64.toInt_zero, eq_self, not_true_eq_false, not_false_eq_true] at c15 c33 c44 c79 <;> omega) | omega)
                  all_goals
                    skip
                    refine x_iload_n dX8_tin_87 rfl ?_
                    refine x_iconst (v := nI 2) rfl dX8_tin_88 ?_
                    refine x_icmp_ne (tgt := 97) dX8_tin_89 (by decide) (fun c89 => ?_) (fun c89 => ?_)
                    · try (exfalso; first | (simp (disch := omega) [inS_ix, inS_N, ixL_N, ix_nI, hx, hy] at c89 <;> omega) | (simp (disch := omega) only [h0, h1, h3, Int32.le_iff_toInt_le, Int32.lt_iff_toInt_lt, ← Int32.toInt_inj, nI_toInt, Int32.toInt_zero, m1_toInt, Int64.le_iff_toInt_le, Int64.lt_iff_toInt_lt, ← Int64.toInt_inj, pk_lT, i64_toInt, Int64.toInt_zero, eq_self, not_true_eq_false, not_false_eq_true] at c15 c33 c44 c79 c89 <;> omega) | omega)
                      all_goals
                        skip
                        refine x_iload_n dX8_tin_97 rfl ?_
                        refine x_iconst (v := nI 3) rfl dX8_tin_98 ?_
                        refine x_icmp_ne (tgt := 107) dX8_tin_99 (by decide) (fun c99 => ?_) (fun c99 => ?_)
                        · try (exfalso; first | (simp (disch := omega) [inS_ix, inS_N, ixL_N, ix_nI, hx, hy] at c99 <;> omega) | (simp (disch := omega) only [h0, h1, h3, Int32.le_iff_toInt_le, Int32.lt_iff_toInt_lt, ← Int32.toInt_inj, nI_toInt, Int32.toInt_zero, m1_toInt, Int64.le_iff_toInt_le, Int64.lt_iff_toInt_lt, ← Int64.toInt_inj, pk_lT, i64_toInt, Int64.toInt_zero, eq_self, not_true_eq_false, not_false_eq_true] at c15 c33 c44 c79 c89 c99 <;> omega) | omega)
                          all_goals
                            skip
                            refine x_bipush (v := nI 78) rfl dX8_tin_107 ?_
                            refine x_iload_n dX8_tin_109 rfl ?_
                            refine x_iaddN dX8_tin_110 ?_
                            refine x_iald dX8_tin_111 rfl (by first | rfl | exact nI_add _ _ | (simp only [nI_add, pk_mul]; rfl)) (by omega) (by decide) ?_
                            refine x_iret hr rfl dX8_tin_112 (by omega) (by omega) (hQ _ _ ?_)
                            exact ⟨by simp [spTin, hx, hy], by simp [spTin, hx, hy, mI_mI, mSA_id]⟩
                        · try (exfalso; first | (simp (disch := omega) [inS_ix, inS_N, ixL_N, ix_nI, hx, hy] at c99 <;> omega) | (simp (disch := omega) only [h0, h1, h3, Int32.le_iff_toInt_le, Int32.lt_iff_toInt_lt, ← Int32.toInt_inj, nI_toInt, Int32.toInt_zero, m1_toInt, Int64.le_iff_toInt_le, Int64.lt_iff_toInt_lt, ← Int64.toInt_inj, pk_lT, i64_toInt, Int64.toInt_zero, eq_self, not_true_eq_false, not_false_eq_true] at c15 c33 c44 c79 c89 c99 <;> omega) | omega)
                          all_goals
                            skip
                            refine x_bipush (v := nI 69) rfl dX8_tin_102 ?_
                            refine x_goto (tgt := 109) dX8_tin_104 (by decide) ?_
                            refine x_iload_n dX8_tin_109 rfl ?_
                            refine x_iaddN dX8_tin_110 ?_
                            refine x_iald dX8_tin_111 rfl (by first | rfl | exact nI_add _ _ | (simp only [nI_add, pk_mul]; rfl)) (by omega) (by decide) ?_
                            refine x_iret hr rfl dX8_tin_112 (by omega) (by omega) (hQ _ _ ?_)
                            exact ⟨by simp [spTin, hx, hy], by simp [spTin, hx, hy, mI_mI, mSA_id]⟩
                    · try (exfalso; first | (simp (disch := omega) [inS_ix, inS_N, ixL_N, ix_nI, hx, hy] at c89 <;> omega) | (simp (disch := omega) only [h0, h1, h3, Int32.le_iff_toInt_le, Int32.lt_iff_toInt_lt, ← Int32.toInt_inj, nI_toInt, Int32.toInt_zero, m1_toInt, Int64.le_iff_toInt_le, Int64.lt_iff_toInt_lt, ← Int64.toInt_inj, pk_lT, i64_toInt, Int64.toInt_zero, eq_self, not_true_eq_false, not_false_eq_true] at c15 c33 c44 c79 c89 <;> omega) | omega)
                      all_goals
                        skip
                        refine x_bipush (v := nI 51) rfl dX8_tin_92 ?_
                        refine x_goto (tgt := 109) dX8_tin_94 (by decide) ?_
                        refine x_iload_n dX8_tin_109 rfl ?_
                        refine x_iaddN dX8_tin_110 ?_
                        refine x_iald dX8_tin_111 rfl (by first | rfl | exact nI_add _ _ | (simp only [nI_add, pk_mul]; rfl)) (by omega) (by decide) ?_
                        refine x_iret hr rfl dX8_tin_112 (by omega) (by omega) (hQ _ _ ?_)
                        exact ⟨by simp [spTin, hx, hy], by simp [spTin, hx, hy, mI_mI, mSA_id]⟩
                · try (exfalso; first | (simp (disch := omega) [inS_ix, inS_N, ixL_N, ix_nI, hx, hy] at c79 <;> omega) | (simp (disch := omega) only [h0, h1, h3, Int32.le_iff_toInt_le, Int32.lt_iff_toInt_lt, ← Int32.toInt_inj, nI_toInt, Int32.toInt_zero, m1_toInt, Int64.le_iff_toInt_le, Int64.lt_iff_toInt_lt, ← Int64.toInt_inj, pk_lT, i64_toInt, Int64.toInt_zero, eq_self, not_true_eq_false, not_false_eq_true] at c15 c33 c44 c79 <;> omega) | omega)
                  all_goals
                    skip
                    refine x_bipush (v := nI 33) rfl dX8_tin_82 ?_
                    refine x_goto (tgt := 109) dX8_tin_84 (by decide) ?_
                    refine x_iload_n dX8_tin_109 rfl ?_
                    refine x_iaddN dX8_tin_110 ?_
                    refine x_iald dX8_tin_111 rfl (by first | rfl | exact nI_add _ _ | (simp only [nI_add, pk_mul]; rfl)) (by omega) (by decide) ?_
                    refine x_iret hr rfl dX8_tin_112 (by omega) (by omega) (hQ _ _ ?_)
                    exact ⟨by simp [spTin, hx, hy], by simp [spTin, hx, hy, mI_mI, mSA_id]⟩
            · try (exfalso; first | (simp (disch := omega) [inS_ix, inS_N, ixL_N, ix_nI, hx, hy] at c44 <;> omega) | (simp (disch := omega) only [h0, h1, h3, Int32.le_iff_toInt_le, Int32.lt_iff_toInt_lt, ← Int32.toInt_inj, nI_toInt, Int32.toInt_zero, m1_toInt, Int64.le_iff_toInt_le, Int64.lt_iff_toInt_lt, ← Int64.toInt_inj, pk_lT, i64_toInt, Int64.toInt_zero, eq_self, not_true_eq_false, not_false_eq_true] at c15 c33 c44 <;> omega) | omega)
              all_goals
                skip
                refine x_aload_n dX8_tin_47 rfl ?_
                refine x_iload_n dX8_tin_48 rfl ?_
                refine x_callV1 lk_X8_310 (m_isGone (M := (mI (mI M 1 (nI 0)) 0 (nI 0))) hF _ (by omega)) ho dX8_tin_49 rfl (Nat.le_of_ble_eq_true rfl) (by omega) (by decide) (by omega) (by omega) ?_
                refine x_ifb_eq (tgt := 64) dX8_tin_52 (by decide) (fun c52 => ?_) (fun c52 => ?_)
                · try (exfalso; first | (simp (disch := omega) [inS_ix, inS_N, ixL_N, ix_nI, hx, hy] at c52 <;> omega) | (simp (disch := omega) only [h0, h1, h3, Int32.le_iff_toInt_le, Int32.lt_iff_toInt_lt, ← Int32.toInt_inj, nI_toInt, Int32.toInt_zero, m1_toInt, Int64.le_iff_toInt_le, Int64.lt_iff_toInt_lt, ← Int64.toInt_inj, pk_lT, i64_toInt, Int64.toInt_zero, eq_self, not_true_eq_false, not_false_eq_true] at c15 c33 c44 c52 <;> omega) | omega)
                  all_goals
                    skip
                    refine x_aload_n dX8_tin_64 rfl ?_
                    refine x_getf gf_X8_35 ho dX8_tin_65 rfl rfl ?_
                    refine x_bipush (v := nI 42) rfl dX8_tin_68 ?_
                    refine x_iload_n dX8_tin_70 rfl ?_
                    refine x_iaddN dX8_tin_71 ?_
                    refine x_iald dX8_tin_72 rfl (by first | rfl | exact nI_add _ _ | (simp only [nI_add, pk_mul]; rfl)) (by omega) (by decide) ?_
                    refine x_iret hr rfl dX8_tin_73 (by omega) (by omega) (hQ _ _ ?_)
                    exact ⟨by simp [spTin, hx, hy, c52], by simp [spTin, hx, hy, c52, mI_mI, mSA_id]⟩
                · try (exfalso; first | (simp (disch := omega) [inS_ix, inS_N, ixL_N, ix_nI, hx, hy] at c52 <;> omega) | (simp (disch := omega) only [h0, h1, h3, Int32.le_iff_toInt_le, Int32.lt_iff_toInt_lt, ← Int32.toInt_inj, nI_toInt, Int32.toInt_zero, m1_toInt, Int64.le_iff_toInt_le, Int64.lt_iff_toInt_lt, ← Int64.toInt_inj, pk_lT, i64_toInt, Int64.toInt_zero, eq_self, not_true_eq_false, not_false_eq_true] at c15 c33 c44 c52 <;> omega) | omega)
                  all_goals
                    skip
                    refine x_aload_n dX8_tin_55 rfl ?_
                    refine x_bipush (v := nI 8) rfl dX8_tin_56 ?_
                    refine x_callV1 lk_X8_327 (m_refuse _) ho dX8_tin_58 rfl (Nat.le_of_ble_eq_true rfl) (by omega) (by decide) (by omega) (by omega) ?_
                    refine x_goto (tgt := 73) dX8_tin_61 (by decide) ?_
                    refine x_iret hr rfl dX8_tin_73 (by omega) (by omega) (hQ _ _ ?_)
                    exact ⟨by simp [spTin, hx, hy, c52], by simp [spTin, hx, hy, c52, mI_mI, mSA_id]⟩
        · try (exfalso; first | (simp (disch := omega) [inS_ix, inS_N, ixL_N, ix_nI, hx, hy] at c33 <;> omega) | (simp (disch := omega) only [h0, h1, h3, Int32.le_iff_toInt_le, Int32.lt_iff_toInt_lt, ← Int32.toInt_inj, nI_toInt, Int32.toInt_zero, m1_toInt, Int64.le_iff_toInt_le, Int64.lt_iff_toInt_lt, ← Int64.toInt_inj, pk_lT, i64_toInt, Int64.toInt_zero, eq_self, not_true_eq_false, not_false_eq_true] at c15 c33 <;> omega) | omega)
          all_goals
            skip
            refine x_aload_n dX8_tin_36 rfl ?_
            refine x_iconst (v := nI 5) rfl dX8_tin_37 ?_
            refine x_callV1 lk_X8_327 (m_refuse _) ho dX8_tin_38 rfl (Nat.le_of_ble_eq_true rfl) (by omega) (by decide) (by omega) (by omega) ?_
            refine x_iret hr rfl dX8_tin_41 (by omega) (by omega) (hQ _ _ ?_)
            exact ⟨by simp [spTin, hx, hy], by simp [spTin, hx, hy, mI_mI, mSA_id]⟩
    · try (exfalso; first | (simp (disch := omega) [inS_ix, inS_N, ixL_N, ix_nI, hx, hy] at c15 <;> omega) | (simp (disch := omega) only [h0, h1, h3, Int32.le_iff_toInt_le, Int32.lt_iff_toInt_lt, ← Int32.toInt_inj, nI_toInt, Int32.toInt_zero, m1_toInt, Int64.le_iff_toInt_le, Int64.lt_iff_toInt_lt, ← Int64.toInt_inj, pk_lT, i64_toInt, Int64.toInt_zero, eq_self, not_true_eq_false, not_false_eq_true] at c15 <;> omega) | omega)
      all_goals
        skip
        refine x_aload_n dX8_tin_18 rfl ?_
        refine x_iconst (v := nI 2) rfl dX8_tin_19 ?_
        refine x_callV1 lk_X8_327 (m_refuse _) ho dX8_tin_20 rfl (Nat.le_of_ble_eq_true rfl) (by omega) (by decide) (by omega) (by omega) ?_
        refine x_iret hr rfl dX8_tin_23 (by omega) (by omega) (hQ _ _ ?_)
        exact ⟨by simp [spTin, hx, hy], by simp [spTin, hx, hy, mI_mI, mSA_id]⟩
set_option maxHeartbeats 4000000 in
theorem m_passes {w : xW} {M : mS} {R : xH} {tm pm tn G : Nat} (hF : wF (M.2.2.1 5) tm pm tn G) (t q : Nat) (ht : t < tn) (hq : q < pm) : CT w yX8_passes cX8_passes 4 (some (.boolean)) [] false (3) 0 0 [.ref 32, .int (nI t), .int (nI q)] (hM M R) (xret (some (.int (xb (paB (M.2.2.1 5) pm t q)))) (hM (mSA M 5 (paC (M.2.2.1 5) pm t q)) R)) := by
  rcases hF.on ht with e | ⟨p, hp, e⟩
  · skip
    refine CT.of (ini := false) (by decide +kernel) q1972 q164 (Nat.le_of_ble_eq_true rfl) (by decide) ?_
    intro Γ hw ho hL hr hh hini hal hd hmc hms hQ
    subst hw
    show AW Γ cX8_passes 0 0 0 [some (.ref 32), some (.int (nI t)), some (.int (nI q)), none] [] (hM M R)
    have h0 := hF.c0
    have h1 := hF.c1
    have h3 := hF.c3
    have l0 := hF.l0
    have l1 := hF.l1
    have l3 := hF.l3
    refine x_aload_n dX8_passes_0 rfl ?_
    refine x_getf gf_X8_35 ho dX8_passes_1 rfl rfl ?_
    refine x_bipush (v := nI 42) rfl dX8_passes_4 ?_
    refine x_iload_n dX8_passes_6 rfl ?_
    refine x_iaddN dX8_passes_7 ?_
    refine x_iald dX8_passes_8 rfl (by first | rfl | exact nI_add _ _ | (simp only [nI_add, pk_mul]; rfl)) (by omega) (by decide) ?_
    refine x_ival e ?_
    refine x_ist3 hL (by decide) rfl dX8_passes_9 ?_
    refine x_iload_n dX8_passes_10 rfl ?_
    refine x_if_lt (tgt := 27) dX8_passes_11 (by decide) (fun c11 => ?_) (fun c11 => ?_)
    · try (exfalso; first | (simp (disch := omega) [inS_ix, inS_N, ixL_N, ix_nI, e] at c11 <;> omega) | (simp (disch := omega) only [h0, h1, h3, Int32.le_iff_toInt_le, Int32.lt_iff_toInt_lt, ← Int32.toInt_inj, nI_toInt, Int32.toInt_zero, m1_toInt, Int64.le_iff_toInt_le, Int64.lt_iff_toInt_lt, ← Int64.toInt_inj, pk_lT, i64_toInt, Int64.toInt_zero, eq_self, not_true_eq_false, not_false_eq_true] at c11 <;> omega) | omega)
      all_goals
        skip
        refine x_iconst (v := nI 0) rfl dX8_passes_27 ?_
        refine x_iret hr rfl dX8_passes_28 (by omega) (by omega) (hQ _ _ ?_)
        exact ⟨by rw [paB_1 e]; rfl, by rw [paC, paB_1 e, if_neg (by decide), mSA_id]⟩
    · exact absurd m1_lt0 (by simpa using c11)
  · skip
    refine CT.of (ini := false) (by decide +kernel) q1972 q164 (Nat.le_of_ble_eq_true rfl) (by decide) ?_
    intro Γ hw ho hL hr hh hini hal hd hmc hms hQ
    subst hw
    show AW Γ cX8_passes 0 0 0 [some (.ref 32), some (.int (nI t)), some (.int (nI q)), none] [] (hM M R)
    have h0 := hF.c0
    have h1 := hF.c1
    have h3 := hF.c3
    have l0 := hF.l0
    have l1 := hF.l1
    have l3 := hF.l3
    refine x_aload_n dX8_passes_0 rfl ?_
    refine x_getf gf_X8_35 ho dX8_passes_1 rfl rfl ?_
    refine x_bipush (v := nI 42) rfl dX8_passes_4 ?_
    refine x_iload_n dX8_passes_6 rfl ?_
    refine x_iaddN dX8_passes_7 ?_
    refine x_iald dX8_passes_8 rfl (by first | rfl | exact nI_add _ _ | (simp only [nI_add, pk_mul]; rfl)) (by omega) (by decide) ?_
    refine x_ival e ?_
    refine x_ist3 hL (by decide) rfl dX8_passes_9 ?_
    refine x_iload_n dX8_passes_10 rfl ?_
    refine x_if_lt (tgt := 27) dX8_passes_11 (by decide) (fun c11 => ?_) (fun c11 => ?_)
    · try (exfalso; first | (simp (disch := omega) [inS_ix, inS_N, ixL_N, ix_nI, e] at c11 <;> omega) | (simp (disch := omega) only [h0, h1, h3, Int32.le_iff_toInt_le, Int32.lt_iff_toInt_lt, ← Int32.toInt_inj, nI_toInt, Int32.toInt_zero, m1_toInt, Int64.le_iff_toInt_le, Int64.lt_iff_toInt_lt, ← Int64.toInt_inj, pk_lT, i64_toInt, Int64.toInt_zero, eq_self, not_true_eq_false, not_false_eq_true] at c11 <;> omega) | omega)
      all_goals
        skip
        refine x_iconst (v := nI 0) rfl dX8_passes_27 ?_
        refine x_iret hr rfl dX8_passes_28 (by omega) (by omega) (hQ _ _ ?_)
        exact ⟨by rw [paB_0 e (by omega), c24]; rfl, by rw [paC, paB_0 e (by omega), c24]; simp (disch := omega) [pasC, e, cl_nI, mA_5, mSA_mSA, mSA_id, upA_s, mI_mI, upd_n]⟩
    · try (exfalso; first | (simp (disch := omega) [inS_ix, inS_N, ixL_N, ix_nI, e] at c11 <;> omega) | (simp (disch := omega) only [h0, h1, h3, Int32.le_iff_toInt_le, Int32.lt_iff_toInt_lt, ← Int32.toInt_inj, nI_toInt, Int32.toInt_zero, m1_toInt, Int64.le_iff_toInt_le, Int64.lt_iff_toInt_lt, ← Int64.toInt_inj, pk_lT, i64_toInt, Int64.toInt_zero, eq_self, not_true_eq_false, not_false_eq_true] at c11 <;> omega) | omega)
      all_goals
        skip
        refine x_aload_n dX8_passes_14 rfl ?_
        refine x_iload_n dX8_passes_15 rfl ?_
        refine x_iload_n dX8_passes_16 rfl ?_
        refine x_callV2 lk_X8_357 (m_nextOf hF _ _ (by omega) (by omega)) ho dX8_passes_17 rfl (Nat.le_of_ble_eq_true rfl) (by omega) (by decide) (by omega) (by omega) ?_
        refine x_iload_n dX8_passes_20 rfl ?_
        refine x_callS2 lk_X8_109 (m_has _ _) ho dX8_passes_21 (Nat.le_of_ble_eq_true rfl) (by omega) (by decide) (by omega) (by omega) ?_
        refine x_ifb_ne (tgt := 29) dX8_passes_24 (by decide) (fun c24 => ?_) (fun c24 => ?_)
        · try (exfalso; first | (simp (disch := omega) [inS_ix, inS_N, ixL_N, ix_nI, e] at c24 <;> omega) | (simp (disch := omega) only [h0, h1, h3, Int32.le_iff_toInt_le, Int32.lt_iff_toInt_lt, ← Int32.toInt_inj, nI_toInt, Int32.toInt_zero, m1_toInt, Int64.le_iff_toInt_le, Int64.lt_iff_toInt_lt, ← Int64.toInt_inj, pk_lT, i64_toInt, Int64.toInt_zero, eq_self, not_true_eq_false, not_false_eq_true] at c11 c24 <;> omega) | omega)
          all_goals
            skip
            refine x_aload_n dX8_passes_29 rfl ?_
            refine x_getf gf_X8_35 ho dX8_passes_30 rfl rfl ?_
            refine x_bipush (v := nI 26) rfl dX8_passes_33 ?_
            refine x_iload_n dX8_passes_35 rfl ?_
            refine x_iaddN dX8_passes_36 ?_
            refine x_dup2 rfl rfl dX8_passes_37 ?_
            refine x_iald dX8_passes_38 rfl (by first | rfl | exact nI_add _ _ | (simp only [nI_add, pk_mul]; rfl)) (by omega) (by decide) ?_
            refine x_aload_n dX8_passes_39 rfl ?_
            refine x_iload_n dX8_passes_40 rfl ?_
            refine x_callV1 lk_X8_313 (m_worthOf hF _ (by omega)) ho dX8_passes_41 rfl (Nat.le_of_ble_eq_true rfl) (by omega) (by decide) (by omega) (by omega) ?_
            refine x_iadd dX8_passes_44 ?_
            refine m_iast (r := 5) dX8_passes_45 (by decide) (by decide) (fun _ => rfl) (by first | rfl | exact nI_add _ _ | (simp only [nI_add, pk_mul]; rfl)) (by omega) (by decide) ?_
            refine x_aload_n dX8_passes_46 rfl ?_
            refine x_getf gf_X8_35 ho dX8_passes_47 rfl rfl ?_
            refine x_bipush (v := nI 42) rfl dX8_passes_50 ?_
            refine x_iload_n dX8_passes_52 rfl ?_
            refine x_iaddN dX8_passes_53 ?_
            refine x_iload_n dX8_passes_54 rfl ?_
            refine m_iast (r := 5) dX8_passes_55 (by decide) (by decide) (fun _ => rfl) (by first | rfl | exact nI_add _ _ | (simp only [nI_add, pk_mul]; rfl)) (by omega) (by decide) ?_
            refine x_aload_n dX8_passes_56 rfl ?_
            refine x_getf gf_X8_35 ho dX8_passes_57 rfl rfl ?_
            refine x_bipush (v := nI 69) rfl dX8_passes_60 ?_
            refine x_iload_n dX8_passes_62 rfl ?_
            refine x_iaddN dX8_passes_63 ?_
            refine x_dup2 rfl rfl dX8_passes_64 ?_
            refine x_iald dX8_passes_65 rfl (by first | rfl | exact nI_add _ _ | (simp only [nI_add, pk_mul]; rfl)) (by omega) (by decide) ?_
            refine x_iconst (v := nI 1) rfl dX8_passes_66 ?_
            refine x_iload_n dX8_passes_67 rfl ?_
            refine x_ishl dX8_passes_68 ?_
            refine x_ior dX8_passes_69 ?_
            refine m_iast (r := 5) dX8_passes_70 (by decide) (by decide) (fun _ => rfl) (by first | rfl | exact nI_add _ _ | (simp only [nI_add, pk_mul]; rfl)) (by omega) (by decide) ?_
            refine x_aload_n dX8_passes_71 rfl ?_
            refine x_getf gf_X8_35 ho dX8_passes_72 rfl rfl ?_
            refine x_bipush (v := nI 78) rfl dX8_passes_75 ?_
            refine x_iload_n dX8_passes_77 rfl ?_
            refine x_iaddN dX8_passes_78 ?_
            refine x_dup2 rfl rfl dX8_passes_79 ?_
            refine x_iald dX8_passes_80 rfl (by first | rfl | exact nI_add _ _ | (simp only [nI_add, pk_mul]; rfl)) (by omega) (by decide) ?_
            refine x_iconst (v := nI 1) rfl dX8_passes_81 ?_
            refine x_iadd dX8_passes_82 ?_
            refine m_iast (r := 5) dX8_passes_83 (by decide) (by decide) (fun _ => rfl) (by first | rfl | exact nI_add _ _ | (simp only [nI_add, pk_mul]; rfl)) (by omega) (by decide) ?_
            refine x_aload_n dX8_passes_84 rfl ?_
            refine x_getf gf_X8_35 ho dX8_passes_85 rfl rfl ?_
            refine x_iconst (v := nI 5) rfl dX8_passes_88 ?_
            refine x_dup2 rfl rfl dX8_passes_89 ?_
            refine x_iald dX8_passes_90 rfl (by first | rfl | exact nI_add _ _ | (simp only [nI_add, pk_mul]; rfl)) (by omega) (by decide) ?_
            refine x_iconst (v := nI 1) rfl dX8_passes_91 ?_
            refine x_iadd dX8_passes_92 ?_
            refine m_iast (r := 5) dX8_passes_93 (by decide) (by decide) (fun _ => rfl) (by first | rfl | exact nI_add _ _ | (simp only [nI_add, pk_mul]; rfl)) (by omega) (by decide) ?_
            refine x_iconst (v := nI 1) rfl dX8_passes_94 ?_
            refine x_iret hr rfl dX8_passes_95 (by omega) (by omega) (hQ _ _ ?_)
            exact ⟨by rw [paB_0 e (by omega), c24]; rfl, by rw [paC, paB_0 e (by omega), c24]; simp (disch := omega) [pasC, e, cl_nI, mA_5, mSA_mSA, mSA_id, upA_s, mI_mI, upd_n]⟩
        · try (exfalso; first | (simp (disch := omega) [inS_ix, inS_N, ixL_N, ix_nI, e] at c24 <;> omega) | (simp (disch := omega) only [h0, h1, h3, Int32.le_iff_toInt_le, Int32.lt_iff_toInt_lt, ← Int32.toInt_inj, nI_toInt, Int32.toInt_zero, m1_toInt, Int64.le_iff_toInt_le, Int64.lt_iff_toInt_lt, ← Int64.toInt_inj, pk_lT, i64_toInt, Int64.toInt_zero, eq_self, not_true_eq_false, not_false_eq_true] at c11 c24 <;> omega) | omega)
          all_goals
            skip
            refine x_iconst (v := nI 0) rfl dX8_passes_27 ?_
            refine x_iret hr rfl dX8_passes_28 (by omega) (by omega) (hQ _ _ ?_)
            exact ⟨by rw [paB_0 e (by omega), c24]; rfl, by rw [paC, paB_0 e (by omega), c24]; simp (disch := omega) [pasC, e, cl_nI, mA_5, mSA_mSA, mSA_id, upA_s, mI_mI, upd_n]⟩
