/-! ===== the model: the fewest, wheels ===== -/
set_option maxRecDepth 100000
set_option maxHeartbeats 800000 in
theorem m_covering {w : xW} {M : mS} {R : xH} {tm pm tn G : Nat} (hF : wF (M.2.2.1 5) tm pm tn G)  : CT w yX8_covering cX8_covering 5 (some (.int)) [] false (2) 0 0 [.ref 32] (hM M R) (xret (some (.int ((covS (M.2.2.1 5) tm pm)))) (hM M R)) := by
  refine CT.of (ini := false) (by decide +kernel) q2101 q164 (Nat.le_of_ble_eq_true rfl) (by decide) ?_
  intro Γ hw ho hL hr hh hini hal hd hmc hms hQ
  subst hw
  show AW Γ cX8_covering 0 0 0 [some (.ref 32), none, none, none, none] [] (hM M R)
  have h0 := hF.c0
  have h1 := hF.c1
  have h3 := hF.c3
  have l0 := hF.l0
  have l1 := hF.l1
  have l3 := hF.l3
  have hb : 2 ^ tm ≤ 128 := Nat.le_trans (Nat.pow_le_pow_right (by decide) (show tm ≤ 7 by omega)) (by decide)
  refine x_iconst (v := (-1)) rfl dX8_covering_0 ?_
  refine x_ist1 hL (by decide) rfl dX8_covering_1 ?_
  refine x_iconst (v := nI 0) rfl dX8_covering_2 ?_
  refine x_ist2 hL (by decide) rfl dX8_covering_3 ?_
  refine x_for (n := (2 ^ tm)) (fun i => [some (.ref 32), some (.int (itN (covF (M.2.2.1 5) pm) i (-1))), some (.int (nI i)), none, none]) (fun i => []) (fun i => hM M R) ?_ (fun i hi ihi => ?_)
  · skip
    refine x_iload_n dX8_covering_4 rfl ?_
    refine x_iconst (v := nI 1) rfl dX8_covering_5 ?_
    refine x_aload_n dX8_covering_6 rfl ?_
    refine x_getf gf_X8_35 ho dX8_covering_7 rfl rfl ?_
    refine x_iconst (v := nI 0) rfl dX8_covering_10 ?_
    refine x_iald dX8_covering_11 rfl (by first | rfl | exact nI_add _ _ | (simp only [nI_add, pk_mul]; rfl)) (by omega) (by decide) ?_
    refine x_ival (y := nI tm) h0 ?_
    refine x_ishl dX8_covering_12 ?_
    refine x_ival (y := nI (2 ^ tm)) (sh_pow tm (by omega)) ?_
    refine x_icmp_ge (tgt := 94) dX8_covering_13 (by decide) (fun c13 => ?_) (fun c13 => ?_)
    · skip
      refine x_iload_n dX8_covering_94 rfl ?_
      refine x_iret hr rfl dX8_covering_95 (by omega) (by omega) (hQ _ _ ?_)
      try dsimp only [mI, mSA] at c13
      exact ⟨rfl, rfl⟩
    · exfalso; first | (simp (disch := omega) [inS_ix, inS_N, ixL_N, ix_nI, h0] at c13 <;> omega) | (simp (disch := omega) only [h0, h1, h3, Int32.le_iff_toInt_le, Int32.lt_iff_toInt_lt, ← Int32.toInt_inj, nI_toInt, Int32.toInt_zero, m1_toInt, Int64.le_iff_toInt_le, Int64.lt_iff_toInt_lt, ← Int64.toInt_inj, pk_lT, i64_toInt, Int64.toInt_zero, eq_self, not_true_eq_false, not_false_eq_true] at c13 <;> omega) | omega
  · skip
    have hz1 := szF_le (itN (covF (M.2.2.1 5) pm) i (-1)) 9
    have hz2 := szF_le (nI i) 9
    refine x_iload_n dX8_covering_4 rfl ?_
    refine x_iconst (v := nI 1) rfl dX8_covering_5 ?_
    refine x_aload_n dX8_covering_6 rfl ?_
    refine x_getf gf_X8_35 ho dX8_covering_7 rfl rfl ?_
    refine x_iconst (v := nI 0) rfl dX8_covering_10 ?_
    refine x_iald dX8_covering_11 rfl (by first | rfl | exact nI_add _ _ | (simp only [nI_add, pk_mul]; rfl)) (by omega) (by decide) ?_
    refine x_ival (y := nI tm) h0 ?_
    refine x_ishl dX8_covering_12 ?_
    refine x_ival (y := nI (2 ^ tm)) (sh_pow tm (by omega)) ?_
    refine x_icmp_ge (tgt := 94) dX8_covering_13 (by decide) (fun c13 => ?_) (fun c13 => ?_)
    · exfalso; first | (simp (disch := omega) [inS_ix, inS_N, ixL_N, ix_nI, h0] at c13 <;> omega) | (simp (disch := omega) only [h0, h1, h3, Int32.le_iff_toInt_le, Int32.lt_iff_toInt_lt, ← Int32.toInt_inj, nI_toInt, Int32.toInt_zero, m1_toInt, Int64.le_iff_toInt_le, Int64.lt_iff_toInt_lt, ← Int64.toInt_inj, pk_lT, i64_toInt, Int64.toInt_zero, eq_self, not_true_eq_false, not_false_eq_true] at c13 <;> omega) | omega
    · skip
      refine x_iload_n dX8_covering_16 rfl ?_
      refine x_if_lt (tgt := 31) dX8_covering_17 (by decide) (fun c17 => ?_) (fun c17 => ?_)
      · skip
        skip
        refine x_iconst (v := nI 1) rfl dX8_covering_31 ?_
        refine x_goto (tgt := 36) dX8_covering_32 (by decide) ?_
        refine x_ival (y := xb (covT i (itN (covF (M.2.2.1 5) pm) i (-1)))) (by simp [covT, c13, c17, xb]) ?_
        refine x_ist3 hL (by decide) rfl dX8_covering_36 ?_
        refine x_iconst (v := nI 0) rfl dX8_covering_37 ?_
        refine x_ist4 hL (by decide) rfl dX8_covering_38 ?_
        refine x_for (n := pm) (fun j => [some (.ref 32), some (.int (itN (covF (M.2.2.1 5) pm) i (-1))), some (.int (nI i)), some (.int (xb (itN (covP (M.2.2.1 5) i) j (covT i (itN (covF (M.2.2.1 5) pm) i (-1)))))), some (.int (nI j))]) (fun j => []) (fun j => hM M R) ?_ (fun j hj ihj => ?_)
        · skip
          refine x_iload dX8_covering_40 rfl ?_
          refine x_aload_n dX8_covering_42 rfl ?_
          refine x_getf gf_X8_35 ho dX8_covering_43 rfl rfl ?_
          refine x_iconst (v := nI 1) rfl dX8_covering_46 ?_
          refine x_iald dX8_covering_47 rfl (by first | rfl | exact nI_add _ _ | (simp only [nI_add, pk_mul]; rfl)) (by omega) (by decide) ?_
          refine x_icmp_ge (tgt := 82) dX8_covering_48 (by decide) (fun c48 => ?_) (fun c48 => ?_)
          · skip
            refine x_iload_n dX8_covering_82 rfl ?_
            refine x_ifb_eq (tgt := 88) dX8_covering_83 (by decide) (fun c83 => ?_) (fun c83 => ?_)
            · try (exfalso; first | (exact absurd (c52.symm.trans c83) (by decide)) | (simp (disch := omega) [inS_ix, inS_N, ixL_N, ix_nI, h0] at c83 <;> omega) | (simp (disch := omega) only [h0, h1, h3, Int32.le_iff_toInt_le, Int32.lt_iff_toInt_lt, ← Int32.toInt_inj, nI_toInt, Int32.toInt_zero, m1_toInt, Int64.le_iff_toInt_le, Int64.lt_iff_toInt_lt, ← Int64.toInt_inj, pk_lT, i64_toInt, Int64.toInt_zero, eq_self, not_true_eq_false, not_false_eq_true] at c13 c17 c48 c83 <;> omega) | omega)
              all_goals
                skip
                refine x_inc2 hL (by decide) rfl dX8_covering_88 (nI_1 _) ?_
                refine x_goto (tgt := 4) dX8_covering_91 (by decide) ?_
                refine x_drop (k := 3) ?_
                refine x_drop (k := 4) ?_
                refine x_eq ?_ ?_ ?_ (ihi)
                · first | (simp [itN, covF, c83]; done) | (simp [itN, covF, cX]; done)
                · rfl
                · rfl
            · try (exfalso; first | (exact absurd (c52.symm.trans c83) (by decide)) | (simp (disch := omega) [inS_ix, inS_N, ixL_N, ix_nI, h0] at c83 <;> omega) | (simp (disch := omega) only [h0, h1, h3, Int32.le_iff_toInt_le, Int32.lt_iff_toInt_lt, ← Int32.toInt_inj, nI_toInt, Int32.toInt_zero, m1_toInt, Int64.le_iff_toInt_le, Int64.lt_iff_toInt_lt, ← Int64.toInt_inj, pk_lT, i64_toInt, Int64.toInt_zero, eq_self, not_true_eq_false, not_false_eq_true] at c13 c17 c48 c83 <;> omega) | omega)
              all_goals
                skip
                refine x_iload_n dX8_covering_86 rfl ?_
                refine x_ist1 hL (by decide) rfl dX8_covering_87 ?_
                refine x_inc2 hL (by decide) rfl dX8_covering_88 (nI_1 _) ?_
                refine x_goto (tgt := 4) dX8_covering_91 (by decide) ?_
                refine x_drop (k := 3) ?_
                refine x_drop (k := 4) ?_
                refine x_eq ?_ ?_ ?_ (ihi)
                · first | (simp [itN, covF, c83]; done) | (simp [itN, covF, cX]; done)
                · rfl
                · rfl
          · exfalso; first | (simp (disch := omega) [inS_ix, inS_N, ixL_N, ix_nI, h0] at c48 <;> omega) | (simp (disch := omega) only [h0, h1, h3, Int32.le_iff_toInt_le, Int32.lt_iff_toInt_lt, ← Int32.toInt_inj, nI_toInt, Int32.toInt_zero, m1_toInt, Int64.le_iff_toInt_le, Int64.lt_iff_toInt_lt, ← Int64.toInt_inj, pk_lT, i64_toInt, Int64.toInt_zero, eq_self, not_true_eq_false, not_false_eq_true] at c13 c17 c48 <;> omega) | omega
        · skip
          refine x_iload dX8_covering_40 rfl ?_
          refine x_aload_n dX8_covering_42 rfl ?_
          refine x_getf gf_X8_35 ho dX8_covering_43 rfl rfl ?_
          refine x_iconst (v := nI 1) rfl dX8_covering_46 ?_
          refine x_iald dX8_covering_47 rfl (by first | rfl | exact nI_add _ _ | (simp only [nI_add, pk_mul]; rfl)) (by omega) (by decide) ?_
          refine x_icmp_ge (tgt := 82) dX8_covering_48 (by decide) (fun c48 => ?_) (fun c48 => ?_)
          · exfalso; first | (simp (disch := omega) [inS_ix, inS_N, ixL_N, ix_nI, h0] at c48 <;> omega) | (simp (disch := omega) only [h0, h1, h3, Int32.le_iff_toInt_le, Int32.lt_iff_toInt_lt, ← Int32.toInt_inj, nI_toInt, Int32.toInt_zero, m1_toInt, Int64.le_iff_toInt_le, Int64.lt_iff_toInt_lt, ← Int64.toInt_inj, pk_lT, i64_toInt, Int64.toInt_zero, eq_self, not_true_eq_false, not_false_eq_true] at c13 c17 c48 <;> omega) | omega
          · skip
            refine x_iload_n dX8_covering_51 rfl ?_
            refine x_ifb_eq (tgt := 82) dX8_covering_52 (by decide) (fun c52 => ?_) (fun c52 => ?_)
            · skip
              skip
              have cX := itN_false (f := covP (M.2.2.1 5) i) (fun _ => rfl) c52 pm (by omega)
              refine x_iload_n dX8_covering_82 rfl ?_
              refine x_ifb_eq (tgt := 88) dX8_covering_83 (by decide) (fun c83 => ?_) (fun c83 => ?_)
              · try (exfalso; first | (exact absurd (c52.symm.trans c83) (by decide)) | (simp (disch := omega) [inS_ix, inS_N, ixL_N, ix_nI, h0] at c83 <;> omega) | (simp (disch := omega) only [h0, h1, h3, Int32.le_iff_toInt_le, Int32.lt_iff_toInt_lt, ← Int32.toInt_inj, nI_toInt, Int32.toInt_zero, m1_toInt, Int64.le_iff_toInt_le, Int64.lt_iff_toInt_lt, ← Int64.toInt_inj, pk_lT, i64_toInt, Int64.toInt_zero, eq_self, not_true_eq_false, not_false_eq_true] at c13 c17 c48 c52 c83 <;> omega) | omega)
                all_goals
                  skip
                  refine x_inc2 hL (by decide) rfl dX8_covering_88 (nI_1 _) ?_
                  refine x_goto (tgt := 4) dX8_covering_91 (by decide) ?_
                  refine x_drop (k := 3) ?_
                  refine x_drop (k := 4) ?_
                  refine x_eq ?_ ?_ ?_ (ihi)
                  · first | (simp [itN, covF, c83]; done) | (simp [itN, covF, cX]; done)
                  · rfl
                  · rfl
              · try (exfalso; first | (exact absurd (c52.symm.trans c83) (by decide)) | (simp (disch := omega) [inS_ix, inS_N, ixL_N, ix_nI, h0] at c83 <;> omega) | (simp (disch := omega) only [h0, h1, h3, Int32.le_iff_toInt_le, Int32.lt_iff_toInt_lt, ← Int32.toInt_inj, nI_toInt, Int32.toInt_zero, m1_toInt, Int64.le_iff_toInt_le, Int64.lt_iff_toInt_lt, ← Int64.toInt_inj, pk_lT, i64_toInt, Int64.toInt_zero, eq_self, not_true_eq_false, not_false_eq_true] at c13 c17 c48 c52 c83 <;> omega) | omega)
                all_goals
                  skip
                  refine x_iload_n dX8_covering_86 rfl ?_
                  refine x_ist1 hL (by decide) rfl dX8_covering_87 ?_
                  refine x_inc2 hL (by decide) rfl dX8_covering_88 (nI_1 _) ?_
                  refine x_goto (tgt := 4) dX8_covering_91 (by decide) ?_
                  refine x_drop (k := 3) ?_
                  refine x_drop (k := 4) ?_
                  refine x_eq ?_ ?_ ?_ (ihi)
                  · first | (simp [itN, covF, c83]; done) | (simp [itN, covF, cX]; done)
                  · rfl
                  · rfl
            · skip
              skip
              refine x_iload_n dX8_covering_55 rfl ?_
              refine x_aload_n dX8_covering_56 rfl ?_
              refine x_getf gf_X8_35 ho dX8_covering_57 rfl rfl ?_
              refine x_bipush (v := nI 12) rfl dX8_covering_60 ?_
              refine x_iload dX8_covering_62 rfl ?_
              refine x_iaddN dX8_covering_64 ?_
              refine x_iald dX8_covering_65 rfl (by first | rfl | exact nI_add _ _ | (simp only [nI_add, pk_mul]; rfl)) (by omega) (by decide) ?_
              refine x_iand dX8_covering_66 ?_
              refine x_if_eq (tgt := 74) dX8_covering_67 (by decide) (fun c67 => ?_) (fun c67 => ?_)
              · skip
                skip
                refine x_iconst (v := nI 0) rfl dX8_covering_74 ?_
                refine x_ival (y := xb (itN (covP (M.2.2.1 5) i) (j + 1) (covT i (itN (covF (M.2.2.1 5) pm) i (-1))))) (by simp [itN, covP, c52, c67, xb]) ?_
                refine x_ist3 hL (by decide) rfl dX8_covering_75 ?_
                refine x_inc4 hL (by decide) rfl dX8_covering_76 (nI_1 _) ?_
                refine x_goto (tgt := 40) dX8_covering_79 (by decide) ?_
                refine x_eq ?_ ?_ ?_ (ihj)
                · first | rfl | (simp [c13, c17, c48, c52, c67]; done)
                · rfl
                · rfl
              · skip
                skip
                refine x_iconst (v := nI 1) rfl dX8_covering_70 ?_
                refine x_goto (tgt := 75) dX8_covering_71 (by decide) ?_
                refine x_ival (y := xb (itN (covP (M.2.2.1 5) i) (j + 1) (covT i (itN (covF (M.2.2.1 5) pm) i (-1))))) (by simp [itN, covP, c52, c67, xb]) ?_
                refine x_ist3 hL (by decide) rfl dX8_covering_75 ?_
                refine x_inc4 hL (by decide) rfl dX8_covering_76 (nI_1 _) ?_
                refine x_goto (tgt := 40) dX8_covering_79 (by decide) ?_
                refine x_eq ?_ ?_ ?_ (ihj)
                · first | rfl | (simp [c13, c17, c48, c52, c67]; done)
                · rfl
                · rfl
      · skip
        skip
        refine x_iload_n dX8_covering_20 rfl ?_
        refine x_callS1 lk_X8_396 (m_sizeOf _) ho dX8_covering_21 (Nat.le_of_ble_eq_true rfl) (by omega) (by decide) (by omega) (by omega) ?_
        refine x_iload_n dX8_covering_24 rfl ?_
        refine x_callS1 lk_X8_396 (m_sizeOf _) ho dX8_covering_25 (Nat.le_of_ble_eq_true rfl) (by omega) (by decide) (by omega) (by omega) ?_
        refine x_icmp_ge (tgt := 35) dX8_covering_28 (by decide) (fun c28 => ?_) (fun c28 => ?_)
        · skip
          skip
          have c28 : ¬ szF (nI i) 9 < szF (itN (covF (M.2.2.1 5) pm) i (-1)) 9 := by have := (nI_leI (by omega) (by omega)).mp c28; omega
          refine x_iconst (v := nI 0) rfl dX8_covering_35 ?_
          refine x_ival (y := xb (covT i (itN (covF (M.2.2.1 5) pm) i (-1)))) (by simp [covT, c13, c17, c28, xb]) ?_
          refine x_ist3 hL (by decide) rfl dX8_covering_36 ?_
          refine x_iconst (v := nI 0) rfl dX8_covering_37 ?_
          refine x_ist4 hL (by decide) rfl dX8_covering_38 ?_
          refine x_for (n := pm) (fun j => [some (.ref 32), some (.int (itN (covF (M.2.2.1 5) pm) i (-1))), some (.int (nI i)), some (.int (xb (itN (covP (M.2.2.1 5) i) j (covT i (itN (covF (M.2.2.1 5) pm) i (-1)))))), some (.int (nI j))]) (fun j => []) (fun j => hM M R) ?_ (fun j hj ihj => ?_)
          · skip
            refine x_iload dX8_covering_40 rfl ?_
            refine x_aload_n dX8_covering_42 rfl ?_
            refine x_getf gf_X8_35 ho dX8_covering_43 rfl rfl ?_
            refine x_iconst (v := nI 1) rfl dX8_covering_46 ?_
            refine x_iald dX8_covering_47 rfl (by first | rfl | exact nI_add _ _ | (simp only [nI_add, pk_mul]; rfl)) (by omega) (by decide) ?_
            refine x_icmp_ge (tgt := 82) dX8_covering_48 (by decide) (fun c48 => ?_) (fun c48 => ?_)
            · skip
              refine x_iload_n dX8_covering_82 rfl ?_
              refine x_ifb_eq (tgt := 88) dX8_covering_83 (by decide) (fun c83 => ?_) (fun c83 => ?_)
              · try (exfalso; first | (exact absurd (c52.symm.trans c83) (by decide)) | (simp (disch := omega) [inS_ix, inS_N, ixL_N, ix_nI, h0] at c83 <;> omega) | (simp (disch := omega) only [h0, h1, h3, Int32.le_iff_toInt_le, Int32.lt_iff_toInt_lt, ← Int32.toInt_inj, nI_toInt, Int32.toInt_zero, m1_toInt, Int64.le_iff_toInt_le, Int64.lt_iff_toInt_lt, ← Int64.toInt_inj, pk_lT, i64_toInt, Int64.toInt_zero, eq_self, not_true_eq_false, not_false_eq_true] at c13 c17 c28 c48 c83 <;> omega) | omega)
                all_goals
                  skip
                  refine x_inc2 hL (by decide) rfl dX8_covering_88 (nI_1 _) ?_
                  refine x_goto (tgt := 4) dX8_covering_91 (by decide) ?_
                  refine x_drop (k := 3) ?_
                  refine x_drop (k := 4) ?_
                  refine x_eq ?_ ?_ ?_ (ihi)
                  · first | (simp [itN, covF, c83]; done) | (simp [itN, covF, cX]; done)
                  · rfl
                  · rfl
              · try (exfalso; first | (exact absurd (c52.symm.trans c83) (by decide)) | (simp (disch := omega) [inS_ix, inS_N, ixL_N, ix_nI, h0] at c83 <;> omega) | (simp (disch := omega) only [h0, h1, h3, Int32.le_iff_toInt_le, Int32.lt_iff_toInt_lt, ← Int32.toInt_inj, nI_toInt, Int32.toInt_zero, m1_toInt, Int64.le_iff_toInt_le, Int64.lt_iff_toInt_lt, ← Int64.toInt_inj, pk_lT, i64_toInt, Int64.toInt_zero, eq_self, not_true_eq_false, not_false_eq_true] at c13 c17 c28 c48 c83 <;> omega) | omega)
                all_goals
                  skip
                  refine x_iload_n dX8_covering_86 rfl ?_
                  refine x_ist1 hL (by decide) rfl dX8_covering_87 ?_
                  refine x_inc2 hL (by decide) rfl dX8_covering_88 (nI_1 _) ?_
                  refine x_goto (tgt := 4) dX8_covering_91 (by decide) ?_
                  refine x_drop (k := 3) ?_
                  refine x_drop (k := 4) ?_
                  refine x_eq ?_ ?_ ?_ (ihi)
                  · first | (simp [itN, covF, c83]; done) | (simp [itN, covF, cX]; done)
                  · rfl
                  · rfl
            · exfalso; first | (simp (disch := omega) [inS_ix, inS_N, ixL_N, ix_nI, h0] at c48 <;> omega) | (simp (disch := omega) only [h0, h1, h3, Int32.le_iff_toInt_le, Int32.lt_iff_toInt_lt, ← Int32.toInt_inj, nI_toInt, Int32.toInt_zero, m1_toInt, Int64.le_iff_toInt_le, Int64.lt_iff_toInt_lt, ← Int64.toInt_inj, pk_lT, i64_toInt, Int64.toInt_zero, eq_self, not_true_eq_false, not_false_eq_true] at c13 c17 c28 c48 <;> omega) | omega
          · skip
            refine x_iload dX8_covering_40 rfl ?_
            refine x_aload_n dX8_covering_42 rfl ?_
            refine x_getf gf_X8_35 ho dX8_covering_43 rfl rfl ?_
            refine x_iconst (v := nI 1) rfl dX8_covering_46 ?_
            refine x_iald dX8_covering_47 rfl (by first | rfl | exact nI_add _ _ | (simp only [nI_add, pk_mul]; rfl)) (by omega) (by decide) ?_
            refine x_icmp_ge (tgt := 82) dX8_covering_48 (by decide) (fun c48 => ?_) (fun c48 => ?_)
            · exfalso; first | (simp (disch := omega) [inS_ix, inS_N, ixL_N, ix_nI, h0] at c48 <;> omega) | (simp (disch := omega) only [h0, h1, h3, Int32.le_iff_toInt_le, Int32.lt_iff_toInt_lt, ← Int32.toInt_inj, nI_toInt, Int32.toInt_zero, m1_toInt, Int64.le_iff_toInt_le, Int64.lt_iff_toInt_lt, ← Int64.toInt_inj, pk_lT, i64_toInt, Int64.toInt_zero, eq_self, not_true_eq_false, not_false_eq_true] at c13 c17 c28 c48 <;> omega) | omega
            · skip
              refine x_iload_n dX8_covering_51 rfl ?_
              refine x_ifb_eq (tgt := 82) dX8_covering_52 (by decide) (fun c52 => ?_) (fun c52 => ?_)
              · skip
                skip
                have cX := itN_false (f := covP (M.2.2.1 5) i) (fun _ => rfl) c52 pm (by omega)
                refine x_iload_n dX8_covering_82 rfl ?_
                refine x_ifb_eq (tgt := 88) dX8_covering_83 (by decide) (fun c83 => ?_) (fun c83 => ?_)
                · try (exfalso; first | (exact absurd (c52.symm.trans c83) (by decide)) | (simp (disch := omega) [inS_ix, inS_N, ixL_N, ix_nI, h0] at c83 <;> omega) | (simp (disch := omega) only [h0, h1, h3, Int32.le_iff_toInt_le, Int32.lt_iff_toInt_lt, ← Int32.toInt_inj, nI_toInt, Int32.toInt_zero, m1_toInt, Int64.le_iff_toInt_le, Int64.lt_iff_toInt_lt, ← Int64.toInt_inj, pk_lT, i64_toInt, Int64.toInt_zero, eq_self, not_true_eq_false, not_false_eq_true] at c13 c17 c28 c48 c52 c83 <;> omega) | omega)
                  all_goals
                    skip
                    refine x_inc2 hL (by decide) rfl dX8_covering_88 (nI_1 _) ?_
                    refine x_goto (tgt := 4) dX8_covering_91 (by decide) ?_
                    refine x_drop (k := 3) ?_
                    refine x_drop (k := 4) ?_
                    refine x_eq ?_ ?_ ?_ (ihi)
                    · first | (simp [itN, covF, c83]; done) | (simp [itN, covF, cX]; done)
                    · rfl
                    · rfl
                · try (exfalso; first | (exact absurd (c52.symm.trans c83) (by decide)) | (simp (disch := omega) [inS_ix, inS_N, ixL_N, ix_nI, h0] at c83 <;> omega) | (simp (disch := omega) only [h0, h1, h3, Int32.le_iff_toInt_le, Int32.lt_iff_toInt_lt, ← Int32.toInt_inj, nI_toInt, Int32.toInt_zero, m1_toInt, Int64.le_iff_toInt_le, Int64.lt_iff_toInt_lt, ← Int64.toInt_inj, pk_lT, i64_toInt, Int64.toInt_zero, eq_self, not_true_eq_false, not_false_eq_true] at c13 c17 c28 c48 c52 c83 <;> omega) | omega)
                  all_goals
                    skip
                    refine x_iload_n dX8_covering_86 rfl ?_
                    refine x_ist1 hL (by decide) rfl dX8_covering_87 ?_
                    refine x_inc2 hL (by decide) rfl dX8_covering_88 (nI_1 _) ?_
                    refine x_goto (tgt := 4) dX8_covering_91 (by decide) ?_
                    refine x_drop (k := 3) ?_
                    refine x_drop (k := 4) ?_
                    refine x_eq ?_ ?_ ?_ (ihi)
                    · first | (simp [itN, covF, c83]; done) | (simp [itN, covF, cX]; done)
                    · rfl
                    · rfl
              · skip
                skip
                refine x_iload_n dX8_covering_55 rfl ?_
                refine x_aload_n dX8_covering_56 rfl ?_
                refine x_getf gf_X8_35 ho dX8_covering_57 rfl rfl ?_
                refine x_bipush (v := nI 12) rfl dX8_covering_60 ?_
                refine x_iload dX8_covering_62 rfl ?_
                refine x_iaddN dX8_covering_64 ?_
                refine x_iald dX8_covering_65 rfl (by first | rfl | exact nI_add _ _ | (simp only [nI_add, pk_mul]; rfl)) (by omega) (by decide) ?_
                refine x_iand dX8_covering_66 ?_
                refine x_if_eq (tgt := 74) dX8_covering_67 (by decide) (fun c67 => ?_) (fun c67 => ?_)
                · skip
                  skip
                  refine x_iconst (v := nI 0) rfl dX8_covering_74 ?_
                  refine x_ival (y := xb (itN (covP (M.2.2.1 5) i) (j + 1) (covT i (itN (covF (M.2.2.1 5) pm) i (-1))))) (by simp [itN, covP, c52, c67, xb]) ?_
                  refine x_ist3 hL (by decide) rfl dX8_covering_75 ?_
                  refine x_inc4 hL (by decide) rfl dX8_covering_76 (nI_1 _) ?_
                  refine x_goto (tgt := 40) dX8_covering_79 (by decide) ?_
                  refine x_eq ?_ ?_ ?_ (ihj)
                  · first | rfl | (simp [c13, c17, c28, c48, c52, c67]; done)
                  · rfl
                  · rfl
                · skip
                  skip
                  refine x_iconst (v := nI 1) rfl dX8_covering_70 ?_
                  refine x_goto (tgt := 75) dX8_covering_71 (by decide) ?_
                  refine x_ival (y := xb (itN (covP (M.2.2.1 5) i) (j + 1) (covT i (itN (covF (M.2.2.1 5) pm) i (-1))))) (by simp [itN, covP, c52, c67, xb]) ?_
                  refine x_ist3 hL (by decide) rfl dX8_covering_75 ?_
                  refine x_inc4 hL (by decide) rfl dX8_covering_76 (nI_1 _) ?_
                  refine x_goto (tgt := 40) dX8_covering_79 (by decide) ?_
                  refine x_eq ?_ ?_ ?_ (ihj)
                  · first | rfl | (simp [c13, c17, c28, c48, c52, c67]; done)
                  · rfl
                  · rfl
        · skip
          skip
          have c28 : szF (nI i) 9 < szF (itN (covF (M.2.2.1 5) pm) i (-1)) 9 := Nat.lt_of_not_le fun q => c28 (nI_le q (by omega))
          refine x_iconst (v := nI 1) rfl dX8_covering_31 ?_
          refine x_goto (tgt := 36) dX8_covering_32 (by decide) ?_
          refine x_ival (y := xb (covT i (itN (covF (M.2.2.1 5) pm) i (-1)))) (by simp [covT, c13, c17, c28, xb]) ?_
          refine x_ist3 hL (by decide) rfl dX8_covering_36 ?_
          refine x_iconst (v := nI 0) rfl dX8_covering_37 ?_
          refine x_ist4 hL (by decide) rfl dX8_covering_38 ?_
          refine x_for (n := pm) (fun j => [some (.ref 32), some (.int (itN (covF (M.2.2.1 5) pm) i (-1))), some (.int (nI i)), some (.int (xb (itN (covP (M.2.2.1 5) i) j (covT i (itN (covF (M.2.2.1 5) pm) i (-1)))))), some (.int (nI j))]) (fun j => []) (fun j => hM M R) ?_ (fun j hj ihj => ?_)
          · skip
            refine x_iload dX8_covering_40 rfl ?_
            refine x_aload_n dX8_covering_42 rfl ?_
            refine x_getf gf_X8_35 ho dX8_covering_43 rfl rfl ?_
            refine x_iconst (v := nI 1) rfl dX8_covering_46 ?_
            refine x_iald dX8_covering_47 rfl (by first | rfl | exact nI_add _ _ | (simp only [nI_add, pk_mul]; rfl)) (by omega) (by decide) ?_
            refine x_icmp_ge (tgt := 82) dX8_covering_48 (by decide) (fun c48 => ?_) (fun c48 => ?_)
            · skip
              refine x_iload_n dX8_covering_82 rfl ?_
              refine x_ifb_eq (tgt := 88) dX8_covering_83 (by decide) (fun c83 => ?_) (fun c83 => ?_)
              · try (exfalso; first | (exact absurd (c52.symm.trans c83) (by decide)) | (simp (disch := omega) [inS_ix, inS_N, ixL_N, ix_nI, h0] at c83 <;> omega) | (simp (disch := omega) only [h0, h1, h3, Int32.le_iff_toInt_le, Int32.lt_iff_toInt_lt, ← Int32.toInt_inj, nI_toInt, Int32.toInt_zero, m1_toInt, Int64.le_iff_toInt_le, Int64.lt_iff_toInt_lt, ← Int64.toInt_inj, pk_lT, i64_toInt, Int64.toInt_zero, eq_self, not_true_eq_false, not_false_eq_true] at c13 c17 c28 c48 c83 <;> omega) | omega)
                all_goals
                  skip
                  refine x_inc2 hL (by decide) rfl dX8_covering_88 (nI_1 _) ?_
                  refine x_goto (tgt := 4) dX8_covering_91 (by decide) ?_
                  refine x_drop (k := 3) ?_
                  refine x_drop (k := 4) ?_
                  refine x_eq ?_ ?_ ?_ (ihi)
                  · first | (simp [itN, covF, c83]; done) | (simp [itN, covF, cX]; done)
                  · rfl
                  · rfl
              · try (exfalso; first | (exact absurd (c52.symm.trans c83) (by decide)) | (simp (disch := omega) [inS_ix, inS_N, ixL_N, ix_nI, h0] at c83 <;> omega) | (simp (disch := omega) only [h0, h1, h3, Int32.le_iff_toInt_le, Int32.lt_iff_toInt_lt, ← Int32.toInt_inj, nI_toInt, Int32.toInt_zero, m1_toInt, Int64.le_iff_toInt_le, Int64.lt_iff_toInt_lt, ← Int64.toInt_inj, pk_lT, i64_toInt, Int64.toInt_zero, eq_self, not_true_eq_false, not_false_eq_true] at c13 c17 c28 c48 c83 <;> omega) | omega)
                all_goals
                  skip
                  refine x_iload_n dX8_covering_86 rfl ?_
                  refine x_ist1 hL (by decide) rfl dX8_covering_87 ?_
                  refine x_inc2 hL (by decide) rfl dX8_covering_88 (nI_1 _) ?_
                  refine x_goto (tgt := 4) dX8_covering_91 (by decide) ?_
                  refine x_drop (k := 3) ?_
                  refine x_drop (k := 4) ?_
                  refine x_eq ?_ ?_ ?_ (ihi)
                  · first | (simp [itN, covF, c83]; done) | (simp [itN, covF, cX]; done)
                  · rfl
                  · rfl
            · exfalso; first | (simp (disch := omega) [inS_ix, inS_N, ixL_N, ix_nI, h0] at c48 <;> omega) | (simp (disch := omega) only [h0, h1, h3, Int32.le_iff_toInt_le, Int32.lt_iff_toInt_lt, ← Int32.toInt_inj, nI_toInt, Int32.toInt_zero, m1_toInt, Int64.le_iff_toInt_le, Int64.lt_iff_toInt_lt, ← Int64.toInt_inj, pk_lT, i64_toInt, Int64.toInt_zero, eq_self, not_true_eq_false, not_false_eq_true] at c13 c17 c28 c48 <;> omega) | omega
          · skip
            refine x_iload dX8_covering_40 rfl ?_
            refine x_aload_n dX8_covering_42 rfl ?_
            refine x_getf gf_X8_35 ho dX8_covering_43 rfl rfl ?_
            refine x_iconst (v := nI 1) rfl dX8_covering_46 ?_
            refine x_iald dX8_covering_47 rfl (by first | rfl | exact nI_add _ _ | (simp only [nI_add, pk_mul]; rfl)) (by omega) (by decide) ?_
            refine x_icmp_ge (tgt := 82) dX8_covering_48 (by decide) (fun c48 => ?_) (fun c48 => ?_)
            · exfalso; first | (simp (disch := omega) [inS_ix, inS_N, ixL_N, ix_nI, h0] at c48 <;> omega) | (simp (disch := omega) only [h0, h1, h3, Int32.le_iff_toInt_le, Int32.lt_iff_toInt_lt, ← Int32.toInt_inj, nI_toInt, Int32.toInt_zero, m1_toInt, Int64.le_iff_toInt_le, Int64.lt_iff_toInt_lt, ← Int64.toInt_inj, pk_lT, i64_toInt, Int64.toInt_zero, eq_self, not_true_eq_false, not_false_eq_true] at c13 c17 c28 c48 <;> omega) | omega
            · skip
              refine x_iload_n dX8_covering_51 rfl ?_
              refine x_ifb_eq (tgt := 82) dX8_covering_52 (by decide) (fun c52 => ?_) (fun c52 => ?_)
              · skip
                skip
                have cX := itN_false (f := covP (M.2.2.1 5) i) (fun _ => rfl) c52 pm (by omega)
                refine x_iload_n dX8_covering_82 rfl ?_
                refine x_ifb_eq (tgt := 88) dX8_covering_83 (by decide) (fun c83 => ?_) (fun c83 => ?_)
                · try (exfalso; first | (exact absurd (c52.symm.trans c83) (by decide)) | (simp (disch := omega) [inS_ix, inS_N, ixL_N, ix_nI, h0] at c83 <;> omega) | (simp (disch := omega) only [h0, h1, h3, Int32.le_iff_toInt_le, Int32.lt_iff_toInt_lt, ← Int32.toInt_inj, nI_toInt, Int32.toInt_zero, m1_toInt, Int64.le_iff_toInt_le, Int64.lt_iff_toInt_lt, ← Int64.toInt_inj, pk_lT, i64_toInt, Int64.toInt_zero, eq_self, not_true_eq_false, not_false_eq_true] at c13 c17 c28 c48 c52 c83 <;> omega) | omega)
                  all_goals
                    skip
                    refine x_inc2 hL (by decide) rfl dX8_covering_88 (nI_1 _) ?_
                    refine x_goto (tgt := 4) dX8_covering_91 (by decide) ?_
                    refine x_drop (k := 3) ?_
                    refine x_drop (k := 4) ?_
                    refine x_eq ?_ ?_ ?_ (ihi)
                    · first | (simp [itN, covF, c83]; done) | (simp [itN, covF, cX]; done)
                    · rfl
                    · rfl
                · try (exfalso; first | (exact absurd (c52.symm.trans c83) (by decide)) | (simp (disch := omega) [inS_ix, inS_N, ixL_N, ix_nI, h0] at c83 <;> omega) | (simp (disch := omega) only [h0, h1, h3, Int32.le_iff_toInt_le, Int32.lt_iff_toInt_lt, ← Int32.toInt_inj, nI_toInt, Int32.toInt_zero, m1_toInt, Int64.le_iff_toInt_le, Int64.lt_iff_toInt_lt, ← Int64.toInt_inj, pk_lT, i64_toInt, Int64.toInt_zero, eq_self, not_true_eq_false, not_false_eq_true] at c13 c17 c28 c48 c52 c83 <;> omega) | omega)
                  all_goals
                    skip
                    refine x_iload_n dX8_covering_86 rfl ?_
                    refine x_ist1 hL (by decide) rfl dX8_covering_87 ?_
                    refine x_inc2 hL (by decide) rfl dX8_covering_88 (nI_1 _) ?_
                    refine x_goto (tgt := 4) dX8_covering_91 (by decide) ?_
                    refine x_drop (k := 3) ?_
                    refine x_drop (k := 4) ?_
                    refine x_eq ?_ ?_ ?_ (ihi)
                    · first | (simp [itN, covF, c83]; done) | (simp [itN, covF, cX]; done)
                    · rfl
                    · rfl
              · skip
                skip
                refine x_iload_n dX8_covering_55 rfl ?_
                refine x_aload_n dX8_covering_56 rfl ?_
                refine x_getf gf_X8_35 ho dX8_covering_57 rfl rfl ?_
                refine x_bipush (v := nI 12) rfl dX8_covering_60 ?_
                refine x_iload dX8_covering_62 rfl ?_
                refine x_iaddN dX8_covering_64 ?_
                refine x_iald dX8_covering_65 rfl (by first | rfl | exact nI_add _ _ | (simp only [nI_add, pk_mul]; rfl)) (by omega) (by decide) ?_
                refine x_iand dX8_covering_66 ?_
                refine x_if_eq (tgt := 74) dX8_covering_67 (by decide) (fun c67 => ?_) (fun c67 => ?_)
                · skip
                  skip
                  refine x_iconst (v := nI 0) rfl dX8_covering_74 ?_
                  refine x_ival (y := xb (itN (covP (M.2.2.1 5) i) (j + 1) (covT i (itN (covF (M.2.2.1 5) pm) i (-1))))) (by simp [itN, covP, c52, c67, xb]) ?_
                  refine x_ist3 hL (by decide) rfl dX8_covering_75 ?_
                  refine x_inc4 hL (by decide) rfl dX8_covering_76 (nI_1 _) ?_
                  refine x_goto (tgt := 40) dX8_covering_79 (by decide) ?_
                  refine x_eq ?_ ?_ ?_ (ihj)
                  · first | rfl | (simp [c13, c17, c28, c48, c52, c67]; done)
                  · rfl
                  · rfl
                · skip
                  skip
                  refine x_iconst (v := nI 1) rfl dX8_covering_70 ?_
                  refine x_goto (tgt := 75) dX8_covering_71 (by decide) ?_
                  refine x_ival (y := xb (itN (covP (M.2.2.1 5) i) (j + 1) (covT i (itN (covF (M.2.2.1 5) pm) i (-1))))) (by simp [itN, covP, c52, c67, xb]) ?_
                  refine x_ist3 hL (by decide) rfl dX8_covering_75 ?_
                  refine x_inc4 hL (by decide) rfl dX8_covering_76 (nI_1 _) ?_
                  refine x_goto (tgt := 40) dX8_covering_79 (by decide) ?_
                  refine x_eq ?_ ?_ ?_ (ihj)
                  · first | rfl | (simp [c13, c17, c28, c48, c52, c67]; done)
                  · rfl
                  · rfl
set_option maxHeartbeats 800000 in
theorem m_blaming {w : xW} {M : mS} {R : xH} {tm pm tn G : Nat} (hF : wF (M.2.2.1 5) tm pm tn G)  : CT w yX8_blaming cX8_blaming 5 (some (.int)) [] false (2) 0 0 [.ref 32] (hM M R) (xret (some (.int ((blaS (M.2.2.1 5) pm tn)))) (hM M R)) := by
  refine CT.of (ini := false) (by decide +kernel) q2113 q164 (Nat.le_of_ble_eq_true rfl) (by decide) ?_
  intro Γ hw ho hL hr hh hini hal hd hmc hms hQ
  subst hw
  show AW Γ cX8_blaming 0 0 0 [some (.ref 32), none, none, none, none] [] (hM M R)
  have h0 := hF.c0
  have h1 := hF.c1
  have h3 := hF.c3
  have l0 := hF.l0
  have l1 := hF.l1
  have l3 := hF.l3
  have hb : 2 ^ pm ≤ 128 := Nat.le_trans (Nat.pow_le_pow_right (by decide) (show pm ≤ 7 by omega)) (by decide)
  refine x_iconst (v := (-1)) rfl dX8_blaming_0 ?_
  refine x_ist1 hL (by decide) rfl dX8_blaming_1 ?_
  refine x_iconst (v := nI 0) rfl dX8_blaming_2 ?_
  refine x_ist2 hL (by decide) rfl dX8_blaming_3 ?_
  refine x_for (n := (2 ^ pm)) (fun i => [some (.ref 32), some (.int (itN (blaF (M.2.2.1 5) tn) i (-1))), some (.int (nI i)), none, none]) (fun i => []) (fun i => hM M R) ?_ (fun i hi ihi => ?_)
  · skip
    refine x_iload_n dX8_blaming_4 rfl ?_
    refine x_iconst (v := nI 1) rfl dX8_blaming_5 ?_
    refine x_aload_n dX8_blaming_6 rfl ?_
    refine x_getf gf_X8_35 ho dX8_blaming_7 rfl rfl ?_
    refine x_iconst (v := nI 1) rfl dX8_blaming_10 ?_
    refine x_iald dX8_blaming_11 rfl (by first | rfl | exact nI_add _ _ | (simp only [nI_add, pk_mul]; rfl)) (by omega) (by decide) ?_
    refine x_ival (y := nI pm) h1 ?_
    refine x_ishl dX8_blaming_12 ?_
    refine x_ival (y := nI (2 ^ pm)) (sh_pow pm (by omega)) ?_
    refine x_icmp_ge (tgt := 107) dX8_blaming_13 (by decide) (fun c13 => ?_) (fun c13 => ?_)
    · skip
      refine x_iload_n dX8_blaming_107 rfl ?_
      refine x_iret hr rfl dX8_blaming_108 (by omega) (by omega) (hQ _ _ ?_)
      try dsimp only [mI, mSA] at c13
      exact ⟨rfl, rfl⟩
    · exfalso; first | (simp (disch := omega) [inS_ix, inS_N, ixL_N, ix_nI, h0] at c13 <;> omega) | (simp (disch := omega) only [h0, h1, h3, Int32.le_iff_toInt_le, Int32.lt_iff_toInt_lt, ← Int32.toInt_inj, nI_toInt, Int32.toInt_zero, m1_toInt, Int64.le_iff_toInt_le, Int64.lt_iff_toInt_lt, ← Int64.toInt_inj, pk_lT, i64_toInt, Int64.toInt_zero, eq_self, not_true_eq_false, not_false_eq_true] at c13 <;> omega) | omega
  · skip
    have hz1 := szF_le (itN (blaF (M.2.2.1 5) tn) i (-1)) 9
    have hz2 := szF_le (nI i) 9
    refine x_iload_n dX8_blaming_4 rfl ?_
    refine x_iconst (v := nI 1) rfl dX8_blaming_5 ?_
    refine x_aload_n dX8_blaming_6 rfl ?_
    refine x_getf gf_X8_35 ho dX8_blaming_7 rfl rfl ?_
    refine x_iconst (v := nI 1) rfl dX8_blaming_10 ?_
    refine x_iald dX8_blaming_11 rfl (by first | rfl | exact nI_add _ _ | (simp only [nI_add, pk_mul]; rfl)) (by omega) (by decide) ?_
    refine x_ival (y := nI pm) h1 ?_
    refine x_ishl dX8_blaming_12 ?_
    refine x_ival (y := nI (2 ^ pm)) (sh_pow pm (by omega)) ?_
    refine x_icmp_ge (tgt := 107) dX8_blaming_13 (by decide) (fun c13 => ?_) (fun c13 => ?_)
    · exfalso; first | (simp (disch := omega) [inS_ix, inS_N, ixL_N, ix_nI, h0] at c13 <;> omega) | (simp (disch := omega) only [h0, h1, h3, Int32.le_iff_toInt_le, Int32.lt_iff_toInt_lt, ← Int32.toInt_inj, nI_toInt, Int32.toInt_zero, m1_toInt, Int64.le_iff_toInt_le, Int64.lt_iff_toInt_lt, ← Int64.toInt_inj, pk_lT, i64_toInt, Int64.toInt_zero, eq_self, not_true_eq_false, not_false_eq_true] at c13 <;> omega) | omega
    · skip
      refine x_iload_n dX8_blaming_16 rfl ?_
      refine x_if_lt (tgt := 31) dX8_blaming_17 (by decide) (fun c17 => ?_) (fun c17 => ?_)
      · skip
        skip
        refine x_iconst (v := nI 1) rfl dX8_blaming_31 ?_
        refine x_goto (tgt := 36) dX8_blaming_32 (by decide) ?_
        refine x_ival (y := xb (covT i (itN (blaF (M.2.2.1 5) tn) i (-1)))) (by simp [covT, c13, c17, xb]) ?_
        refine x_ist3 hL (by decide) rfl dX8_blaming_36 ?_
        refine x_iconst (v := nI 0) rfl dX8_blaming_37 ?_
        refine x_ist4 hL (by decide) rfl dX8_blaming_38 ?_
        refine x_for (n := tn) (fun j => [some (.ref 32), some (.int (itN (blaF (M.2.2.1 5) tn) i (-1))), some (.int (nI i)), some (.int (xb (itN (blaP (M.2.2.1 5) i) j (covT i (itN (blaF (M.2.2.1 5) tn) i (-1)))))), some (.int (nI j))]) (fun j => []) (fun j => hM M R) ?_ (fun j hj ihj => ?_)
        · skip
          refine x_iload dX8_blaming_40 rfl ?_
          refine x_aload_n dX8_blaming_42 rfl ?_
          refine x_getf gf_X8_35 ho dX8_blaming_43 rfl rfl ?_
          refine x_iconst (v := nI 3) rfl dX8_blaming_46 ?_
          refine x_iald dX8_blaming_47 rfl (by first | rfl | exact nI_add _ _ | (simp only [nI_add, pk_mul]; rfl)) (by omega) (by decide) ?_
          refine x_icmp_ge (tgt := 95) dX8_blaming_48 (by decide) (fun c48 => ?_) (fun c48 => ?_)
          · skip
            refine x_iload_n dX8_blaming_95 rfl ?_
            refine x_ifb_eq (tgt := 101) dX8_blaming_96 (by decide) (fun c96 => ?_) (fun c96 => ?_)
            · try (exfalso; first | (exact absurd (c52.symm.trans c96) (by decide)) | (simp (disch := omega) [inS_ix, inS_N, ixL_N, ix_nI, h0] at c96 <;> omega) | (simp (disch := omega) only [h0, h1, h3, Int32.le_iff_toInt_le, Int32.lt_iff_toInt_lt, ← Int32.toInt_inj, nI_toInt, Int32.toInt_zero, m1_toInt, Int64.le_iff_toInt_le, Int64.lt_iff_toInt_lt, ← Int64.toInt_inj, pk_lT, i64_toInt, Int64.toInt_zero, eq_self, not_true_eq_false, not_false_eq_true] at c13 c17 c48 c96 <;> omega) | omega)
              all_goals
                skip
                refine x_inc2 hL (by decide) rfl dX8_blaming_101 (nI_1 _) ?_
                refine x_goto (tgt := 4) dX8_blaming_104 (by decide) ?_
                refine x_drop (k := 3) ?_
                refine x_drop (k := 4) ?_
                refine x_eq ?_ ?_ ?_ (ihi)
                · first | (simp [itN, blaF, c96]; done) | (simp [itN, blaF, cX]; done)
                · rfl
                · rfl
            · try (exfalso; first | (exact absurd (c52.symm.trans c96) (by decide)) | (simp (disch := omega) [inS_ix, inS_N, ixL_N, ix_nI, h0] at c96 <;> omega) | (simp (disch := omega) only [h0, h1, h3, Int32.le_iff_toInt_le, Int32.lt_iff_toInt_lt, ← Int32.toInt_inj, nI_toInt, Int32.toInt_zero, m1_toInt, Int64.le_iff_toInt_le, Int64.lt_iff_toInt_lt, ← Int64.toInt_inj, pk_lT, i64_toInt, Int64.toInt_zero, eq_self, not_true_eq_false, not_false_eq_true] at c13 c17 c48 c96 <;> omega) | omega)
              all_goals
                skip
                refine x_iload_n dX8_blaming_99 rfl ?_
                refine x_ist1 hL (by decide) rfl dX8_blaming_100 ?_
                refine x_inc2 hL (by decide) rfl dX8_blaming_101 (nI_1 _) ?_
                refine x_goto (tgt := 4) dX8_blaming_104 (by decide) ?_
                refine x_drop (k := 3) ?_
                refine x_drop (k := 4) ?_
                refine x_eq ?_ ?_ ?_ (ihi)
                · first | (simp [itN, blaF, c96]; done) | (simp [itN, blaF, cX]; done)
                · rfl
                · rfl
          · exfalso; first | (simp (disch := omega) [inS_ix, inS_N, ixL_N, ix_nI, h0] at c48 <;> omega) | (simp (disch := omega) only [h0, h1, h3, Int32.le_iff_toInt_le, Int32.lt_iff_toInt_lt, ← Int32.toInt_inj, nI_toInt, Int32.toInt_zero, m1_toInt, Int64.le_iff_toInt_le, Int64.lt_iff_toInt_lt, ← Int64.toInt_inj, pk_lT, i64_toInt, Int64.toInt_zero, eq_self, not_true_eq_false, not_false_eq_true] at c13 c17 c48 <;> omega) | omega
        · skip
          refine x_iload dX8_blaming_40 rfl ?_
          refine x_aload_n dX8_blaming_42 rfl ?_
          refine x_getf gf_X8_35 ho dX8_blaming_43 rfl rfl ?_
          refine x_iconst (v := nI 3) rfl dX8_blaming_46 ?_
          refine x_iald dX8_blaming_47 rfl (by first | rfl | exact nI_add _ _ | (simp only [nI_add, pk_mul]; rfl)) (by omega) (by decide) ?_
          refine x_icmp_ge (tgt := 95) dX8_blaming_48 (by decide) (fun c48 => ?_) (fun c48 => ?_)
          · exfalso; first | (simp (disch := omega) [inS_ix, inS_N, ixL_N, ix_nI, h0] at c48 <;> omega) | (simp (disch := omega) only [h0, h1, h3, Int32.le_iff_toInt_le, Int32.lt_iff_toInt_lt, ← Int32.toInt_inj, nI_toInt, Int32.toInt_zero, m1_toInt, Int64.le_iff_toInt_le, Int64.lt_iff_toInt_lt, ← Int64.toInt_inj, pk_lT, i64_toInt, Int64.toInt_zero, eq_self, not_true_eq_false, not_false_eq_true] at c13 c17 c48 <;> omega) | omega
          · skip
            refine x_iload_n dX8_blaming_51 rfl ?_
            refine x_ifb_eq (tgt := 95) dX8_blaming_52 (by decide) (fun c52 => ?_) (fun c52 => ?_)
            · skip
              skip
              have cX := itN_false (f := blaP (M.2.2.1 5) i) (fun _ => rfl) c52 tn (by omega)
              refine x_iload_n dX8_blaming_95 rfl ?_
              refine x_ifb_eq (tgt := 101) dX8_blaming_96 (by decide) (fun c96 => ?_) (fun c96 => ?_)
              · try (exfalso; first | (exact absurd (c52.symm.trans c96) (by decide)) | (simp (disch := omega) [inS_ix, inS_N, ixL_N, ix_nI, h0] at c96 <;> omega) | (simp (disch := omega) only [h0, h1, h3, Int32.le_iff_toInt_le, Int32.lt_iff_toInt_lt, ← Int32.toInt_inj, nI_toInt, Int32.toInt_zero, m1_toInt, Int64.le_iff_toInt_le, Int64.lt_iff_toInt_lt, ← Int64.toInt_inj, pk_lT, i64_toInt, Int64.toInt_zero, eq_self, not_true_eq_false, not_false_eq_true] at c13 c17 c48 c52 c96 <;> omega) | omega)
                all_goals
                  skip
                  refine x_inc2 hL (by decide) rfl dX8_blaming_101 (nI_1 _) ?_
                  refine x_goto (tgt := 4) dX8_blaming_104 (by decide) ?_
                  refine x_drop (k := 3) ?_
                  refine x_drop (k := 4) ?_
                  refine x_eq ?_ ?_ ?_ (ihi)
                  · first | (simp [itN, blaF, c96]; done) | (simp [itN, blaF, cX]; done)
                  · rfl
                  · rfl
              · try (exfalso; first | (exact absurd (c52.symm.trans c96) (by decide)) | (simp (disch := omega) [inS_ix, inS_N, ixL_N, ix_nI, h0] at c96 <;> omega) | (simp (disch := omega) only [h0, h1, h3, Int32.le_iff_toInt_le, Int32.lt_iff_toInt_lt, ← Int32.toInt_inj, nI_toInt, Int32.toInt_zero, m1_toInt, Int64.le_iff_toInt_le, Int64.lt_iff_toInt_lt, ← Int64.toInt_inj, pk_lT, i64_toInt, Int64.toInt_zero, eq_self, not_true_eq_false, not_false_eq_true] at c13 c17 c48 c52 c96 <;> omega) | omega)
                all_goals
                  skip
                  refine x_iload_n dX8_blaming_99 rfl ?_
                  refine x_ist1 hL (by decide) rfl dX8_blaming_100 ?_
                  refine x_inc2 hL (by decide) rfl dX8_blaming_101 (nI_1 _) ?_
                  refine x_goto (tgt := 4) dX8_blaming_104 (by decide) ?_
                  refine x_drop (k := 3) ?_
                  refine x_drop (k := 4) ?_
                  refine x_eq ?_ ?_ ?_ (ihi)
                  · first | (simp [itN, blaF, c96]; done) | (simp [itN, blaF, cX]; done)
                  · rfl
                  · rfl
            · skip
              skip
              refine x_aload_n dX8_blaming_55 rfl ?_
              refine x_getf gf_X8_35 ho dX8_blaming_56 rfl rfl ?_
              refine x_bipush (v := nI 60) rfl dX8_blaming_59 ?_
              refine x_iload dX8_blaming_61 rfl ?_
              refine x_iaddN dX8_blaming_63 ?_
              refine x_iald dX8_blaming_64 rfl (by first | rfl | exact nI_add _ _ | (simp only [nI_add, pk_mul]; rfl)) (by omega) (by decide) ?_
              refine x_if_eq (tgt := 83) dX8_blaming_65 (by decide) (fun c65 => ?_) (fun c65 => ?_)
              · skip
                skip
                refine x_iconst (v := nI 1) rfl dX8_blaming_83 ?_
                refine x_goto (tgt := 88) dX8_blaming_84 (by decide) ?_
                refine x_ival (y := xb (itN (blaP (M.2.2.1 5) i) (j + 1) (covT i (itN (blaF (M.2.2.1 5) tn) i (-1))))) (by simp [itN, blaP, c52, c13, c17, c48, c52, c65, xb]) ?_
                refine x_ist3 hL (by decide) rfl dX8_blaming_88 ?_
                refine x_inc4 hL (by decide) rfl dX8_blaming_89 (nI_1 _) ?_
                refine x_goto (tgt := 40) dX8_blaming_92 (by decide) ?_
                refine x_eq ?_ ?_ ?_ (ihj)
                · first | rfl | (simp [c13, c17, c48, c52, c65]; done)
                · rfl
                · rfl
              · skip
                skip
                refine x_iload_n dX8_blaming_68 rfl ?_
                refine x_aload_n dX8_blaming_69 rfl ?_
                refine x_getf gf_X8_35 ho dX8_blaming_70 rfl rfl ?_
                refine x_bipush (v := nI 69) rfl dX8_blaming_73 ?_
                refine x_iload dX8_blaming_75 rfl ?_
                refine x_iaddN dX8_blaming_77 ?_
                refine x_iald dX8_blaming_78 rfl (by first | rfl | exact nI_add _ _ | (simp only [nI_add, pk_mul]; rfl)) (by omega) (by decide) ?_
                refine x_iand dX8_blaming_79 ?_
                refine x_if_eq (tgt := 87) dX8_blaming_80 (by decide) (fun c80 => ?_) (fun c80 => ?_)
                · skip
                  skip
                  refine x_iconst (v := nI 0) rfl dX8_blaming_87 ?_
                  refine x_ival (y := xb (itN (blaP (M.2.2.1 5) i) (j + 1) (covT i (itN (blaF (M.2.2.1 5) tn) i (-1))))) (by simp [itN, blaP, c52, c13, c17, c48, c52, c65, c80, xb]) ?_
                  refine x_ist3 hL (by decide) rfl dX8_blaming_88 ?_
                  refine x_inc4 hL (by decide) rfl dX8_blaming_89 (nI_1 _) ?_
                  refine x_goto (tgt := 40) dX8_blaming_92 (by decide) ?_
                  refine x_eq ?_ ?_ ?_ (ihj)
                  · first | rfl | (simp [c13, c17, c48, c52, c65, c80]; done)
                  · rfl
                  · rfl
                · skip
                  skip
                  refine x_iconst (v := nI 1) rfl dX8_blaming_83 ?_
                  refine x_goto (tgt := 88) dX8_blaming_84 (by decide) ?_
                  refine x_ival (y := xb (itN (blaP (M.2.2.1 5) i) (j + 1) (covT i (itN (blaF (M.2.2.1 5) tn) i (-1))))) (by simp [itN, blaP, c52, c13, c17, c48, c52, c65, c80, xb]) ?_
                  refine x_ist3 hL (by decide) rfl dX8_blaming_88 ?_
                  refine x_inc4 hL (by decide) rfl dX8_blaming_89 (nI_1 _) ?_
                  refine x_goto (tgt := 40) dX8_blaming_92 (by decide) ?_
                  refine x_eq ?_ ?_ ?_ (ihj)
                  · first | rfl | (simp [c13, c17, c48, c52, c65, c80]; done)
                  · rfl
                  · rfl
      · skip
        skip
        refine x_iload_n dX8_blaming_20 rfl ?_
        refine x_callS1 lk_X8_396 (m_sizeOf _) ho dX8_blaming_21 (Nat.le_of_ble_eq_true rfl) (by omega) (by decide) (by omega) (by omega) ?_
        refine x_iload_n dX8_blaming_24 rfl ?_
        refine x_callS1 lk_X8_396 (m_sizeOf _) ho dX8_blaming_25 (Nat.le_of_ble_eq_true rfl) (by omega) (by decide) (by omega) (by omega) ?_
        refine x_icmp_ge (tgt := 35) dX8_blaming_28 (by decide) (fun c28 => ?_) (fun c28 => ?_)
        · skip
          skip
          have c28 : ¬ szF (nI i) 9 < szF (itN (blaF (M.2.2.1 5) tn) i (-1)) 9 := by have := (nI_leI (by omega) (by omega)).mp c28; omega
          refine x_iconst (v := nI 0) rfl dX8_blaming_35 ?_
          refine x_ival (y := xb (covT i (itN (blaF (M.2.2.1 5) tn) i (-1)))) (by simp [covT, c13, c17, c28, xb]) ?_
          refine x_ist3 hL (by decide) rfl dX8_blaming_36 ?_
          refine x_iconst (v := nI 0) rfl dX8_blaming_37 ?_
          refine x_ist4 hL (by decide) rfl dX8_blaming_38 ?_
          refine x_for (n := tn) (fun j => [some (.ref 32), some (.int (itN (blaF (M.2.2.1 5) tn) i (-1))), some (.int (nI i)), some (.int (xb (itN (blaP (M.2.2.1 5) i) j (covT i (itN (blaF (M.2.2.1 5) tn) i (-1)))))), some (.int (nI j))]) (fun j => []) (fun j => hM M R) ?_ (fun j hj ihj => ?_)
          · skip
            refine x_iload dX8_blaming_40 rfl ?_
            refine x_aload_n dX8_blaming_42 rfl ?_
            refine x_getf gf_X8_35 ho dX8_blaming_43 rfl rfl ?_
            refine x_iconst (v := nI 3) rfl dX8_blaming_46 ?_
            refine x_iald dX8_blaming_47 rfl (by first | rfl | exact nI_add _ _ | (simp only [nI_add, pk_mul]; rfl)) (by omega) (by decide) ?_
            refine x_icmp_ge (tgt := 95) dX8_blaming_48 (by decide) (fun c48 => ?_) (fun c48 => ?_)
            · skip
              refine x_iload_n dX8_blaming_95 rfl ?_
              refine x_ifb_eq (tgt := 101) dX8_blaming_96 (by decide) (fun c96 => ?_) (fun c96 => ?_)
              · try (exfalso; first | (exact absurd (c52.symm.trans c96) (by decide)) | (simp (disch := omega) [inS_ix, inS_N, ixL_N, ix_nI, h0] at c96 <;> omega) | (simp (disch := omega) only [h0, h1, h3, Int32.le_iff_toInt_le, Int32.lt_iff_toInt_lt, ← Int32.toInt_inj, nI_toInt, Int32.toInt_zero, m1_toInt, Int64.le_iff_toInt_le, Int64.lt_iff_toInt_lt, ← Int64.toInt_inj, pk_lT, i64_toInt, Int64.toInt_zero, eq_self, not_true_eq_false, not_false_eq_true] at c13 c17 c28 c48 c96 <;> omega) | omega)
                all_goals
                  skip
                  refine x_inc2 hL (by decide) rfl dX8_blaming_101 (nI_1 _) ?_
                  refine x_goto (tgt := 4) dX8_blaming_104 (by decide) ?_
                  refine x_drop (k := 3) ?_
                  refine x_drop (k := 4) ?_
                  refine x_eq ?_ ?_ ?_ (ihi)
                  · first | (simp [itN, blaF, c96]; done) | (simp [itN, blaF, cX]; done)
                  · rfl
                  · rfl
              · try (exfalso; first | (exact absurd (c52.symm.trans c96) (by decide)) | (simp (disch := omega) [inS_ix, inS_N, ixL_N, ix_nI, h0] at c96 <;> omega) | (simp (disch := omega) only [h0, h1, h3, Int32.le_iff_toInt_le, Int32.lt_iff_toInt_lt, ← Int32.toInt_inj, nI_toInt, Int32.toInt_zero, m1_toInt, Int64.le_iff_toInt_le, Int64.lt_iff_toInt_lt, ← Int64.toInt_inj, pk_lT, i64_toInt, Int64.toInt_zero, eq_self, not_true_eq_false, not_false_eq_true] at c13 c17 c28 c48 c96 <;> omega) | omega)
                all_goals
                  skip
                  refine x_iload_n dX8_blaming_99 rfl ?_
                  refine x_ist1 hL (by decide) rfl dX8_blaming_100 ?_
                  refine x_inc2 hL (by decide) rfl dX8_blaming_101 (nI_1 _) ?_
                  refine x_goto (tgt := 4) dX8_blaming_104 (by decide) ?_
                  refine x_drop (k := 3) ?_
                  refine x_drop (k := 4) ?_
                  refine x_eq ?_ ?_ ?_ (ihi)
                  · first | (simp [itN, blaF, c96]; done) | (simp [itN, blaF, cX]; done)
                  · rfl
                  · rfl
            · exfalso; first | (simp (disch := omega) [inS_ix, inS_N, ixL_N, ix_nI, h0] at c48 <;> omega) | (simp (disch := omega) only [h0, h1, h3, Int32.le_iff_toInt_le, Int32.lt_iff_toInt_lt, ← Int32.toInt_inj, nI_toInt, Int32.toInt_zero, m1_toInt, Int64.le_iff_toInt_le, Int64.lt_iff_toInt_lt, ← Int64.toInt_inj, pk_lT, i64_toInt, Int64.toInt_zero, eq_self, not_true_eq_false, not_false_eq_true] at c13 c17 c28 c48 <;> omega) | omega
          · skip
            refine x_iload dX8_blaming_40 rfl ?_
            refine x_aload_n dX8_blaming_42 rfl ?_
            refine x_getf gf_X8_35 ho dX8_blaming_43 rfl rfl ?_
            refine x_iconst (v := nI 3) rfl dX8_blaming_46 ?_
            refine x_iald dX8_blaming_47 rfl (by first | rfl | exact nI_add _ _ | (simp only [nI_add, pk_mul]; rfl)) (by omega) (by decide) ?_
            refine x_icmp_ge (tgt := 95) dX8_blaming_48 (by decide) (fun c48 => ?_) (fun c48 => ?_)
            · exfalso; first | (simp (disch := omega) [inS_ix, inS_N, ixL_N, ix_nI, h0] at c48 <;> omega) | (simp (disch := omega) only [h0, h1, h3, Int32.le_iff_toInt_le, Int32.lt_iff_toInt_lt, ← Int32.toInt_inj, nI_toInt, Int32.toInt_zero, m1_toInt, Int64.le_iff_toInt_le, Int64.lt_iff_toInt_lt, ← Int64.toInt_inj, pk_lT, i64_toInt, Int64.toInt_zero, eq_self, not_true_eq_false, not_false_eq_true] at c13 c17 c28 c48 <;> omega) | omega
            · skip
              refine x_iload_n dX8_blaming_51 rfl ?_
              refine x_ifb_eq (tgt := 95) dX8_blaming_52 (by decide) (fun c52 => ?_) (fun c52 => ?_)
              · skip
                skip
                have cX := itN_false (f := blaP (M.2.2.1 5) i) (fun _ => rfl) c52 tn (by omega)
                refine x_iload_n dX8_blaming_95 rfl ?_
                refine x_ifb_eq (tgt := 101) dX8_blaming_96 (by decide) (fun c96 => ?_) (fun c96 => ?_)
                · try (exfalso; first | (exact absurd (c52.symm.trans c96) (by decide)) | (simp (disch := omega) [inS_ix, inS_N, ixL_N, ix_nI, h0] at c96 <;> omega) | (simp (disch := omega) only [h0, h1, h3, Int32.le_iff_toInt_le, Int32.lt_iff_toInt_lt, ← Int32.toInt_inj, nI_toInt, Int32.toInt_zero, m1_toInt, Int64.le_iff_toInt_le, Int64.lt_iff_toInt_lt, ← Int64.toInt_inj, pk_lT, i64_toInt, Int64.toInt_zero, eq_self, not_true_eq_false, not_false_eq_true] at c13 c17 c28 c48 c52 c96 <;> omega) | omega)
                  all_goals
                    skip
                    refine x_inc2 hL (by decide) rfl dX8_blaming_101 (nI_1 _) ?_
                    refine x_goto (tgt := 4) dX8_blaming_104 (by decide) ?_
                    refine x_drop (k := 3) ?_
                    refine x_drop (k := 4) ?_
                    refine x_eq ?_ ?_ ?_ (ihi)
                    · first | (simp [itN, blaF, c96]; done) | (simp [itN, blaF, cX]; done)
                    · rfl
                    · rfl
                · try (exfalso; first | (exact absurd (c52.symm.trans c96) (by decide)) | (simp (disch := omega) [inS_ix, inS_N, ixL_N, ix_nI, h0] at c96 <;> omega) | (simp (disch := omega) only [h0, h1, h3, Int32.le_iff_toInt_le, Int32.lt_iff_toInt_lt, ← Int32.toInt_inj, nI_toInt, Int32.toInt_zero, m1_toInt, Int64.le_iff_toInt_le, Int64.lt_iff_toInt_lt, ← Int64.toInt_inj, pk_lT, i64_toInt, Int64.toInt_zero, eq_self, not_true_eq_false, not_false_eq_true] at c13 c17 c28 c48 c52 c96 <;> omega) | omega)
                  all_goals
                    skip
                    refine x_iload_n dX8_blaming_99 rfl ?_
                    refine x_ist1 hL (by decide) rfl dX8_blaming_100 ?_
                    refine x_inc2 hL (by decide) rfl dX8_blaming_101 (nI_1 _) ?_
                    refine x_goto (tgt := 4) dX8_blaming_104 (by decide) ?_
                    refine x_drop (k := 3) ?_
                    refine x_drop (k := 4) ?_
                    refine x_eq ?_ ?_ ?_ (ihi)
                    · first | (simp [itN, blaF, c96]; done) | (simp [itN, blaF, cX]; done)
                    · rfl
                    · rfl
              · skip
                skip
                refine x_aload_n dX8_blaming_55 rfl ?_
                refine x_getf gf_X8_35 ho dX8_blaming_56 rfl rfl ?_
                refine x_bipush (v := nI 60) rfl dX8_blaming_59 ?_
                refine x_iload dX8_blaming_61 rfl ?_
                refine x_iaddN dX8_blaming_63 ?_
                refine x_iald dX8_blaming_64 rfl (by first | rfl | exact nI_add _ _ | (simp only [nI_add, pk_mul]; rfl)) (by omega) (by decide) ?_
                refine x_if_eq (tgt := 83) dX8_blaming_65 (by decide) (fun c65 => ?_) (fun c65 => ?_)
                · skip
                  skip
                  refine x_iconst (v := nI 1) rfl dX8_blaming_83 ?_
                  refine x_goto (tgt := 88) dX8_blaming_84 (by decide) ?_
                  refine x_ival (y := xb (itN (blaP (M.2.2.1 5) i) (j + 1) (covT i (itN (blaF (M.2.2.1 5) tn) i (-1))))) (by simp [itN, blaP, c52, c13, c17, c28, c48, c52, c65, xb]) ?_
                  refine x_ist3 hL (by decide) rfl dX8_blaming_88 ?_
                  refine x_inc4 hL (by decide) rfl dX8_blaming_89 (nI_1 _) ?_
                  refine x_goto (tgt := 40) dX8_blaming_92 (by decide) ?_
                  refine x_eq ?_ ?_ ?_ (ihj)
                  · first | rfl | (simp [c13, c17, c28, c48, c52, c65]; done)
                  · rfl
                  · rfl
                · skip
                  skip
                  refine x_iload_n dX8_blaming_68 rfl ?_
                  refine x_aload_n dX8_blaming_69 rfl ?_
                  refine x_getf gf_X8_35 ho dX8_blaming_70 rfl rfl ?_
                  refine x_bipush (v := nI 69) rfl dX8_blaming_73 ?_
                  refine x_iload dX8_blaming_75 rfl ?_
                  refine x_iaddN dX8_blaming_77 ?_
                  refine x_iald dX8_blaming_78 rfl (by first | rfl | exact nI_add _ _ | (simp only [nI_add, pk_mul]; rfl)) (by omega) (by decide) ?_
                  refine x_iand dX8_blaming_79 ?_
                  refine x_if_eq (tgt := 87) dX8_blaming_80 (by decide) (fun c80 => ?_) (fun c80 => ?_)
                  · skip
                    skip
                    refine x_iconst (v := nI 0) rfl dX8_blaming_87 ?_
                    refine x_ival (y := xb (itN (blaP (M.2.2.1 5) i) (j + 1) (covT i (itN (blaF (M.2.2.1 5) tn) i (-1))))) (by simp [itN, blaP, c52, c13, c17, c28, c48, c52, c65, c80, xb]) ?_
                    refine x_ist3 hL (by decide) rfl dX8_blaming_88 ?_
                    refine x_inc4 hL (by decide) rfl dX8_blaming_89 (nI_1 _) ?_
                    refine x_goto (tgt := 40) dX8_blaming_92 (by decide) ?_
                    refine x_eq ?_ ?_ ?_ (ihj)
                    · first | rfl | (simp [c13, c17, c28, c48, c52, c65, c80]; done)
                    · rfl
                    · rfl
                  · skip
                    skip
                    refine x_iconst (v := nI 1) rfl dX8_blaming_83 ?_
                    refine x_goto (tgt := 88) dX8_blaming_84 (by decide) ?_
                    refine x_ival (y := xb (itN (blaP (M.2.2.1 5) i) (j + 1) (covT i (itN (blaF (M.2.2.1 5) tn) i (-1))))) (by simp [itN, blaP, c52, c13, c17, c28, c48, c52, c65, c80, xb]) ?_
                    refine x_ist3 hL (by decide) rfl dX8_blaming_88 ?_
                    refine x_inc4 hL (by decide) rfl dX8_blaming_89 (nI_1 _) ?_
                    refine x_goto (tgt := 40) dX8_blaming_92 (by decide) ?_
                    refine x_eq ?_ ?_ ?_ (ihj)
                    · first | rfl | (simp [c13, c17, c28, c48, c52, c65, c80]; done)
                    · rfl
                    · rfl
        · skip
          skip
          have c28 : szF (nI i) 9 < szF (itN (blaF (M.2.2.1 5) tn) i (-1)) 9 := Nat.lt_of_not_le fun q => c28 (nI_le q (by omega))
          refine x_iconst (v := nI 1) rfl dX8_blaming_31 ?_
          refine x_goto (tgt := 36) dX8_blaming_32 (by decide) ?_
          refine x_ival (y := xb (covT i (itN (blaF (M.2.2.1 5) tn) i (-1)))) (by simp [covT, c13, c17, c28, xb]) ?_
          refine x_ist3 hL (by decide) rfl dX8_blaming_36 ?_
          refine x_iconst (v := nI 0) rfl dX8_blaming_37 ?_
          refine x_ist4 hL (by decide) rfl dX8_blaming_38 ?_
          refine x_for (n := tn) (fun j => [some (.ref 32), some (.int (itN (blaF (M.2.2.1 5) tn) i (-1))), some (.int (nI i)), some (.int (xb (itN (blaP (M.2.2.1 5) i) j (covT i (itN (blaF (M.2.2.1 5) tn) i (-1)))))), some (.int (nI j))]) (fun j => []) (fun j => hM M R) ?_ (fun j hj ihj => ?_)
          · skip
            refine x_iload dX8_blaming_40 rfl ?_
            refine x_aload_n dX8_blaming_42 rfl ?_
            refine x_getf gf_X8_35 ho dX8_blaming_43 rfl rfl ?_
            refine x_iconst (v := nI 3) rfl dX8_blaming_46 ?_
            refine x_iald dX8_blaming_47 rfl (by first | rfl | exact nI_add _ _ | (simp only [nI_add, pk_mul]; rfl)) (by omega) (by decide) ?_
            refine x_icmp_ge (tgt := 95) dX8_blaming_48 (by decide) (fun c48 => ?_) (fun c48 => ?_)
            · skip
              refine x_iload_n dX8_blaming_95 rfl ?_
              refine x_ifb_eq (tgt := 101) dX8_blaming_96 (by decide) (fun c96 => ?_) (fun c96 => ?_)
              · try (exfalso; first | (exact absurd (c52.symm.trans c96) (by decide)) | (simp (disch := omega) [inS_ix, inS_N, ixL_N, ix_nI, h0] at c96 <;> omega) | (simp (disch := omega) only [h0, h1, h3, Int32.le_iff_toInt_le, Int32.lt_iff_toInt_lt, ← Int32.toInt_inj, nI_toInt, Int32.toInt_zero, m1_toInt, Int64.le_iff_toInt_le, Int64.lt_iff_toInt_lt, ← Int64.toInt_inj, pk_lT, i64_toInt, Int64.toInt_zero, eq_self, not_true_eq_false, not_false_eq_true] at c13 c17 c28 c48 c96 <;> omega) | omega)
                all_goals
                  skip
                  refine x_inc2 hL (by decide) rfl dX8_blaming_101 (nI_1 _) ?_
                  refine x_goto (tgt := 4) dX8_blaming_104 (by decide) ?_
                  refine x_drop (k := 3) ?_
                  refine x_drop (k := 4) ?_
                  refine x_eq ?_ ?_ ?_ (ihi)
                  · first | (simp [itN, blaF, c96]; done) | (simp [itN, blaF, cX]; done)
                  · rfl
                  · rfl
              · try (exfalso; first | (exact absurd (c52.symm.trans c96) (by decide)) | (simp (disch := omega) [inS_ix, inS_N, ixL_N, ix_nI, h0] at c96 <;> omega) | (simp (disch := omega) only [h0, h1, h3, Int32.le_iff_toInt_le, Int32.lt_iff_toInt_lt, ← Int32.toInt_inj, nI_toInt, Int32.toInt_zero, m1_toInt, Int64.le_iff_toInt_le, Int64.lt_iff_toInt_lt, ← Int64.toInt_inj, pk_lT, i64_toInt, Int64.toInt_zero, eq_self, not_true_eq_false, not_false_eq_true] at c13 c17 c28 c48 c96 <;> omega) | omega)
                all_goals
                  skip
                  refine x_iload_n dX8_blaming_99 rfl ?_
                  refine x_ist1 hL (by decide) rfl dX8_blaming_100 ?_
                  refine x_inc2 hL (by decide) rfl dX8_blaming_101 (nI_1 _) ?_
                  refine x_goto (tgt := 4) dX8_blaming_104 (by decide) ?_
                  refine x_drop (k := 3) ?_
                  refine x_drop (k := 4) ?_
                  refine x_eq ?_ ?_ ?_ (ihi)
                  · first | (simp [itN, blaF, c96]; done) | (simp [itN, blaF, cX]; done)
                  · rfl
                  · rfl
            · exfalso; first | (simp (disch := omega) [inS_ix, inS_N, ixL_N, ix_nI, h0] at c48 <;> omega) | (simp (disch := omega) only [h0, h1, h3, Int32.le_iff_toInt_le, Int32.lt_iff_toInt_lt, ← Int32.toInt_inj, nI_toInt, Int32.toInt_zero, m1_toInt, Int64.le_iff_toInt_le, Int64.lt_iff_toInt_lt, ← Int64.toInt_inj, pk_lT, i64_toInt, Int64.toInt_zero, eq_self, not_true_eq_false, not_false_eq_true] at c13 c17 c28 c48 <;> omega) | omega
          · skip
            refine x_iload dX8_blaming_40 rfl ?_
            refine x_aload_n dX8_blaming_42 rfl ?_
            refine x_getf gf_X8_35 ho dX8_blaming_43 rfl rfl ?_
            refine x_iconst (v := nI 3) rfl dX8_blaming_46 ?_
            refine x_iald dX8_blaming_47 rfl (by first | rfl | exact nI_add _ _ | (simp only [nI_add, pk_mul]; rfl)) (by omega) (by decide) ?_
            refine x_icmp_ge (tgt := 95) dX8_blaming_48 (by decide) (fun c48 => ?_) (fun c48 => ?_)
            · exfalso; first | (simp (disch := omega) [inS_ix, inS_N, ixL_N, ix_nI, h0] at c48 <;> omega) | (simp (disch := omega) only [h0, h1, h3, Int32.le_iff_toInt_le, Int32.lt_iff_toInt_lt, ← Int32.toInt_inj, nI_toInt, Int32.toInt_zero, m1_toInt, Int64.le_iff_toInt_le, Int64.lt_iff_toInt_lt, ← Int64.toInt_inj, pk_lT, i64_toInt, Int64.toInt_zero, eq_self, not_true_eq_false, not_false_eq_true] at c13 c17 c28 c48 <;> omega) | omega
            · skip
              refine x_iload_n dX8_blaming_51 rfl ?_
              refine x_ifb_eq (tgt := 95) dX8_blaming_52 (by decide) (fun c52 => ?_) (fun c52 => ?_)
              · skip
                skip
                have cX := itN_false (f := blaP (M.2.2.1 5) i) (fun _ => rfl) c52 tn (by omega)
                refine x_iload_n dX8_blaming_95 rfl ?_
                refine x_ifb_eq (tgt := 101) dX8_blaming_96 (by decide) (fun c96 => ?_) (fun c96 => ?_)
                · try (exfalso; first | (exact absurd (c52.symm.trans c96) (by decide)) | (simp (disch := omega) [inS_ix, inS_N, ixL_N, ix_nI, h0] at c96 <;> omega) | (simp (disch := omega) only [h0, h1, h3, Int32.le_iff_toInt_le, Int32.lt_iff_toInt_lt, ← Int32.toInt_inj, nI_toInt, Int32.toInt_zero, m1_toInt, Int64.le_iff_toInt_le, Int64.lt_iff_toInt_lt, ← Int64.toInt_inj, pk_lT, i64_toInt, Int64.toInt_zero, eq_self, not_true_eq_false, not_false_eq_true] at c13 c17 c28 c48 c52 c96 <;> omega) | omega)
                  all_goals
                    skip
                    refine x_inc2 hL (by decide) rfl dX8_blaming_101 (nI_1 _) ?_
                    refine x_goto (tgt := 4) dX8_blaming_104 (by decide) ?_
                    refine x_drop (k := 3) ?_
                    refine x_drop (k := 4) ?_
                    refine x_eq ?_ ?_ ?_ (ihi)
                    · first | (simp [itN, blaF, c96]; done) | (simp [itN, blaF, cX]; done)
                    · rfl
                    · rfl
                · try (exfalso; first | (exact absurd (c52.symm.trans c96) (by decide)) | (simp (disch := omega) [inS_ix, inS_N, ixL_N, ix_nI, h0] at c96 <;> omega) | (simp (disch := omega) only [h0, h1, h3, Int32.le_iff_toInt_le, Int32.lt_iff_toInt_lt, ← Int32.toInt_inj, nI_toInt, Int32.toInt_zero, m1_toInt, Int64.le_iff_toInt_le, Int64.lt_iff_toInt_lt, ← Int64.toInt_inj, pk_lT, i64_toInt, Int64.toInt_zero, eq_self, not_true_eq_false, not_false_eq_true] at c13 c17 c28 c48 c52 c96 <;> omega) | omega)
                  all_goals
                    skip
                    refine x_iload_n dX8_blaming_99 rfl ?_
                    refine x_ist1 hL (by decide) rfl dX8_blaming_100 ?_
                    refine x_inc2 hL (by decide) rfl dX8_blaming_101 (nI_1 _) ?_
                    refine x_goto (tgt := 4) dX8_blaming_104 (by decide) ?_
                    refine x_drop (k := 3) ?_
                    refine x_drop (k := 4) ?_
                    refine x_eq ?_ ?_ ?_ (ihi)
                    · first | (simp [itN, blaF, c96]; done) | (simp [itN, blaF, cX]; done)
                    · rfl
                    · rfl
              · skip
                skip
                refine x_aload_n dX8_blaming_55 rfl ?_
                refine x_getf gf_X8_35 ho dX8_blaming_56 rfl rfl ?_
                refine x_bipush (v := nI 60) rfl dX8_blaming_59 ?_
                refine x_iload dX8_blaming_61 rfl ?_
                refine x_iaddN dX8_blaming_63 ?_
                refine x_iald dX8_blaming_64 rfl (by first | rfl | exact nI_add _ _ | (simp only [nI_add, pk_mul]; rfl)) (by omega) (by decide) ?_
                refine x_if_eq (tgt := 83) dX8_blaming_65 (by decide) (fun c65 => ?_) (fun c65 => ?_)
                · skip
                  skip
                  refine x_iconst (v := nI 1) rfl dX8_blaming_83 ?_
                  refine x_goto (tgt := 88) dX8_blaming_84 (by decide) ?_
                  refine x_ival (y := xb (itN (blaP (M.2.2.1 5) i) (j + 1) (covT i (itN (blaF (M.2.2.1 5) tn) i (-1))))) (by simp [itN, blaP, c52, c13, c17, c28, c48, c52, c65, xb]) ?_
                  refine x_ist3 hL (by decide) rfl dX8_blaming_88 ?_
                  refine x_inc4 hL (by decide) rfl dX8_blaming_89 (nI_1 _) ?_
                  refine x_goto (tgt := 40) dX8_blaming_92 (by decide) ?_
                  refine x_eq ?_ ?_ ?_ (ihj)
                  · first | rfl | (simp [c13, c17, c28, c48, c52, c65]; done)
                  · rfl
                  · rfl
                · skip
                  skip
                  refine x_iload_n dX8_blaming_68 rfl ?_
                  refine x_aload_n dX8_blaming_69 rfl ?_
                  refine x_getf gf_X8_35 ho dX8_blaming_70 rfl rfl ?_
                  refine x_bipush (v := nI 69) rfl dX8_blaming_73 ?_
                  refine x_iload dX8_blaming_75 rfl ?_
                  refine x_iaddN dX8_blaming_77 ?_
                  refine x_iald dX8_blaming_78 rfl (by first | rfl | exact nI_add _ _ | (simp only [nI_add, pk_mul]; rfl)) (by omega) (by decide) ?_
                  refine x_iand dX8_blaming_79 ?_
                  refine x_if_eq (tgt := 87) dX8_blaming_80 (by decide) (fun c80 => ?_) (fun c80 => ?_)
                  · skip
                    skip
                    refine x_iconst (v := nI 0) rfl dX8_blaming_87 ?_
                    refine x_ival (y := xb (itN (blaP (M.2.2.1 5) i) (j + 1) (covT i (itN (blaF (M.2.2.1 5) tn) i (-1))))) (by simp [itN, blaP, c52, c13, c17, c28, c48, c52, c65, c80, xb]) ?_
                    refine x_ist3 hL (by decide) rfl dX8_blaming_88 ?_
                    refine x_inc4 hL (by decide) rfl dX8_blaming_89 (nI_1 _) ?_
                    refine x_goto (tgt := 40) dX8_blaming_92 (by decide) ?_
                    refine x_eq ?_ ?_ ?_ (ihj)
                    · first | rfl | (simp [c13, c17, c28, c48, c52, c65, c80]; done)
                    · rfl
                    · rfl
                  · skip
                    skip
                    refine x_iconst (v := nI 1) rfl dX8_blaming_83 ?_
                    refine x_goto (tgt := 88) dX8_blaming_84 (by decide) ?_
                    refine x_ival (y := xb (itN (blaP (M.2.2.1 5) i) (j + 1) (covT i (itN (blaF (M.2.2.1 5) tn) i (-1))))) (by simp [itN, blaP, c52, c13, c17, c28, c48, c52, c65, c80, xb]) ?_
                    refine x_ist3 hL (by decide) rfl dX8_blaming_88 ?_
                    refine x_inc4 hL (by decide) rfl dX8_blaming_89 (nI_1 _) ?_
                    refine x_goto (tgt := 40) dX8_blaming_92 (by decide) ?_
                    refine x_eq ?_ ?_ ?_ (ihj)
                    · first | rfl | (simp [c13, c17, c28, c48, c52, c65, c80]; done)
                    · rfl
                    · rfl
set_option maxHeartbeats 800000 in
theorem m_cover {w : xW} {M : mS} {R : xH} {tm pm tn G : Nat} (hF : wF (M.2.2.1 5) tm pm tn G)  : CT w yX8_cover cX8_cover 2 (some (.int)) [] false (3) 0 0 [.ref 32] (hM M R) (xret (some (.int (spCover (M.2.2.1 5) tm pm).1)) (hM (mI (mI M 1 (nI 0)) 0 (nI (spCover (M.2.2.1 5) tm pm).2)) R)) := by
  refine CT.of (ini := false) (by decide +kernel) q2097 q164 (Nat.le_of_ble_eq_true rfl) (by decide) ?_
  intro Γ hw ho hL hr hh hini hal hd hmc hms hQ
  subst hw
  show AW Γ cX8_cover 0 0 0 [some (.ref 32), none] [] (hM M R)
  have h0 := hF.c0
  have h1 := hF.c1
  have h3 := hF.c3
  have l0 := hF.l0
  have l1 := hF.l1
  have l3 := hF.l3
  refine x_aload_n dX8_cover_0 rfl ?_
  refine x_iconst (v := nI 0) rfl dX8_cover_1 ?_
  refine m_puti (k := 1) (pf_X8_70 (ini := false)) ho hini dX8_cover_2 rfl rfl (by decide) (ms_1 _ _) ?_
  refine x_aload_n dX8_cover_5 rfl ?_
  refine x_iconst (v := nI 0) rfl dX8_cover_6 ?_
  refine m_puti (k := 0) (pf_X8_73 (ini := false)) ho hini dX8_cover_7 rfl rfl (by decide) (ms_0 _ _) ?_
  refine x_aload_n dX8_cover_10 rfl ?_
  refine x_callV0 lk_X8_406 (m_covering (M := (mI (mI M 1 (nI 0)) 0 (nI 0))) hF) ho dX8_cover_11 rfl (Nat.le_of_ble_eq_true rfl) (by omega) (by decide) (by omega) (by omega) ?_
  refine x_ist1 hL (by decide) rfl dX8_cover_14 ?_
  refine x_iload_n dX8_cover_15 rfl ?_
  refine x_if_ge (tgt := 28) dX8_cover_16 (by decide) (fun c16 => ?_) (fun c16 => ?_)
  · skip
    skip
    have c16 := Int32.not_lt.mpr c16
    refine x_iload_n dX8_cover_28 rfl ?_
    refine x_callS1 lk_X8_396 (m_sizeOf _) ho dX8_cover_29 (Nat.le_of_ble_eq_true rfl) (by omega) (by decide) (by omega) (by omega) ?_
    refine x_iret hr rfl dX8_cover_32 (by omega) (by omega) (hQ _ _ ?_)
    try dsimp only [mI, mSA] at c16
    exact ⟨by simp [spCover, c16], by simp [spCover, c16, mI_mI]⟩
  · skip
    skip
    have c16 := Int32.not_le.mp c16
    refine x_aload_n dX8_cover_19 rfl ?_
    refine x_bipush (v := nI 8) rfl dX8_cover_20 ?_
    refine x_callV1 lk_X8_327 (m_refuse _) ho dX8_cover_22 rfl (Nat.le_of_ble_eq_true rfl) (by omega) (by decide) (by omega) (by omega) ?_
    refine x_goto (tgt := 32) dX8_cover_25 (by decide) ?_
    refine x_iret hr rfl dX8_cover_32 (by omega) (by omega) (hQ _ _ ?_)
    try dsimp only [mI, mSA] at c16
    exact ⟨by simp [spCover, c16], by simp [spCover, c16, mI_mI]⟩
set_option maxHeartbeats 800000 in
theorem m_coverSet {w : xW} {M : mS} {R : xH} {tm pm tn G : Nat} (hF : wF (M.2.2.1 5) tm pm tn G)  : CT w yX8_coverSet cX8_coverSet 2 (some (.int)) [] false (3) 0 0 [.ref 32] (hM M R) (xret (some (.int (spCoverSet (M.2.2.1 5) tm pm).1)) (hM (mI (mI M 1 (nI 0)) 0 (nI (spCoverSet (M.2.2.1 5) tm pm).2)) R)) := by
  refine CT.of (ini := false) (by decide +kernel) q2105 q164 (Nat.le_of_ble_eq_true rfl) (by decide) ?_
  intro Γ hw ho hL hr hh hini hal hd hmc hms hQ
  subst hw
  show AW Γ cX8_coverSet 0 0 0 [some (.ref 32), none] [] (hM M R)
  have h0 := hF.c0
  have h1 := hF.c1
  have h3 := hF.c3
  have l0 := hF.l0
  have l1 := hF.l1
  have l3 := hF.l3
  refine x_aload_n dX8_coverSet_0 rfl ?_
  refine x_iconst (v := nI 0) rfl dX8_coverSet_1 ?_
  refine m_puti (k := 1) (pf_X8_70 (ini := false)) ho hini dX8_coverSet_2 rfl rfl (by decide) (ms_1 _ _) ?_
  refine x_aload_n dX8_coverSet_5 rfl ?_
  refine x_iconst (v := nI 0) rfl dX8_coverSet_6 ?_
  refine m_puti (k := 0) (pf_X8_73 (ini := false)) ho hini dX8_coverSet_7 rfl rfl (by decide) (ms_0 _ _) ?_
  refine x_aload_n dX8_coverSet_10 rfl ?_
  refine x_callV0 lk_X8_406 (m_covering (M := (mI (mI M 1 (nI 0)) 0 (nI 0))) hF) ho dX8_coverSet_11 rfl (Nat.le_of_ble_eq_true rfl) (by omega) (by decide) (by omega) (by omega) ?_
  refine x_ist1 hL (by decide) rfl dX8_coverSet_14 ?_
  refine x_iload_n dX8_coverSet_15 rfl ?_
  refine x_if_ge (tgt := 28) dX8_coverSet_16 (by decide) (fun c16 => ?_) (fun c16 => ?_)
  · skip
    skip
    have c16 := Int32.not_lt.mpr c16
    refine x_iload_n dX8_coverSet_28 rfl ?_
    refine x_iret hr rfl dX8_coverSet_29 (by omega) (by omega) (hQ _ _ ?_)
    try dsimp only [mI, mSA] at c16
    exact ⟨by simp [spCoverSet, c16], by simp [spCoverSet, c16, mI_mI]⟩
  · skip
    skip
    have c16 := Int32.not_le.mp c16
    refine x_aload_n dX8_coverSet_19 rfl ?_
    refine x_bipush (v := nI 8) rfl dX8_coverSet_20 ?_
    refine x_callV1 lk_X8_327 (m_refuse _) ho dX8_coverSet_22 rfl (Nat.le_of_ble_eq_true rfl) (by omega) (by decide) (by omega) (by omega) ?_
    refine x_goto (tgt := 29) dX8_coverSet_25 (by decide) ?_
    refine x_iret hr rfl dX8_coverSet_29 (by omega) (by omega) (hQ _ _ ?_)
    try dsimp only [mI, mSA] at c16
    exact ⟨by simp [spCoverSet, c16], by simp [spCoverSet, c16, mI_mI]⟩
set_option maxHeartbeats 800000 in
theorem m_blamed {w : xW} {M : mS} {R : xH} {tm pm tn G : Nat} (hF : wF (M.2.2.1 5) tm pm tn G)  : CT w yX8_blamed cX8_blamed 1 (some (.int)) [] false (3) 0 0 [.ref 32] (hM M R) (xret (some (.int (nI (szF (blaS (M.2.2.1 5) pm tn) 9)))) (hM (mI (mI M 1 (nI 0)) 0 (nI 0)) R)) := by
  refine CT.of (ini := false) (by decide +kernel) q2109 q164 (Nat.le_of_ble_eq_true rfl) (by decide) ?_
  intro Γ hw ho hL hr hh hini hal hd hmc hms hQ
  subst hw
  show AW Γ cX8_blamed 0 0 0 [some (.ref 32)] [] (hM M R)
  have h0 := hF.c0
  have h1 := hF.c1
  have h3 := hF.c3
  have l0 := hF.l0
  have l1 := hF.l1
  have l3 := hF.l3
  refine x_aload_n dX8_blamed_0 rfl ?_
  refine x_iconst (v := nI 0) rfl dX8_blamed_1 ?_
  refine m_puti (k := 1) (pf_X8_70 (ini := false)) ho hini dX8_blamed_2 rfl rfl (by decide) (ms_1 _ _) ?_
  refine x_aload_n dX8_blamed_5 rfl ?_
  refine x_iconst (v := nI 0) rfl dX8_blamed_6 ?_
  refine m_puti (k := 0) (pf_X8_73 (ini := false)) ho hini dX8_blamed_7 rfl rfl (by decide) (ms_0 _ _) ?_
  refine x_aload_n dX8_blamed_10 rfl ?_
  refine x_callV0 lk_X8_409 (m_blaming (M := (mI (mI M 1 (nI 0)) 0 (nI 0))) hF) ho dX8_blamed_11 rfl (Nat.le_of_ble_eq_true rfl) (by omega) (by decide) (by omega) (by omega) ?_
  refine x_callS1 lk_X8_396 (m_sizeOf _) ho dX8_blamed_14 (Nat.le_of_ble_eq_true rfl) (by omega) (by decide) (by omega) (by omega) ?_
  refine x_iret hr rfl dX8_blamed_17 (by omega) (by omega) (hQ _ _ ?_)
  exact ⟨rfl, rfl⟩
set_option maxHeartbeats 800000 in
theorem m_blamedSet {w : xW} {M : mS} {R : xH} {tm pm tn G : Nat} (hF : wF (M.2.2.1 5) tm pm tn G)  : CT w yX8_blamedSet cX8_blamedSet 1 (some (.int)) [] false (3) 0 0 [.ref 32] (hM M R) (xret (some (.int (blaS (M.2.2.1 5) pm tn))) (hM (mI (mI M 1 (nI 0)) 0 (nI 0)) R)) := by
  refine CT.of (ini := false) (by decide +kernel) q2117 q164 (Nat.le_of_ble_eq_true rfl) (by decide) ?_
  intro Γ hw ho hL hr hh hini hal hd hmc hms hQ
  subst hw
  show AW Γ cX8_blamedSet 0 0 0 [some (.ref 32)] [] (hM M R)
  have h0 := hF.c0
  have h1 := hF.c1
  have h3 := hF.c3
  have l0 := hF.l0
  have l1 := hF.l1
  have l3 := hF.l3
  refine x_aload_n dX8_blamedSet_0 rfl ?_
  refine x_iconst (v := nI 0) rfl dX8_blamedSet_1 ?_
  refine m_puti (k := 1) (pf_X8_70 (ini := false)) ho hini dX8_blamedSet_2 rfl rfl (by decide) (ms_1 _ _) ?_
  refine x_aload_n dX8_blamedSet_5 rfl ?_
  refine x_iconst (v := nI 0) rfl dX8_blamedSet_6 ?_
  refine m_puti (k := 0) (pf_X8_73 (ini := false)) ho hini dX8_blamedSet_7 rfl rfl (by decide) (ms_0 _ _) ?_
  refine x_aload_n dX8_blamedSet_10 rfl ?_
  refine x_callV0 lk_X8_409 (m_blaming (M := (mI (mI M 1 (nI 0)) 0 (nI 0))) hF) ho dX8_blamedSet_11 rfl (Nat.le_of_ble_eq_true rfl) (by omega) (by decide) (by omega) (by omega) ?_
  refine x_iret hr rfl dX8_blamedSet_14 (by omega) (by omega) (hQ _ _ ?_)
  exact ⟨rfl, rfl⟩
