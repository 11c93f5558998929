/-! ===== the model: the fewest, wheels ===== -/
set_option maxRecDepth 100000
set_option maxHeartbeats 800000 in
theorem m_covering {w : xW} {M : mS} {R : xH} {tm pm tn G : Nat} (hF : wF (M.2.2.1 5) tm pm tn G)  : CT w yX8_covering cX8_covering 5 (some (.int)) [] false (2) 0 0 [.ref 32] (hM M R) (xret (some (.int ((covS (M.2.2.1 5) tm pm)))) (hM M R)) := by
  refine CT.of (ini := false) (by decide +kernel) q2101 q164 (Nat.le_of_ble_eq_true rfl) (by decide) ?_
  intro Γ hw ho hL hr hh hini hal hd hmc hms hQ
  subst hw
  show AW Γ cX8_covering 0 0 0 [some (.ref 32), none, none, none, none] [] (hM M R)
  have h0 := hF.c0
  have h1 := hF.c1
  have h3 := hF.c3
  have l0 := hF.l0
  have l1 := hF.l1
  have l3 := hF.l3
  have hb : 2 ^ tm ≤ 128 := Nat.le_trans (Nat.pow_le_pow_right (by decide) (show tm ≤ 7 by omega)) (by decide)
  refine x_iconst (v := (-1)) rfl dX8_covering_0 ?_
  refine x_ist1 hL (by decide) rfl dX8_covering_1 ?_
  refine x_iconst (v := nI 0) rfl dX8_covering_2 ?_
  refine x_ist2 hL (by decide) rfl dX8_covering_3 ?_
  refine x_for (n := (2 ^ tm)) (fun i => [some (.ref 32), some (.int (itN (covF (M.2.2.1 5) pm) i (-1))), some (.int (nI i)), none, none]) (fun i => []) (fun i => hM M R) ?_ (fun i hi ihi => ?_)
  · skip
    refine x_iload_n dX8_covering_4 rfl ?_
    refine x_iconst (v := nI 1) rfl dX8_covering_5 ?_
    refine x_aload_n dX8_covering_6 rfl ?_
    refine x_getf gf_X8_35 ho dX8_covering_7 rfl rfl ?_
    refine x_iconst (v := nI 0) rfl dX8_covering_10 ?_
    refine x_iald dX8_covering_11 rfl (by first | rfl | exact nI_add _ _ | (simp only [nI_add, pk_mul]; rfl)) (by omega) (by decide) ?_
    refine x_ival (y := nI tm) h0 ?_
    refine x_ishl dX8_covering_12 ?_
    refine x_ival (y := nI (2 ^ tm)) (sh_pow tm (by omega)) ?_
    refine x_icmp_ge (tgt := 94) dX8_covering_13 (by decide) (fun c13 => ?_) (fun c13 => ?_)
    · skip
      refine x_iload_n dX8_covering_94 rfl ?_
      refine x_iret hr rfl dX8_covering_95 (by omega) (by omega) (hQ _ _ ?_)
      try dsimp only [mI, mSA] at c13
      exact ⟨rfl, rfl⟩
    · exfalso; first | (simp (disch := omega) [inS_ix, inS_N, ixL_N, ix_nI, h0] at c13 <;> omega) | (simp (disch := omega) only [h0, h1, h3, Int32.le_iff_toInt_le, Int32.lt_iff_toInt_lt, ← Int32.toInt_inj, nI_toInt, Int32.toInt_zero, m1_toInt, Int64.le_iff_toInt_le, Int64.lt_iff_toInt_lt, ← Int64.toInt_inj, pk_lT, i64_toInt, Int64.toInt_zero, eq_self, not_true_eq_false, not_false_eq_true] at c13 <;> omega) | omega
  · skip
    have hz1 := szF_le (itN (covF (M.2.2.1 5) pm) i (-1)) 9
    have hz2 := szF_le (nI i) 9
    refine x_iload_n dX8_covering_4 rfl ?_
    refine x_iconst (v := nI 1) rfl dX8_covering_5 ?_
    refine x_aload_n dX8_covering_6 rfl ?_
    refine x_getf gf_X8_35 ho dX8_covering_7 rfl rfl ?_
    refine x_iconst (v := nI 0) rfl dX8_covering_10 ?_
    refine x_iald dX8_covering_11 rfl (by first | rfl | exact nI_add _ _ | (simp only [nI_add, pk_mul]; rfl)) (by omega) (by decide) ?_
    refine x_ival (y := nI tm) h0 ?_
    refine x_ishl dX8_covering_12 ?_
    refine x_ival (y := nI (2 ^ tm)) (sh_pow tm (by omega)) ?_
    refine x_icmp_ge (tgt := 94) dX8_covering_13 (by decide) (fun c13 => ?_) (fun c13 => ?_)
    · exfalso; first | (simp (disch := omega) [inS_ix, inS_N, ixL_N, ix_nI, h0] at c13 <;> omega) | (simp (disch := omega) only [h0, h1, h3, Int32.le_iff_toInt_le, Int32.lt_iff_toInt_lt, ← Int32.toInt_inj, nI_toInt, Int32.toInt_zero, m1_toInt, Int64.le_iff_toInt_le, Int64.lt_iff_toInt_lt, ← Int64.toInt_inj, pk_lT, i64_toInt, Int64.toInt_zero, eq_self, not_true_eq_false, not_false_eq_true] at c13 <;> omega) | omega
    · skip
      refine x_iload_n dX8_covering_16 rfl ?_
      refine x_if_lt (tgt := 31) dX8_covering_17 (by decide) (fun c17 => ?_) (fun c17 => ?_)
      · skip
        skip
        refine x_iconst (v := nI 1) rfl dX8_covering_31 ?_
        refine x_goto (tgt := 36) dX8_covering_32 (by decide) ?_
        refine x_ival (y := xb (covT i (itN (covF (M.2.2.1 5) pm) i (-1)))) (by simp [covT, c13, c17, xb]) ?_
        refine x_ist3 hL (by decide) rfl dX8_covering_36 ?_
        refine x_iconst (v := nI 0) rfl dX8_covering_37 ?_
        refine x_ist4 hL (by decide) rfl dX8_covering_38 ?_
        refine x_for (n := pm) (fun j => [some (.ref 32), some (.int (itN (covF (M.2.2.1 5) pm) i (-1))), some (.int (nI i)), some (.int (xb (itN (covP (M.2.2.1 5) i) j (covT i (itN (covF (M.2.2.1 5) pm) i (-1)))))), some (.int (nI j))]) (fun j => []) (fun j => hM M R) ?_ (fun j hj ihj => ?_)
        · skip
          refine x_iload dX8_covering_40 rfl ?_
          refine x_aload_n dX8_covering_42 rfl ?_
          refine x_getf gf_X8_35 ho dX8_covering_43 rfl rfl ?_
          refine x_iconst (v := nI 1) rfl dX8_covering_46 ?_
          refine x_iald dX8_covering_47 rfl (by first | rfl | exact nI_add _ _ | (simp only [nI_add, pk_mul]; rfl)) (by omega) (by decide) ?_
          refine x_icmp_ge (tgt := 82) dX8_covering_48 (by decide) (fun c48 => ?_) (fun c48 => ?_)
          · skip
            refine x_iload_n dX8_covering_82 rfl ?_
            refine x_ifb_eq (tgt := 88) dX8_covering_83 (by decide) (fun c83 => ?_) (fun c83 => ?_)
            · try (exfalso; first | (exact absurd (c52.symm.trans c83) (by decide)) | (simp (disch := omega) [inS_ix, inS_N, ixL_N, ix_nI, h0] at c83 <;> omega) | (simp (disch := omega) only [h0, h1, h3, Int32.le_iff_toInt_le, Int32.lt_iff_toInt_lt, ← Int32.toInt_inj, nI_toInt, Int32.toInt_zero, m1_toInt, Int64.le_iff_toInt_le, Int64.lt_iff_toInt_lt, ← Int64.toInt_inj, pk_lT, i64_toInt, Int64.toInt_zero, eq_self, not_true_eq_false, not_false_eq_true] at c13 c17 c48 c83 <;> omega) | omega)
              all_goals
                skip
                refine x_inc2 hL (by decide) rfl dX8_covering_88 (nI_1 _) ?_
                refine x_goto (tgt := 4) dX8_covering_91 (by decide) ?_
                refine x_drop (k := 3) ?_
                refine x_drop (k := 4) ?_
                refine x_eq ?_ ?_ ?_ (ihi)
                · first | (simp [itN, covF, c83]; done) | (simp [itN, covF, cX]; done)
                · rfl
                · rfl
            · try (exfalso; first | (exact absurd (c52.symm.trans c83) (by decide)) | (simp (disch := omega) [inS_ix, inS_N, ixL_N, ix_nI, h0] at c83 <;> omega) | (simp (disch := omega) only [h0, h1, h3, Int32.le_iff_toInt_le, Int32.lt_iff_toInt_lt, ← Int32.toInt_inj, nI_toInt, Int32.toInt_zero, m1_toInt, Int64.le_iff_toInt_le, Int64.lt_iff_toInt_lt, ← Int64.toInt_inj, pk_lT, i64_toInt, Int64.toInt_zero, eq_self, not_true_eq_false, not_false_eq_true] at c13 c17 c48 c83 <;> omega) | omega)
              all_goals
                skip
                refine x_iload_n dX8_covering_86 rfl ?_
                refine x_ist1 hL (by decide) rfl dX8_covering_87 ?_
                refine x_inc2 hL (by decide) rfl dX8_covering_88 (nI_1 _) ?_
                refine x_goto (tgt := 4) dX8_covering_91 (by decide) ?_
                refine x_drop (k := 3) ?_
                refine x_drop (k := 4) ?_
                refine x_eq ?_ ?_ ?_ (ihi)
                · first | (simp [itN, covF, c83]; done) | (simp [itN, covF, cX]; done)
                · rfl
                · rfl
          · exfalso; first | (simp (disch := omega) [inS_ix, inS_N, ixL_N, ix_nI, h0] at c48 <;> omega) | (simp (disch := omega) only [h0, h1, h3, Int32.le_iff_toInt_le, Int32.lt_iff_toInt_lt, ← Int32.toInt_inj, nI_toInt, Int32.toInt_zero, m1_toInt, Int64.le_iff_toInt_le, Int64.lt_iff_toInt_lt, ← Int64.toInt_inj, pk_lT, i64_toInt, Int64.toInt_zero, eq_self, not_true_eq_false, not_false_eq_true] at c13 c17 c48 <;> omega) | omega
        · skip
          refine x_iload dX8_covering_40 rfl ?_
          refine x_aload_n dX8_covering_42 rfl ?_
          refine x_getf gf_X8_35 ho dX8_covering_43 rfl rfl ?_
          refine x_iconst (v := nI 1) rfl dX8_covering_46 ?_
          refine x_iald dX8_covering_47 rfl (by first | rfl | exact nI_add _ _ | (simp only [nI_add, pk_mul]; rfl)) (by omega) (by decide) ?_
          refine x_icmp_ge (tgt := 82) dX8_covering_48 (by decide) (fun c48 => ?_) (fun c48 => ?_)
          · exfalso; first | (simp (disch := omega) [inS_ix, inS_N, ixL_N, ix_nI, h0] at c48 <;> omega) | (simp (disch := omega) only [h0, h1, h3, Int32.le_iff_toInt_le, Int32.lt_iff_toInt_lt, ← Int32.toInt_inj, nI_toInt, Int32.toInt_zero, m1_toInt, Int64.le_iff_toInt_le, Int64.lt_iff_toInt_lt, ← Int64.toInt_inj, pk_lT, i64_toInt, Int64.toInt_zero, eq_self, not_true_eq_false, not_false_eq_true] at c13 c17 c48 <;> omega) | omega
          · skip
            refine x_iload_n dX8_covering_51 rfl ?_
            refine x_ifb_eq (tgt := 82) dX8_covering_52 (by decide) (fun c52 => ?_) (fun c52 => ?_)
            · skip
              skip
              have cX := itN_false (f := covP (M.2.2.1 5) i) (fun _ => rfl) c52 pm (by omega)
              refine x_iload_n dX8_covering_82 rfl ?_
              refine x_ifb_eq (tgt := 88) dX8_covering_83 (by decide) (fun c83 => ?_) (fun c83 => ?_)
              · try (exfalso; first | (exact absurd (c52.symm.trans c83) (by decide)) | (simp (disch := omega) [inS_ix, inS_N, ixL_N, ix_nI, h0] at c83 <;> omega) | (simp (disch := omega) only [h0, h1, h3, Int32.le_iff_toInt_le, Int32.lt_iff_toInt_lt, ← Int32.toInt_inj, nI_toInt, Int32.toInt_zero, m1_toInt, Int64.le_iff_toInt_le, Int64.lt_iff_toInt_lt, ← Int64.toInt_inj, pk_lT, i64_toInt, Int64.toInt_zero, eq_self, not_true_eq_false, not_false_eq_true] at c13 c17 c48 c52 c83 <;> omega) | omega)
                all_goals
                  skip
                  refine x_inc2 hL (by decide) rfl dX8_covering_88 (nI_1 _) ?_
                  refine x_goto (tgt := 4) dX8_covering_91 (by decide) ?_
                  refine x_drop (k := 3) ?_
                  refine x_drop (k := 4) ?_
                  refine x_eq ?_ ?_ ?_ (ihi)
                  · first | (simp [itN, covF, c83]; done) | (simp [itN, covF, cX]; done)
                  · rfl
                  · rfl
              · try (exfalso; first | (exact absurd (c52.symm.trans c83) (by decide)) | (simp (disch := omega) [inS_ix, inS_N, ixL_N, ix_nI, h0] at c83 <;> omega) | (simp (disch := omega) only [h0, h1, h3, Int32.le_iff_toInt_le, Int32.lt_iff_toInt_lt, ← Int32.toInt_inj, nI_toInt, Int32.toInt_zero, m1_toInt, Int64.le_iff_toInt_le, Int64.lt_iff_toInt_lt, ← Int64.toInt_inj, pk_lT, i64_toInt, Int64.toInt_zero, eq_self, not_true_eq_false, not_false_eq_true] at c13 c17 c48 c52 c83 <;> omega) | omega)
                all_goals
                  skip
                  refine x_iload_n dX8_covering_86 rfl ?_
                  refine x_ist1 hL (by decide) rfl dX8_covering_87 ?_
                  refine x_inc2 hL (by decide) rfl dX8_covering_88 (nI_1 _) ?_
                  refine x_goto (tgt := 4) dX8_covering_91 (by decide) ?_
                  refine x_drop (k := 3) ?_
                  refine x_drop (k := 4) ?_
                  refine x_eq ?_ ?_ ?_ (ihi)
                  · first | (simp [itN, covF, c83]; done) | (simp [itN, covF, cX]; done)
                  · rfl
                  · rfl
            · skip
              skip
              refine x_iload_n dX8_covering_55 rfl ?_
              refine x_aload_n dX8_covering_56 rfl ?_
              refine x_getf gf_X8_35 ho dX8_covering_57 rfl rfl ?_
              refine x_bipush (v := nI 12) rfl dX8_covering_60 ?_
              refine x_iload dX8_covering_62 rfl ?_
              refine x_iaddN dX8_covering_64 ?_
              refine x_iald dX8_covering_65 rfl (by first | rfl | exact nI_add _ _ | (simp only [nI_add, pk_mul]; rfl)) (by omega) (by decide) ?_
              refine x_iand dX8_covering_66 ?_
              refine x_if_eq (tgt := 74) dX8_covering_67 (by decide) (fun c67 => ?_) (fun c67 => ?_)
              · skip
                skip
                refine x_iconst (v := nI 0) rfl dX8_covering_74 ?_
                refine x_ival (y := xb (itN (covP (M.2.2.1 5) i) (j + 1) (covT i (itN (covF (M.2.2.1 5) pm) i (-1))))) (by simp [itN, covP, c52, c67, xb]) ?_
                refine x_ist3 hL (by decide) rfl dX8_covering_75 ?_
                refine x_inc4 hL (by decide) rfl dX8_covering_76 (nI_1 _) ?_
                refine x_goto (tgt := 40) dX8_covering_79 (by decide) ?_
                refine x_eq ?_ ?_ ?_ (ihj)
                · first | rfl | (simp [c13, c17, c48, c52, c67]; done)
                · rfl
                · rfl
              · skip
                skip
                refine x_iconst (v := nI 1) rfl dX8_covering_70 ?_
                refine x_goto (tgt := 75) dX8_covering_71 (by decide) ?_
                refine x_ival (y := xb (itN (covP (M.2.2.1 5) i) (j + 1) (covT i (itN (covF (M.2.2.1 5) pm) i (-1))))) (by simp [itN, covP, c52, c67, xb]) ?_
                refine x_ist3 hL (by decide) rfl dX8_covering_75 ?_
                refine x_inc4 hL (by decide) rfl dX8_covering_76 (nI_1 _) ?_
                refine x_goto (tgt := 40) dX8_covering_79 (by decide) ?_
                refine x_eq ?_ ?_ ?_ (ihj)
                · first | rfl | (simp [c13, c17, c48, c52, c67]; done)
                · rfl
                · rfl
      · skip
        skip
        refine x_iload_n dX8_covering_20 rfl ?_
        refine x_callS1 lk_X8_396 (m_sizeOf _) ho dX8_covering_21 (Nat.le_of_ble_eq_true rfl) (by omega) (by decide) (by omega) (by omega) ?_
        refine x_iload_n dX8_covering_24 rfl ?_
        refine x_callS1 lk_X8_396 (m_sizeOf _) ho dX8_covering_25 (Nat.le_of_ble_eq_true rfl) (by omega) (by decide) (by omega) (by omega) ?_
        refine x_icmp_ge (tgt := 35) dX8_covering_28 (by decide) (fun c28 => ?_) (fun c28 => ?_)
        · skip
          skip
          have c28 : ¬ szF (nI i) 9 < szF (itN (covF (M.2.2.1 5) pm) i (-1)) 9 := by have := (nI_leI (by omega) (by omega)).mp c28; omega
          refine x_iconst (v := nI 0) rfl dX8_covering_35 ?_
          refine x_ival (y := xb (covT i (itN (covF (M.2.2.1 5) pm) i (-1)))) (by simp [covT, c13, c17, c28, xb]) ?_
          refine x_ist3 hL (by decide) rfl dX8_covering_36 ?_
          refine x_iconst (v := nI 0) rfl dX8_covering_37 ?_
          refine x_ist4 hL (by decide) rfl dX8_covering_38 ?_
          refine x_for (n := pm) (fun j => [some (.ref 32), some (.int (itN (covF (M.2.2.1 5) pm) i (-1))), some (.int (nI i)), some (.int (xb (itN (covP (M.2.2.1 5) i) j (covT i (itN (covF (M.2.2.1 5) pm) i (-1)))))), some (.int (nI j))]) (fun j => []) (fun j => hM M R) ?_ (fun j hj ihj => ?_)
          · skip
            refine x_iload dX8_covering_40 rfl ?_
            refine x_aload_n dX8_covering_42 rfl ?_
            refine x_getf gf_X8_35 ho dX8_covering_43 rfl rfl ?_
            refine x_iconst (v := nI 1) rfl dX8_covering_46 ?_
            refine x_iald dX8_covering_47 rfl (by first | rfl | exact nI_add _ _ | (simp only [nI_add, pk_mul]; rfl)) (by omega) (by decide) ?_
            refine x_icmp_ge (tgt := 82) dX8_covering_48 (by decide) (fun c48 => ?_) (fun c48 => ?_)
            · skip
              refine x_iload_n dX8_covering_82 rfl ?_
              refine x_ifb_eq (tgt := 88) dX8_covering_83 (by decide) (fun c83 => ?_) (fun c83 => ?_)
              · try (exfalso; first | (exact absurd (c52.symm.trans c83) (by decide)) | (simp (disch := omega) [inS_ix, inS_N, ixL_N, ix_nI, h0] at c83 <;> omega) | (simp (disch := omega) only [h0, h1, h3, Int32.le_iff_toInt_le, Int32.lt_iff_toInt_lt, ← Int32.toInt_inj, nI_toInt, Int32.toInt_zero, m1_toInt, Int64.le_iff_toInt_le, Int64.lt_iff_toInt_lt, ← Int64.toInt_inj, pk_lT, i64_toInt, Int64.toInt_zero, eq_self, not_true_eq_false, not_false_eq_true] at c13 c17 c28 c48 c83 <;> omega) | omega)
                all_goals
                  skip
                  refine x_inc2 hL (by decide) rfl dX8_covering_88 (nI_1 _) ?_
                  refine x_goto (tgt := 4) dX8_covering_91 (by decide) ?_
                  refine x_drop (k := 3) ?_
                  refine x_drop (k := 4) ?_
                  refine x_eq ?_ ?_ ?_ (ihi)
                  · first | (simp [itN, covF, c83]; done) | (simp [itN, covF, cX]; done)
                  · rfl
                  · rfl
              · try (exfalso; first | (exact absurd (c52.symm.trans c83) (by decide)) | (simp (disch := omega) [inS_ix, inS_N, ixL_N, ix_nI, h0] at c83 <;> omega) | (simp (disch := omega) only [h0, h1, h3, Int32.le_iff_toInt_le, Int32.lt_iff_toInt_lt, ← Int32.toInt_inj, nI_toInt, Int32.toInt_zero, m1_toInt, Int64.le_iff_toInt_le, Int64.lt_iff_toInt_lt, ← Int64.toInt_inj, pk_lT, i64_toInt, Int64.toInt_zero, eq_self, not_true_eq_false, not_false_eq_true] at c13 c17 c28 c48 c83 <;> omega) | omega)
                all_goals
                  skip
                  refine x_iload_n dX8_covering_86 rfl ?_
                  refine x_ist1 hL (by decide) rfl dX8_covering_87 ?_
                  refine x_inc2 hL (by decide) rfl dX8_covering_88 (nI_1 _) ?_
                  refine x_goto (tgt := 4) dX8_covering_91 (by decide) ?_
                  refine x_drop (k := 3) ?_
                  refine x_drop (k := 4) ?_
                  refine x_eq ?_ ?_ ?_ (ihi)
                  · first | (simp [itN, covF, c83]; done) | (simp [itN, covF, cX]; done)
                  · rfl
                  · rfl
            · exfalso; first | (simp (disch := omega) [inS_ix, inS_N, ixL_N, ix_nI, h0] at c48 <;> omega) | (simp (disch := omega) only [h0, h1, h3, Int32.le_iff_toInt_le, Int32.lt_iff_toInt_lt, ← Int32.toInt_inj, nI_toInt, Int32.toInt_zero, m1_toInt, Int64.le_iff_toInt_le, Int64.lt_iff_toInt_lt, ← Int64.toInt_inj, pk_lT, i64_toInt, Int64.toInt_zero, eq_self, not_true_eq_false, not_false_eq_true] at c13 c17 c28 c48 <;> omega) | omega
          · skip
            refine x_iload dX8_covering_40 rfl ?_
            refine x_aload_n dX8_covering_42 rfl ?_
            refine x_getf gf_X8_35 ho dX8_covering_43 rfl rfl ?_
            refine x_iconst (v := nI 1) rfl dX8_covering_46 ?_
            refine x_iald dX8_covering_47 rfl (by first | rfl | exact nI_add _ _ | (simp only [nI_add, pk_mul]; rfl)) (by omega) (by decide) ?_
            refine x_icmp_ge (tgt := 82) dX8_covering_48 (by decide) (fun c48 => ?_) (fun c48 => ?_)
            · exfalso; first | (simp (disch := omega) [inS_ix, inS_N, ixL_N, ix_nI, h0] at c48 <;> omega) | (simp (disch := omega) only [h0, h1, h3, Int32.le_iff_toInt_le, Int32.lt_iff_toInt_lt, ← Int32.toInt_inj, nI_toInt, Int32.toInt_zero, m1_toInt, Int64.le_iff_toInt_le, Int64.lt_iff_toInt_lt, ← Int64.toInt_inj, pk_lT, i64_toInt, Int64.toInt_zero, eq_self, not_true_eq_false, not_false_eq_true] at c13 c17 c28 c48 <;> omega) | omega
            · skip
              refine x_iload_n dX8_covering_51 rfl ?_
              refine x_ifb_eq (tgt := 82) dX8_covering_52 (by decide) (fun c52 => ?_) (fun c52 => ?_)
              · skip
                skip
                have cX := itN_false (f := covP (M.2.2.1 5) i) (fun _ => rfl) c52 pm (by omega)
                refine x_iload_n dX8_covering_82 rfl ?_
                refine x_ifb_eq (tgt := 88) dX8_covering_83 (by decide) (fun c83 => ?_) (fun c83 => ?_)
                · try (exfalso; first | (exact absurd (c52.symm.trans c83) (by decide)) | (simp (disch := omega) [inS_ix, inS_N, ixL_N, ix_nI, h0] at c83 <;> omega) | (simp (disch := omega) only [h0, h1, h3, Int32.le_iff_toInt_le, Int32.lt_iff_toInt_lt, ← Int32.toInt_inj, nI_toInt, Int32.toInt_zero, m1_toInt, Int64.le_iff_toInt_le, Int64.lt_iff_toInt_lt, ← Int64.toInt_inj, pk_lT, i64_toInt, Int64.toInt_zero, eq_self, not_true_eq_false, not_false_eq_true] at c13 c17 c28 c48 c52 c83 <;> omega) | omega)
                  all_goals
                    skip
                    refine x_inc2 hL (by decide) rfl dX8_covering_88 (nI_1 _) ?_
                    refine x_goto (tgt := 4) dX8_covering_91 (by decide) ?_
                    refine x_drop (k := 3) ?_
                    refine x_drop (k := 4) ?_
                    refine x_eq ?_ ?_ ?_ (ihi)
                    · first | (simp [itN, covF, c83]; done) | (simp [itN, covF, cX]; done)
                    · rfl
                    · rfl
                · try (exfalso; first | (exact absurd (c52.symm.trans c83) (by decide)) | (simp (disch := omega) [inS_ix, inS_N, ixL_N, ix_nI, h0] at c83 <;> omega) | (simp (disch := omega) only [h0, h1, h3, Int32.le_iff_toInt_le, Int32.lt_iff_toInt_lt, ← Int32.toInt_inj, nI_toInt, Int32.toInt_zero, m1_toInt, Int64.le_iff_toInt_le, Int64.lt_iff_toInt_lt, ← Int64.toInt_inj, pk_lT, i64_toInt, Int64.toInt_zero, eq_self, not_true_eq_false, not_false_eq_true] at c13 c17 c28 c48 c52 c83 <;> omega) | omega)
                  all_goals
                    skip
                    refine x_iload_n dX8_covering_86 rfl ?_
                    refine x_ist1 hL (by decide) rfl dX8_covering_87 ?_
                    refine x_inc2 hL (by decide) rfl dX8_covering_88 (nI_1 _) ?_
                    refine x_goto (tgt := 4) dX8_covering_91 (by decide) ?_
                    refine x_drop (k := 3) ?_
                    refine x_drop (k := 4) ?_
                    refine x_eq ?_ ?_ ?_ (ihi)
                    · first | (simp [itN, covF, c83]; done) | (simp [itN, covF, cX]; done)
                    · rfl
                    · rfl
              · skip
                skip
                refine x_iload_n dX8_covering_55 rfl ?_
                refine x_aload_n dX8_covering_56 rfl ?_
                refine x_getf gf_X8_35 ho dX8_covering_57 rfl rfl ?_
                refine x_bipush (v := nI 12) rfl dX8_covering_60 ?_
                refine x_iload dX8_covering_62 rfl ?_
                refine x_iaddN dX8_covering_64 ?_
                refine x_iald dX8_covering_65 rfl (by first | rfl | exact nI_add _ _ | (simp only [nI_add, pk_mul]; rfl)) (by omega) (by decide) ?_
                refine x_iand dX8_covering_66 ?_
                refine x_if_eq (tgt := 74) dX8_covering_67 (by decide) (fun c67 => ?_) (fun c67 => ?_)
                · skip
                  skip
                  refine x_iconst (v := nI 0) rfl dX8_covering_74 ?_
                  refine x_ival (y := xb (itN (covP (M.2.2.1 5) i) (j + 1) (covT i (itN (covF (M.2.2.1 5) pm) i (-1))))) (by simp [itN, covP, c52, c67, xb]) ?_
                  refine x_ist3 hL (by decide) rfl dX8_covering_75 ?_
                  refine x_inc4 hL (by decide) rfl dX8_covering_76 (nI_1 _) ?_
                  refine x_goto (tgt := 40) dX8_covering_79 (by decide) ?_
                  refine x_eq ?_ ?_ ?_ (ihj)
                  · first | rfl | (simp [c13, c17, c28, c48, c52, c67]; done)
                  · rfl
                  · rfl
                · skip
                  skip
                  refine x_iconst (v := nI 1) rfl dX8_covering_70 ?_
                  refine x_goto (tgt := 75) dX8_covering_71 (by decide) ?_
                  refine x_ival (y := xb (itN (covP (M.2.2.1 5) i) (j + 1) (covT i (itN (covF (M.2.2.1 5) pm) i (-1))))) (by simp [itN, covP, c52, c67, xb]) ?_
                  refine x_ist3 hL (by decide) rfl dX8_covering_75 ?_
                  refine x_inc4 hL (by decide) rfl dX8_covering_76 (nI_1 _) ?_
                  refine x_goto (tgt := 40) dX8_covering_79 (by decide) ?_
                  refine x_eq ?_ ?_ ?_ (ihj)
                  · first | rfl | (simp [c13, c17, c28, c48, c52, c67]; done)
                  · rfl
                  · rfl
        · skip
          skip
          have c28 : szF (nI i) 9 < szF (itN (covF (M.2.2.1 5) pm) i (-1)) 9 := Nat.lt_of_not_le fun q => c28 (nI_le q (by omega))
          refine x_iconst (v := nI 1) rfl dX8_covering_31 ?_
          refine x_goto (tgt := 36) dX8_covering_32 (by decide) ?_
          refine x_ival (y := xb (covT i (itN (covF (M.2.2.1 5) pm) i (-1)))) (by simp [covT, c13, c17, c28, xb]) ?_
          refine x_ist3 hL (by decide) rfl dX8_covering_36 ?_
          refine x_iconst (v := nI 0) rfl dX8_covering_37 ?_
          refine x_ist4 hL (by decide) rfl dX8_covering_38 ?_
          refine x_for (n := pm) (fun j => [some (.ref 32), some (.int (itN (covF (M.2.2.1 5) pm) i (-1))), some (.int (nI i)), some (.int (xb (itN (covP (M.2.2.1 5) i) j (covT i (itN (covF (M.2.2.1 5) pm) i (-1)))))), some (.int (nI j))]) (fun j => []) (fun j => hM M R) ?_ (fun j hj ihj => ?_)
          · skip
            refine x_iload dX8_covering_40 rfl ?_
            refine x_aload_n dX8_covering_42 rfl ?_
            refine x_getf gf_X8_35 ho dX8_covering_43 rfl rfl ?_
            refine x_iconst (v := nI 1) rfl dX8_covering_46 ?_
            refine x_iald dX8_covering_47 rfl (by first | rfl | exact nI_add _ _ | (simp only [nI_add, pk_mul]; rfl)) (by omega) (by decide) ?_
            refine x_icmp_ge (tgt := 82) dX8_covering_48 (by decide) (fun c48 => ?_) (fun c48 => ?_)
            · skip
              refine x_iload_n dX8_covering_82 rfl ?_
              refine x_ifb_eq (tgt := 88) dX8_covering_83 (by decide) (fun c83 => ?_) (fun c83 => ?_)
              · try (exfalso; first | (exact absurd (c52.symm.trans c83) (by decide)) | (simp (disch := omega) [inS_ix, inS_N, ixL_N, ix_nI, h0] at c83 <;> omega) | (simp (disch := omega) only [h0, h1, h3, Int32.le_iff_toInt_le, Int32.lt_iff_toInt_lt, ← Int32.toInt_inj, nI_toInt, Int32.toInt_zero, m1_toInt, Int64.le_iff_toInt_le, Int64.lt_iff_toInt_lt, ← Int64.toInt_inj, pk_lT, i64_toInt, Int64.toInt_zero, eq_self, not_true_eq_false, not_false_eq_true] at c13 c17 c28 c48 c83 <;> omega) | omega)
                all_goals
                  skip
                  refine x_inc2 hL (by decide) rfl dX8_covering_88 (nI_1 _) ?_
                  refine x_goto (tgt := 4) dX8_covering_91 (by decide) ?_
                  refine x_drop (k := 3) ?_
                  refine x_drop (k := 4) ?_
                  refine x_eq ?_ ?_ ?_ (ihi)
                  · first | (simp [itN, covF, c83]; done) | (simp [itN, covF, cX]; done)
                  · rfl
                  · rfl
              · try (exfalso; first | (exact absurd (c52.symm.trans c83) (by decide)) | (simp (disch := omega) [inS_ix, inS_N, ixL_N, ix_nI, h0] at c83 <;> omega) | (simp (disch := omega) only [h0, h1, h3, Int32.le_iff_toInt_le, Int32.lt_iff_toInt_lt, ← Int32.toInt_inj, nI_toInt, Int32.toInt_zero, m1_toInt, Int64.le_iff_toInt_le, Int64.lt_iff_toInt_lt, ← Int64.toInt_inj, pk_lT, i64_toInt, Int64.toInt_zero, eq_self, not_true_eq_false, not_false_eq_true] at c13 c17 c28 c48 c83 <;> omega) | omega)
                all_goals
                  skip
                  refine x_iload_n dX8_covering_86 rfl ?_
                  refine x_ist1 hL (by decide) rfl dX8_covering_87 ?_
                  refine x_inc2 hL (by decide) rfl dX8_covering_88 (nI_1 _) ?_
                  refine x_goto (tgt := 4) dX8_covering_91 (by decide) ?_
                  refine x_drop (k := 3) ?_
                  refine x_drop (k := 4) ?_
                  refine x_eq ?_ ?_ ?_ (ihi)
                  · first | (simp [itN, covF, c83]; done) | (simp [itN, covF, cX]; done)
                  · rfl
                  · rfl
            · exfalso; first | (simp (disch := omega) [inS_ix, inS_N, ixL_N, ix_nI, h0] at c48 <;> omega) | (simp (disch := omega) only [h0, h1, h3, Int32.le_iff_toInt_le, Int32.lt_iff_toInt_lt, ← Int32.toInt_inj, nI_toInt, Int32.toInt_zero, m1_toInt, Int64.le_iff_toInt_le, Int64.lt_iff_toInt_lt, ← Int64.toInt_inj, pk_lT, i64_toInt, Int64.toInt_zero, eq_self, not_true_eq_false, not_false_eq_true] at c13 c17 c28 c48 <;> omega) | omega
          · skip
            refine x_iload dX8_covering_40 rfl ?_
            refine x_aload_n dX8_covering_42 rfl ?_
            refine x_getf gf_X8_35 ho dX8_covering_43 rfl rfl ?_
            refine x_iconst (v := nI 1) rfl dX8_covering_46 ?_
            refine x_iald dX8_covering_47 rfl (by first | rfl | exact nI_add _ _ | (simp only [nI_add, pk_mul]; rfl)) (by omega) (by decide) ?_
            refine x_icmp_ge (tgt := 82) dX8_covering_48 (by decide) (fun c48 => ?_) (fun c48 => ?_)
            · exfalso; first | (simp (disch := omega) [inS_ix, inS_N, ixL_N, ix_nI, h0] at c48 <;> omega) | (simp (disch := omega) only [h0, h1, h3, Int32.le_iff_toInt_le, Int32.lt_iff_toInt_lt, ← Int32.toInt_inj, nI_toInt, Int32.toInt_zero, m1_toInt, Int64.le_iff_toInt_le, Int64.lt_iff_toInt_lt, ← Int64.toInt_inj, pk_lT, i64_toInt, Int64.toInt_zero, eq_self, not_true_eq_false, not_false_eq_true] at c13 c17 c28 c48 <;> omega) | omega
            · skip
              refine x_iload_n dX8_covering_51 rfl ?_
              refine x_ifb_eq (tgt := 82) dX8_covering_52 (by decide) (fun c52 => ?_) (fun c52 => ?_)
              · skip
                skip
                have cX := itN_false (f := covP (M.2.2.1 5) i) (fun _ => rfl) c52 pm (by omega)
                refine x_iload_n dX8_covering_82 rfl ?_
                refine x_ifb_eq (tgt := 88) dX8_covering_83 (by decide) (fun c83 => ?_) (fun c83 => ?_)
                · try (exfalso; first | (exact absurd (c52.symm.trans c83) (by decide)) | (simp (disch := omega) [inS_ix, inS_N, ixL_N, ix_nI, h0] at c83 <;> omega) | (simp (disch := omega) only [h0, h1, h3, Int32.le_iff_toInt_le, Int32.lt_iff_toInt_lt, ← Int32.toInt_inj, nI_toInt, Int32.toInt_zero, m1_toInt, Int64.le_iff_toInt_le, Int64.lt_iff_toInt_lt, ← Int64.toInt_inj, pk_lT, i64_toInt, Int64.toInt_zero, eq_self, not_true_eq_false, not_false_eq_true] at c13 c17 c28 c48 c52 c83 <;> omega) | omega)
                  all_goals
                    skip
                    refine x_inc2 hL (by decide) rfl dX8_covering_88 (nI_1 _) ?_
                    refine x_goto (tgt := 4) dX8_covering_91 (by decide) ?_
                    refine x_drop (k := 3) ?_
                    refine x_drop (k := 4) ?_
                    refine x_eq ?_ ?_ ?_ (ihi)
                    · first | (simp [itN, covF, c83]; done) | (simp [itN, covF, cX]; done)
                    · rfl
                    · rfl
                · try (exfalso; first | (exact absurd (c52.symm.trans c83) (by decide)) | (simp (disch := omega) [inS_ix, inS_N, ixL_N, ix_nI, h0] at c83 <;> omega) | (simp (disch := omega) only [h0, h1, h3, Int32.le_iff_toInt_le, Int32.lt_iff_toInt_lt, ← Int32.toInt_inj, nI_toInt, Int32.toInt_zero, m1_toInt, Int64.le_iff_toInt_le, Int64.lt_iff_toInt_lt, ← Int64.toInt_inj, pk_lT, i64_toInt, Int64.toInt_zero, eq_self, not_true_eq_false, not_false_eq_true] at c13 c17 c28 c48 c52 c83 <;> omega) | omega)
                  all_goals
                    skip
                    refine x_iload_n dX8_covering_86 rfl ?_
                    refine x_ist1 hL (by decide) rfl dX8_covering_87 ?_
                    refine x_inc2 hL (by decide) rfl dX8_covering_88 (nI_1 _) ?_
                    refine x_goto (tgt := 4) dX8_covering_91 (by decide) ?_
                    refine x_drop (k := 3) ?_
                    refine x_drop (k := 4) ?_
                    refine x_eq ?_ ?_ ?_ (ihi)
                    · first | (simp [itN, covF, c83]; done) | (simp [itN, covF, cX]; done)
                    · rfl
                    · rfl
              · skip
                skip
                refine x_iload_n dX8_covering_55 rfl ?_
                refine x_aload_n dX8_covering_56 rfl ?_
                refine x_getf gf_X8_35 ho dX8_covering_57 rfl rfl ?_
                refine x_bipush (v := nI 12) rfl dX8_covering_60 ?_
                refine x_iload dX8_covering_62 rfl ?_
                refine x_iaddN dX8_covering_64 ?_
                refine x_iald dX8_covering_65 rfl (by first | rfl | exact nI_add _ _ | (simp only [nI_add, pk_mul]; rfl)) (by omega) (by decide) ?_
                refine x_iand dX8_covering_66 ?_
                refine x_if_eq (tgt := 74) dX8_covering_67 (by decide) (fun c67 => ?_) (fun c67 => ?_)
                · skip
                  skip
                  refine x_iconst (v := nI 0) rfl dX8_covering_74 ?_
                  refine x_ival (y := xb (itN (covP (M.2.2.1 5) i) (j + 1) (covT i (itN (covF (M.2.2.1 5) pm) i (-1))))) (by simp [itN, covP, c52, c67, xb]) ?_
                  refine x_ist3 hL (by decide) rfl dX8_covering_75 ?_
                  refine x_inc4 hL (by decide) rfl dX8_covering_76 (nI_1 _) ?_
                  refine x_goto (tgt := 40) dX8_covering_79 (by decide) ?_
                  refine x_eq ?_ ?_ ?_ (ihj)
                  · first | rfl | (simp [c13, c17, c28, c48, c52, c67]; done)
                  · rfl
                  · rfl
                · skip
                  skip
                  refine x_iconst (v := nI 1) rfl dX8_covering_70 ?_
                  refine x_goto (tgt := 75) dX8_covering_71 (by decide) ?_
                  refine x_ival (y := xb (itN (covP (M.2.2.1 5) i) (j + 1) (covT i (itN (covF (M.2.2.1 5) pm) i (-1))))) (by simp [itN, covP, c52, c67, xb]) ?_
                  refine x_ist3 hL (by decide) rfl dX8_covering_75 ?_
                  refine x_inc4 hL (by decide) rfl dX8_covering_76 (nI_1 _) ?_
                  refine x_goto (tgt := 40) dX8_covering_79 (by decide) ?_
                  refine x_eq ?_ ?_ ?_ (ihj)
                  · first | rfl | (simp [c13, c17, c28, c48, c52, c67]; done)
                  · rfl
                  · rfl
set_option maxHeartbeats 800000 in
theorem m_blaming {w : xW} {M : mS} {R : xH} {tm pm tn G : Nat} (hF : wF (M.2.2.1 5) tm pm tn G)  : CT w yX8_blaming cX8_blaming 5 (some (.int)) [] false (2) 0 0 [.ref 32] (hM M R) (xret (some (.int ((blaS (M.2.2.1 5) pm tn)))) (hM M R)) := by
  refine CT.of (ini := false) (by decide +kernel) q2113 q164 (Nat.le_of_ble_eq_true rfl) (by decide) ?_
  intro Γ hw ho hL hr hh hini hal hd hmc hms hQ
  subst hw
  show AW Γ cX8_blaming 0 0 0 [some (.ref 32), none, none, none, none] [] (hM M R)
  have h0 := hF.c0
  have h1 := hF.c1
  have h3 := hF.c3
  have l0 := hF.l0
  have l1 := hF.l1
  have l3 := hF.l3
  have hb : 2 ^ pm ≤ 128 := Nat.le_trans (Nat.pow_le_pow_right (by decide) (show pm ≤ 7 by omega)) (by decide)
  refine x_iconst (v := (-1)) rfl dX8_blaming_0 ?_
  refine x_ist1 hL (by decide) rfl dX8_blaming_1 ?_
  refine x_iconst (v := nI 0) rfl dX8_blaming_2 ?_
  refine x_ist2 hL (by decide) rfl dX8_blaming_3 ?_
  refine x_for (n := (2 ^ pm)) (fun i => [some (.ref 32), some (.int (itN (blaF (M.2.2.1 5) tn) i (-1))), some (.int (nI i)), none, none]) (fun i => []) (fun i => hM M R) ?_ (fun i hi ihi => ?_)
  · skip
    refine x_iload_n dX8_blaming_4 rfl ?_
    refine x_iconst (v := nI 1) rfl dX8_blaming_5 ?_
    refine x_aload_n dX8_blaming_6 rfl ?_
    refine x_getf gf_X8_35 ho dX8_blaming_7 rfl rfl ?_
    refine x_iconst (v := nI 1) rfl dX8_blaming_10 ?_
    refine x_iald dX8_blaming_11 rfl (by first | rfl | exact nI_add _ _ | (simp only [nI_add, pk_mul]; rfl)) (by omega) (by decide) ?_
    refine x_ival (y := nI pm) h1 ?_
    refine x_ishl dX8_blaming_12 ?_
    refine x_ival (y := nI (2 ^ pm)) (sh_pow pm (by omega)) ?_
    refine x_icmp_ge (tgt := 107) dX8_blaming_13 (by decide) (fun c13 => ?_) (fun c13 => ?_)
    · skip
      refine x_iload_n dX8_blaming_107 rfl ?_
      refine x_iret hr rfl dX8_blaming_108 (by omega) (by omega) (hQ _ _ ?_)
      try dsimp only [mI, mSA] at c13
      exact ⟨rfl, rfl⟩
    · exfalso; first | (simp (disch := omega) [inS_ix, inS_N, ixL_N, ix_nI, h0] at c13 <;> omega) | (simp (disch := omega) only [h0, h1, h3, Int32.le_iff_toInt_le, Int32.lt_iff_toInt_lt, ← Int32.toInt_inj, nI_toInt, Int32.toInt_zero, m1_toInt, Int64.le_iff_toInt_le, Int64.lt_iff_toInt_lt, ← Int64.toInt_inj, pk_lT, i64_toInt, Int64.toInt_zero, eq_self, not_true_eq_false, not_false_eq_true] at c13 <;> omega) | omega
  · skip
    have hz1 := szF_le (itN (blaF (M.2.2.1 5) tn) i (-1)) 9
    have hz2 := szF_le (nI i) 9
    refine x_iload_n dX8_blaming_4 rfl ?_
    refine x_iconst (v := nI 1) rfl dX8_blaming_5 ?_
    refine x_aload_n dX8_blaming_6 rfl ?_
    refine x_getf gf_X8_35 ho dX8_blaming_7 rfl rfl ?_
    refine x_iconst (v := nI 1) rfl dX8_blaming_10 ?_
    refine x_iald dX8_blaming_11 rfl (by first | rfl | exact nI_add _ _ | (simp only [nI_add, pk_mul]; rfl)) (by omega) (by decide) ?_
    refine x_ival (y := nI pm) h1 ?_
    refine x_ishl dX8_blaming_12 ?_
    refine x_ival (y := nI (2 ^ pm)) (sh_pow pm (by omega)) ?_
    refine x_icmp_ge (tgt := 107) dX8_blaming_13 (by decide) (fun c13 => ?_) (fun c13 => ?_)
    · exfalso; first | (simp (disch := omega) [inS_ix, inS_N, ixL_N, ix_nI, h0] at c13 <;> omega) | (simp (disch := omega) only [h0, h1, h3, Int32.le_iff_toInt_le, Int32.lt_iff_toInt_lt, ← Int32.toInt_inj, nI_toInt, Int32.toInt_zero, m1_toInt, Int64.le_iff_toInt_le, Int64.lt_iff_toInt_lt, ← Int64.toInt_inj, pk_lT, i64_toInt, Int64.toInt_zero, eq_self, not_true_eq_false, not_false_eq_true] at c13 <;> omega) | omega
    · skip
      refine x_iload_n dX8_blaming_16 rfl ?_
      refine x_if_lt (tgt := 31) dX8_blaming_17 (by decide) (fun c17 => ?_) (fun c17 => ?_)
      · skip
        skip
        refine x_iconst (v := nI 1) rfl dX8_blaming_31 ?_
        refine x_goto (tgt := 36) dX8_blaming_32 (by decide) ?_
        refine x_ival (y := xb (covT i (itN (blaF (M.2.2.1 5) tn) i (-1)))) (by simp [covT, c13, c17, xb]) ?_
        refine x_ist3 hL (by decide) rfl dX8_blaming_36 ?_
        refine x_iconst (v := nI 0) rfl dX8_blaming_37 ?_
        refine x_ist4 hL (by decide) rfl dX8_blaming_38 ?_
        refine x_for (n := tn) (fun j => [some (.ref 32), some (.int (itN (blaF (M.2.2.1 5) tn) i (-1))), some (.int (nI i)), some (.int (xb (itN (blaP (M.2.2.1 5) i) j (covT i (itN (blaF (M.2.2.1 5) tn) i (-1)))))), some (.int (nI j))]) (fun j => []) (fun j => hM M R) ?_ (fun j hj ihj => ?_)
        · skip
          refine x_iload dX8_blaming_40 rfl ?_
          refine x_aload_n dX8_blaming_42 rfl ?_
          refine x_getf gf_X8_35 ho dX8_blaming_43 rfl rfl ?_
          refine x_iconst (v := nI 3) rfl dX8_blaming_46 ?_
          refine x_iald dX8_blaming_47 rfl (by first | rfl | exact nI_add _ _ | (simp only [nI_add, pk_mul]; rfl)) (by omega) (by decide) ?_
          refine x_icmp_ge (tgt := 95) dX8_blaming_48 (by decide) (fun c48 => ?_) (fun c48 => ?_)
          · skip
            refine x_iload_n dX8_blaming_95 rfl ?_
            refine x_ifb_eq (tgt := 101) dX8_blaming_96 (by decide) (fun c96 => ?_) (fun c96 => ?_)
            · try (exfalso; first | (exact absurd (c52.symm.trans c96) (by decide)) | (simp (disch := omega) [inS_ix, inS_N, ixL_N, ix_nI, h0] at c96 <;> omega) | (simp (disch := omega) only [h0, h1, h3, Int32.le_iff_toInt_le, Int32.lt_iff_toInt_lt, ← Int32.toInt_inj, nI_toInt, Int32.toInt_zero, m1_toInt, Int64.le_iff_toInt_le, Int64.lt_iff_toInt_lt, ← Int64.toInt_inj, pk_lT, i64_toInt, Int64.toInt_zero, eq_self, not_true_eq_false, not_false_eq_true] at c13 c17 c48 c96 <;> omega) | omega)
              all_goals
                skip
                refine x_inc2 hL (by decide) rfl dX8_blaming_101 (nI_1 _) ?_
                refine x_goto (tgt := 4) dX8_blaming_104 (by decide) ?_
                refine x_drop (k := 3) ?_
                refine x_drop (k := 4) ?_
                refine x_eq ?_ ?_ ?_ (ihi)
                · first | (simp [itN, blaF, c96]; done) | (simp [itN, blaF, cX]; done)
                · rfl
                · rfl
            · try (exfalso; first | (exact absurd (c52.symm.trans c96) (by decide)) | (simp (disch := omega) [inS_ix, inS_N, ixL_N, ix_nI, h0] at c96 <;> omega) | (simp (disch := omega) only [h0, h1, h3, Int32.le_iff_toInt_le, Int32.lt_iff_toInt_lt, ← Int32.toInt_inj, nI_toInt, Int32.toInt_zero, m1_toInt, Int64.le_iff_toInt_le, Int64.lt_iff_toInt_lt, ← Int64.toInt_inj, pk_lT, i64_toInt, Int64.toInt_zero, eq_self, not_true_eq_false, not_false_eq_true] at c13 c17 c48 c96 <;> omega) | omega)
              all_goals
                skip
                refine x_iload_n dX8_blaming_99 rfl ?_
                refine x_ist1 hL (by decide) rfl dX8_blaming_100 ?_
                refine x_inc2 hL (by decide) rfl dX8_blaming_101 (nI_1 _) ?_
                refine x_goto (tgt := 4) dX8_blaming_104 (by decide) ?_
                refine x_drop (k := 3) ?_
                refine x_drop (k := 4) ?_
                refine x_eq ?_ ?_ ?_ (ihi)
                · first | (simp [itN, blaF, c96]; done) | (simp [itN, blaF, cX]; done)
                · rfl
                · rfl
          · exfalso; first | (simp (disch := omega) [inS_ix, inS_N, ixL_N, ix_nI, h0] at c48 <;> omega) | (simp (disch := omega) only [h0, h1, h3, Int32.le_iff_toInt_le, Int32.lt_iff_toInt_lt, ← Int32.toInt_inj, nI_toInt, Int32.toInt_zero, m1_toInt, Int64.le_iff_toInt_le, Int64.lt_iff_toInt_lt, ← Int64.toInt_inj, pk_lT, i64_toInt, Int64.toInt_zero, eq_self, not_true_eq_false, not_false_eq_true] at c13 c17 c48 <;> omega) | omega
        · skip
          refine x_iload dX8_blaming_40 rfl ?_
          refine x_aload_n dX8_blaming_42 rfl ?_
          refine x_getf gf_X8_35 ho dX8_blaming_43 rfl rfl ?_
          refine x_iconst (v := nI 3) rfl dX8_blaming_46 ?_
          refine x_iald dX8_blaming_47 rfl (by first | rfl | exact nI_add _ _ | (simp only [nI_add, pk_mul]; rfl)) (by omega) (by decide) ?_
          refine x_icmp_ge (tgt := 95) dX8_blaming_48 (by decide) (fun c48 => ?_) (fun c48 => ?_)
          · exfalso; first | (simp (disch := omega) [inS_ix, inS_N, ixL_N, ix_nI, h0] at c48 <;> omega) | (simp (disch := omega) only [h0, h1, h3, Int32.le_iff_toInt_le, Int32.lt_iff_toInt_lt, ← Int32.toInt_inj, nI_toInt, Int32.toInt_zero, m1_toInt, Int64.le_iff_toInt_le, Int64.lt_iff_toInt_lt, ← Int64.toInt_inj, pk_lT, i64_toInt, Int64.toInt_zero, eq_self, not_true_eq_false, not_false_eq_true] at c13 c17 c48 <;> omega) | omega
          · skip
            refine x_iload_n dX8_blaming_51 rfl ?_
            refine x_ifb_eq (tgt := 95) dX8_blaming_52 (by decide) (fun c52 => ?_) (fun c52 => ?_)
            · skip
              skip
              have cX := itN_false (f := blaP (M.2.2.1 5) i) (fun _ => rfl) c52 tn (by omega)
              refine x_iload_n dX8_blaming_95 rfl ?_
              refine x_ifb_eq (tgt := 101) dX8_blaming_96 (by decide) (fun c96 => ?_) (fun c96 => ?_)
              · try (exfalso; first | (exact absurd (c52.symm.trans c96) (by decide)) | (simp (disch := omega) [inS_ix, inS_N, ixL_N, ix_nI, h0] at c96 <;> omega) | (simp (disch := omega) only [h0, h1, h3, Int32.le_iff_toInt_le, Int32.lt_iff_toInt_lt, ← Int32.toInt_inj, nI_toInt, Int32.toInt_zero, m1_toInt, Int64.le_iff_toInt_le, Int64.lt_iff_toInt_lt, ← Int64.toInt_inj, pk_lT, i64_toInt, Int64.toInt_zero, eq_self, not_true_eq_false, not_false_eq_true] at c13 c17 c48 c52 c96 <;> omega) | omega)
                all_goals
                  skip
                  refine x_inc2 hL (by decide) rfl dX8_blaming_101 (nI_1 _) ?_
                  refine x_goto (tgt := 4) dX8_blaming_104 (by decide) ?_
                  refine x_drop (k := 3) ?_
                  refine x_drop (k := 4) ?_
                  refine x_eq ?_ ?_ ?_ (ihi)
                  · first | (simp [itN, blaF, c96]; done) | (simp [itN, blaF, cX]; done)
                  · rfl
                  · rfl
              · try (exfalso; first | (exact absurd (c52.symm.trans c96) (by decide)) | (simp (disch := omega) [inS_ix, inS_N, ixL_N, ix_nI, h0] at c96 <;> omega) | (simp (disch := omega) only [h0, h1, h3, Int32.le_iff_toInt_le, Int32.lt_iff_toInt_lt, ← Int32.toInt_inj, nI_toInt, Int32.toInt_zero, m1_toInt, Int64.le_iff_toInt_le, Int64.lt_iff_toInt_lt, ← Int64.toInt_inj, pk_lT, i64_toInt, Int64.toInt_zero, eq_self, not_true_eq_false, not_false_eq_true] at c13 c17 c48 c52 c96 <;> omega) | omega)
                all_goals
                  skip
                  refine x_iload_n dX8_blaming_99 rfl ?_
                  refine x_ist1 hL (by decide) rfl dX8_blaming_100 ?_
                  refine x_inc2 hL (by decide) rfl dX8_blaming_101 (nI_1 _) ?_
                  refine x_goto (tgt := 4) dX8_blaming_104 (by decide) ?_
                  refine x_drop (k := 3) ?_
                  refine x_drop (k := 4) ?_
                  refine x_eq ?_ ?_ ?_ (ihi)
                  · first | (simp [itN, blaF, c96]; done) | (simp [itN, blaF, cX]; done)
                  · rfl
                  · rfl
            · skip
              skip
              refine x_aload_n dX8_blaming_55 rfl ?_
              refine x_getf gf_X8_35 ho dX8_blaming_56 rfl rfl ?_
              refine x_bipush (v := nI 60) rfl dX8_blaming_59 ?_
              refine x_iload dX8_blaming_61 rfl ?_
              refine x_iaddN dX8_blaming_63 ?_
              refine x_iald dX8_blaming_64 rfl (by first | rfl | exact nI_add _ _ | (simp only [nI_add, pk_mul]; rfl)) (by omega) (by decide) ?_
              refine x_if_eq (tgt := 83) dX8_blaming_65 (by decide) (fun c65 => ?_) (fun c65 => ?_)
              · skip
                skip
                refine x_iconst (v := nI 1) rfl dX8_blaming_83 ?_
                refine x_goto (tgt := 88) dX8_blaming_84 (by decide) ?_
                refine x_ival (y := xb (itN (blaP (M.2.2.1 5) i) (j + 1) (covT i (itN (blaF (M.2.2.1 5) tn) i (-1))))) (by simp [itN, blaP, c52, c13, c17, c48, c52, c65, xb]) ?_
                refine x_ist3 hL (by decide) rfl dX8_blaming_88 ?_
                refine x_inc4 hL (by decide) rfl dX8_blaming_89 (nI_1 _) ?_
                refine x_goto (tgt := 40) dX8_blaming_92 (by decide) ?_
                refine x_eq ?_ ?_ ?_ (ihj)
                · first | rfl | (simp [c13, c17, c48, c52, c65]; done)
                · rfl
                · rfl
              · skip
                skip
                refine x_iload_n dX8_blaming_68 rfl ?_
                refine x_aload_n dX8_blaming_69 rfl ?_
                refine x_getf gf_X8_35 ho dX8_blaming_70 rfl rfl ?_
                refine x_bipush (v := nI 69) rfl dX8_blaming_73 ?_
                refine x_iload dX8_blaming_75 rfl ?_
                refine x_iaddN dX8_blaming_77 ?_
                refine x_iald dX8_blaming_78 rfl (by first | rfl | exact nI_add _ _ | (simp only [nI_add, pk_mul]; rfl)) (by omega) (by decide) ?_
                refine x_iand dX8_blaming_79 ?_
                refine x_if_eq (tgt := 87) dX8_blaming_80 (by decide) (fun c80 => ?_) (fun c80 => ?_)
                · skip
                  skip
                  refine x_iconst (v := nI 0) rfl dX8_blaming_87 ?_
                  refine x_ival (y := xb (itN (blaP (M.2.2.1 5) i) (j + 1) (covT i (itN (blaF (M.2.2.1 5) tn) i (-1))))) (by simp [itN, blaP, c52, c13, c17, c48, c52, c65, c80, xb]) ?_
                  refine x_ist3 hL (by decide) rfl dX8_blaming_88 ?_
                  refine x_inc4 hL (by decide) rfl dX8_blaming_89 (nI_1 _) ?_
                  refine x_goto (tgt := 40) dX8_blaming_92 (by decide) ?_
                  refine x_eq ?_ ?_ ?_ (ihj)
                  · first | rfl | (simp [c13, c17, c48, c52, c65, c80]; done)
                  · rfl
                  · rfl
                · skip
                  skip
                  refine x_iconst (v := nI 1) rfl dX8_blaming_83 ?_
                  refine x_goto (tgt := 88) dX8_blaming_84 (by decide) ?_
                  refine x_ival (y := xb (itN (blaP (M.2.2.1 5) i) (j + 1) (covT i (itN (blaF (M.2.2.1 5) tn) i (-1))))) (by simp [itN, blaP, c52, c13, c17, c48, c52, c65, c80, xb]) ?_
                  refine x_ist3 hL (by decide) rfl dX8_blaming_88 ?_
                  refine x_inc4 hL (by decide) rfl dX8_blaming_89 (nI_1 _) ?_
                  refine x_goto (tgt := 40) dX8_blaming_92 (by decide) ?_
                  refine x_eq ?_ ?_ ?_ (ihj)
                  · first | rfl | (simp [c13, c17, c48, c52, c65, c80]; done)
                  · rfl
                  · rfl
      · skip
        skip
        refine x_iload_n dX8_blaming_20 rfl ?_
        refine x_callS1 lk_X8_396 (m_sizeOf _) ho dX8_blaming_21 (Nat.le_of_ble_eq_true rfl) (by omega) (by decide) (by omega) (by omega) ?_
        refine x_iload_n dX8_blaming_24 rfl ?_
        refine x_callS1 lk_X8_396 (m_sizeOf _) ho dX8_blaming_25 (Nat.le_of_ble_eq_true rfl) (by omega) (by decide) (by omega) (by omega) ?_
        refine x_icmp_ge (tgt := 35) dX8_blaming_28 (by decide) (fun c28 => ?_) (fun c28 => ?_)
        · skip
          skip
          have c28 : ¬ szF (nI i) 9 < szF (itN (blaF (M.2.2.1 5) tn) i (-1)) 9 := by have := (nI_leI (by omega) (by omega)).mp c28; omega
          refine x_iconst (v := nI 0) rfl dX8_blaming_35 ?_
          refine x_ival (y := xb (covT i (itN (blaF (M.2.2.1 5) tn) i (-1)))) (by simp [covT, c13, c17, c28, xb]) ?_
          refine x_ist3 hL (by decide) rfl dX8_blaming_36 ?_
          refine x_iconst (v := nI 0) rfl dX8_blaming_37 ?_
          refine x_ist4 hL (by decide) rfl dX8_blaming_38 ?_
          refine x_for (n := tn) (fun j => [some (.ref 32), some (.int (itN (blaF (M.2.2.1 5) tn) i (-1))), some (.int (nI i)), some (.int (xb (itN (blaP (M.2.2.1 5) i) j (covT i (itN (blaF (M.2.2.1 5) tn) i (-1)))))), some (.int (nI j))]) (fun j => []) (fun j => hM M R) ?_ (fun j hj ihj => ?_)
          · skip
            refine x_iload dX8_blaming_40 rfl ?_
            refine x_aload_n dX8_blaming_42 rfl ?_
            refine x_getf gf_X8_35 ho dX8_blaming_43 rfl rfl ?_
            refine x_iconst (v := nI 3) rfl dX8_blaming_46 ?_
            refine x_iald dX8_blaming_47 rfl (by first | rfl | exact nI_add _ _ | (simp only [nI_add, pk_mul]; rfl)) (by omega) (by decide) ?_
            refine x_icmp_ge (tgt := 95) dX8_blaming_48 (by decide) (fun c48 => ?_) (fun c48 => ?_)
            · skip
              refine x_iload_n dX8_blaming_95 rfl ?_
              refine x_ifb_eq (tgt := 101) dX8_blaming_96 (by decide) (fun c96 => ?_) (fun c96 => ?_)
              · try (exfalso; first | (exact absurd (c52.symm.trans c96) (by decide)) | (simp (disch := omega) [inS_ix, inS_N, ixL_N, ix_nI, h0] at c96 <;> omega) | (simp (disch := omega) only [h0, h1, h3, Int32.le_iff_toInt_le, Int32.lt_iff_toInt_lt, ← Int32.toInt_inj, nI_toInt, Int32.toInt_zero, m1_toInt, Int64.le_iff_toInt_le, Int64.lt_iff_toInt_lt, ← Int64.toInt_inj, pk_lT, i64_toInt, Int64.toInt_zero, eq_self, not_true_eq_false, not_false_eq_true] at c13 c17 c28 c48 c96 <;> omega) | omega)
                all_goals
                  skip
                  refine x_inc2 hL (by decide) rfl dX8_blaming_101 (nI_1 _) ?_
                  refine x_goto (tgt := 4) dX8_blaming_104 (by decide) ?_
                  refine x_drop (k := 3) ?_
                  refine x_drop (k := 4) ?_
                  refine x_eq ?_ ?_ ?_ (ihi)
                  · first | (simp [itN, blaF, c96]; done) | (simp [itN, blaF, cX]; done)
                  · rfl
                  · rfl
              · try (exfalso; first | (exact absurd (c52.symm.trans c96) (by decide)) | (simp (disch := omega) [inS_ix, inS_N, ixL_N, ix_nI, h0] at c96 <;> omega) | (simp (disch := omega) only [h0, h1, h3, Int32.le_iff_toInt_le, Int32.lt_iff_toInt_lt, ← Int32.toInt_inj, nI_toInt, Int32.toInt_zero, m1_toInt, Int64.le_iff_toInt_le, Int64.lt_iff_toInt_lt, ← Int64.toInt_inj, pk_lT, i64_toInt, Int64.toInt_zero, eq_self, not_true_eq_false, not_false_eq_true] at c13 c17 c28 c48 c96 <;> omega) | omega)
                all_goals
                  skip
                  refine x_iload_n dX8_blaming_99 rfl ?_
                  refine x_ist1 hL (by decide) rfl dX8_blaming_100 ?_
                  refine x_inc2 hL (by decide) rfl dX8_blaming_101 (nI_1 _) ?_
                  refine x_goto (tgt := 4) dX8_blaming_104 (by decide) ?_
                  refine x_drop (k := 3) ?_
                  refine x_drop (k := 4) ?_
                  refine x_eq ?_ ?_ ?_ (ihi)
                  · first | (simp [itN, blaF, c96]; done) | (simp [itN, blaF, cX]; done)
                  · rfl
                  · rfl
            · exfalso; first | (simp (disch := omega) [inS_ix, inS_N, ixL_N, ix_nI, h0] at c48 <;> omega) | (simp (disch := omega) only [h0, h1, h3, Int32.le_iff_toInt_le, Int32.lt_iff_toInt_lt, ← Int32.toInt_inj, nI_toInt, Int32.toInt_zero, m1_toInt, Int64.le_iff_toInt_le, Int64.lt_iff_toInt_lt, ← Int64.toInt_inj, pk_lT, i64_toInt, Int64.toInt_zero, eq_self, not_true_eq_false, not_false_eq_true] at c13 c17 c28 c48 <;> omega) | omega
          · skip
            refine x_iload dX8_blaming_40 rfl ?_
            refine x_aload_n dX8_blaming_42 rfl ?_
            refine x_getf gf_X8_35 ho dX8_blaming_43 rfl rfl ?_
            refine x_iconst (v := nI 3) rfl dX8_blaming_46 ?_
            refine x_iald dX8_blaming_47 rfl (by first | rfl | exact nI_add _ _ | (simp only [nI_add, pk_mul]; rfl)) (by omega) (by decide) ?_
            refine x_icmp_ge (tgt := 95) dX8_blaming_48 (by decide) (fun c48 => ?_) (fun c48 => ?_)
            · exfalso; first | (simp (disch := omega) [inS_ix, inS_N, ixL_N, ix_nI, h0] at c48 <;> omega) | (simp (disch := omega) only [h0, h1, h3, Int32.le_iff_toInt_le, Int32.lt_iff_toInt_lt, ← Int32.toInt_inj, nI_toInt, Int32.toInt_zero, m1_toInt, Int64.le_iff_toInt_le, Int64.lt_iff_toInt_lt, ← Int64.toInt_inj, pk_lT, i64_toInt, Int64.toInt_zero, eq_self, not_true_eq_false, not_false_eq_true] at c13 c17 c28 c48 <;> omega) | omega
            · skip
              refine x_iload_n dX8_blaming_51 rfl ?_
              refine x_ifb_eq (tgt := 95) dX8_blaming_52 (by decide) (fun c52 => ?_) (fun c52 => ?_)
              · skip
                skip
                have cX := itN_false (f := blaP (M.2.2.1 5) i) (fun _ => rfl) c52 tn (by omega)
                refine x_iload_n dX8_blaming_95 rfl ?_
                refine x_ifb_eq (tgt := 101) dX8_blaming_96 (by decide) (fun c96 => ?_) (fun c96 => ?_)
                · try (exfalso; first | (exact absurd (c52.symm.trans c96) (by decide)) | (simp (disch := omega) [inS_ix, inS_N, ixL_N, ix_nI, h0] at c96 <;> omega) | (simp (disch := omega) only [h0, h1, h3, Int32.le_iff_toInt_le, Int32.lt_iff_toInt_lt, ← Int32.toInt_inj, nI_toInt, Int32.toInt_zero, m1_toInt, Int64.le_iff_toInt_le, Int64.lt_iff_toInt_lt, ← Int64.toInt_inj, pk_lT, i64_toInt, Int64.toInt_zero, eq_self, not_true_eq_false, not_false_eq_true] at c13 c17 c28 c48 c52 c96 <;> omega) | omega)
                  all_goals
                    skip
                    refine x_inc2 hL (by decide) rfl dX8_blaming_101 (nI_1 _) ?_
                    refine x_goto (tgt := 4) dX8_blaming_104 (by decide) ?_
                    refine x_drop (k := 3) ?_
                    refine x_drop (k := 4) ?_
                    refine x_eq ?_ ?_ ?_ (ihi)
                    · first | (simp [itN, blaF, c96]; done) | (simp [itN, blaF, cX]; done)
                    · rfl
                    · rfl
                · try (exfalso; first | (exact absurd (c52.symm.trans c96) (by decide)) | (simp (disch := omega) [inS_ix, inS_N, ixL_N, ix_nI, h0] at c96 <;> omega) | (simp (disch := omega) only [h0, h1, h3, Int32.le_iff_toInt_le, Int32.lt_iff_toInt_lt, ← Int32.toInt_inj, nI_toInt, Int32.toInt_zero, m1_toInt, Int64.le_iff_toInt_le, Int64.lt_iff_toInt_lt, ← Int64.toInt_inj, pk_lT, i64_toInt, Int64.toInt_zero, eq_self, not_true_eq_false, not_false_eq_true] at c13 c17 c28 c48 c52 c96 <;> omega) | omega)
                  all_goals
                    skip
                    refine x_iload_n dX8_blaming_99 rfl ?_
                    refine x_ist1 hL (by decide) rfl dX8_blaming_100 ?_
                    refine x_inc2 hL (by decide) rfl dX8_blaming_101 (nI_1 _) ?_
                    refine x_goto (tgt := 4) dX8_blaming_104 (by decide) ?_
                    refine x_drop (k := 3) ?_
                    refine x_drop (k := 4) ?_
                    refine x_eq ?_ ?_ ?_ (ihi)
                    · first | (simp [itN, blaF, c96]; done) | (simp [itN, blaF, cX]; done)
                    · rfl
                    · rfl
              · skip
                skip
                refine x_aload_n dX8_blaming_55 rfl ?_
                refine x_getf gf_X8_35 ho dX8_blaming_56 rfl rfl ?_
                refine x_bipush (v := nI 60) rfl dX8_blaming_59 ?_
                refine x_iload dX8_blaming_61 rfl ?_
                refine x_iaddN dX8_blaming_63 ?_
                refine x_iald dX8_blaming_64 rfl (by first | rfl | exact nI_add _ _ | (simp only [nI_add, pk_mul]; rfl)) (by omega) (by decide) ?_
                refine x_if_eq (tgt := 83) dX8_blaming_65 (by decide) (fun c65 => ?_) (fun c65 => ?_)
                · skip
                  skip
                  refine x_iconst (v := nI 1) rfl dX8_blaming_83 ?_
                  refine x_goto (tgt := 88) dX8_blaming_84 (by decide) ?_
                  refine x_ival (y := xb (itN (blaP (M.2.2.1 5) i) (j + 1) (covT i (itN (blaF (M.2.2.1 5) tn) i (-1))))) (by simp [itN, blaP, c52, c13, c17, c28, c48, c52, c65, xb]) ?_
                  refine x_ist3 hL (by decide) rfl dX8_blaming_88 ?_
                  refine x_inc4 hL (by decide) rfl dX8_blaming_89 (nI_1 _) ?_
                  refine x_goto (tgt := 40) dX8_blaming_92 (by decide) ?_
                  refine x_eq ?_ ?_ ?_ (ihj)
                  · first | rfl | (simp [c13, c17, c28, c48, c52, c65]; done)
                  · rfl
                  · rfl
                · skip
                  skip
                  refine x_iload_n dX8_blaming_68 rfl ?_
                  refine x_aload_n dX8_blaming_69 rfl ?_
                  refine x_getf gf_X8_35 ho dX8_blaming_70 rfl rfl ?_
                  refine x_bipush (v := nI 69) rfl dX8_blaming_73 ?_
                  refine x_iload dX8_blaming_75 rfl ?_
                  refine x_iaddN dX8_blaming_77 ?_
                  refine x_iald dX8_blaming_78 rfl (by first | rfl | exact nI_add _ _ | (simp only [nI_add, pk_mul]; rfl)) (by omega) (by decide) ?_
                  refine x_iand dX8_blaming_79 ?_
                  refine x_if_eq (tgt := 87) dX8_blaming_80 (by decide) (fun c80 => ?_) (fun c80 => ?_)
                  · skip
                    skip
                    refine x_iconst (v := nI 0) rfl dX8_blaming_87 ?_
                    refine x_ival (y := xb (itN (blaP (M.2.2.1 5) i) (j + 1) (covT i (itN (blaF (M.2.2.1 5) tn) i (-1))))) (by simp [itN, blaP, c52, c13, c17, c28, c48, c52, c65, c80, xb]) ?_
                    refine x_ist3 hL (by decide) rfl dX8_blaming_88 ?_
                    refine x_inc4 hL (by decide) rfl dX8_blaming_89 (nI_1 _) ?_
                    refine x_goto (tgt := 40) dX8_blaming_92 (by decide) ?_
                    refine x_eq ?_ ?_ ?_ (ihj)
                    · first | rfl | (simp [c13, c17, c28, c48, c52, c65, c80]; done)
                    · rfl
                    · rfl
                  · skip
                    skip
                    refine x_iconst (v := nI 1) rfl dX8_blaming_83 ?_
                    refine x_goto (tgt := 88) dX8_blaming_84 (by decide) ?_
                    refine x_ival (y := xb (itN (blaP (M.2.2.1 5) i) (j + 1) (covT i (itN (blaF (M.2.2.1 5) tn) i (-1))))) (by simp [itN, blaP, c52, c13, c17, c28, c48, c52, c65, c80, xb]) ?_
                    refine x_ist3 hL (by decide) rfl dX8_blaming_88 ?_
                    refine x_inc4 hL (by decide) rfl dX8_blaming_89 (nI_1 _) ?_
                    refine x_goto (tgt := 40) dX8_blaming_92 (by decide) ?_
                    refine x_eq ?_ ?_ ?_ (ihj)
                    · first | rfl | (simp [c13, c17, c28, c48, c52, c65, c80]; done)
                    · rfl
                    · rfl
        · skip
          skip
          have c28 : szF (nI i) 9 < szF (itN (blaF (M.2.2.1 5) tn) i (-1)) 9 := Nat.lt_of_not_le fun q => c28 (nI_le q (by omega))
          refine x_iconst (v := nI 1) rfl dX8_blaming_31 ?_
          refine x_goto (tgt := 36) dX8_blaming_32 (by decide) ?_
          refine x_ival (y := xb (covT i (itN (blaF (M.2.2.1 5) tn) i (-1)))) (by simp [covT, c13, c17, c28, xb]) ?_
          refine x_ist3 hL (by decide) rfl dX8_blaming_36 ?_
          refine x_iconst (v := nI 0) rfl dX8_blaming_37 ?_
          refine x_ist4 hL (by decide) rfl dX8_blaming_38 ?_
          refine x_for (n := tn) (fun j => [some (.ref 32), some (.int (itN (blaF (M.2.2.1 5) tn) i (-1))), some (.int (nI i)), some (.int (xb (itN (blaP (M.2.2.1 5) i) j (covT i (itN (blaF (M.2.2.1 5) tn) i (-1)))))), some (.int (nI j))]) (fun j => []) (fun j => hM M R) ?_ (fun j hj ihj => ?_)
          · skip
            refine x_iload dX8_blaming_40 rfl ?_
            refine x_aload_n dX8_blaming_42 rfl ?_
            refine x_getf gf_X8_35 ho dX8_blaming_43 rfl rfl ?_
            refine x_iconst (v := nI 3) rfl dX8_blaming_46 ?_
            refine x_iald dX8_blaming_47 rfl (by first | rfl | exact nI_add _ _ | (simp only [nI_add, pk_mul]; rfl)) (by omega) (by decide) ?_
            refine x_icmp_ge (tgt := 95) dX8_blaming_48 (by decide) (fun c48 => ?_) (fun c48 => ?_)
            · skip
              refine x_iload_n dX8_blaming_95 rfl ?_
              refine x_ifb_eq (tgt := 101) dX8_blaming_96 (by decide) (fun c96 => ?_) (fun c96 => ?_)
              · try (exfalso; first | (exact absurd (c52.symm.trans c96) (by decide)) | (simp (disch := omega) [inS_ix, inS_N, ixL_N, ix_nI, h0] at c96 <;> omega) | (simp (disch := omega) only [h0, h1, h3, Int32.le_iff_toInt_le, Int32.lt_iff_toInt_lt, ← Int32.toInt_inj, nI_toInt, Int32.toInt_zero, m1_toInt, Int64.le_iff_toInt_le, Int64.lt_iff_toInt_lt, ← Int64.toInt_inj, pk_lT, i64_toInt, Int64.toInt_zero, eq_self, not_true_eq_false, not_false_eq_true] at c13 c17 c28 c48 c96 <;> omega) | omega)
                all_goals
                  skip
                  refine x_inc2 hL (by decide) rfl dX8_blaming_101 (nI_1 _) ?_
                  refine x_goto (tgt := 4) dX8_blaming_104 (by decide) ?_
                  refine x_drop (k := 3) ?_
                  refine x_drop (k := 4) ?_
                  refine x_eq ?_ ?_ ?_ (ihi)
                  · first | (simp [itN, blaF, c96]; done) | (simp [itN, blaF, cX]; done)
                  · rfl
                  · rfl
              · try (exfalso; first | (exact absurd (c52.symm.trans c96) (by decide)) | (simp (disch := omega) [inS_ix, inS_N, ixL_N, ix_nI, h0] at c96 <;> omega) | (simp (disch := omega) only [h0, h1, h3, Int32.le_iff_toInt_le, Int32.lt_iff_toInt_lt, ← Int32.toInt_inj, nI_toInt, Int32.toInt_zero, m1_toInt, Int64.le_iff_toInt_le, Int64.lt_iff_toInt_lt, ← Int64.toInt_inj, pk_lT, i64_toInt, Int64.toInt_zero, eq_self, not_true_eq_false, not_false_eq_true] at c13 c17 c28 c48 c96 <;> omega) | omega)
                all_goals
                  skip
                  refine x_iload_n dX8_blaming_99 rfl ?_
                  refine x_ist1 hL (by decide) rfl dX8_blaming_100 ?_
                  refine x_inc2 hL (by decide) rfl dX8_blaming_101 (nI_1 _) ?_
                  refine x_goto (tgt := 4) dX8_blaming_104 (by decide) ?_
                  refine x_drop (k := 3) ?_
                  refine x_drop (k := 4) ?_
                  refine x_eq ?_ ?_ ?_ (ihi)
                  · first | (simp [itN, blaF, c96]; done) | (simp [itN, blaF, cX]; done)
                  · rfl
                  · rfl
            · exfalso; first | (simp (disch := omega) [inS_ix, inS_N, ixL_N, ix_nI, h0] at c48 <;> omega) | (simp (disch := omega) only [h0, h1, h3, Int32.le_iff_toInt_le, Int32.lt_iff_toInt_lt, ← Int32.toInt_inj, nI_toInt, Int32.toInt_zero, m1_toInt, Int64.le_iff_toInt_le, Int64.lt_iff_toInt_lt, ← Int64.toInt_inj, pk_lT, i64_toInt, Int64.toInt_zero, eq_self, not_true_eq_false, not_false_eq_true] at c13 c17 c28 c48 <;> omega) | omega
          · skip
            refine x_iload dX8_blaming_40 rfl ?_
            refine x_aload_n dX8_blaming_42 rfl ?_
            refine x_getf gf_X8_35 ho dX8_blaming_43 rfl rfl ?_
            refine x_iconst (v := nI 3) rfl dX8_blaming_46 ?_
            refine x_iald dX8_blaming_47 rfl (by first | rfl | exact nI_add _ _ | (simp only [nI_add, pk_mul]; rfl)) (by omega) (by decide) ?_
            refine x_icmp_ge (tgt := 95) dX8_blaming_48 (by decide) (fun c48 => ?_) (fun c48 => ?_)
            · exfalso; first | (simp (disch := omega) [inS_ix, inS_N, ixL_N, ix_nI, h0] at c48 <;> omega) | (simp (disch := omega) only [h0, h1, h3, Int32.le_iff_toInt_le, Int32.lt_iff_toInt_lt, ← Int32.toInt_inj, nI_toInt, Int32.toInt_zero, m1_toInt, Int64.le_iff_toInt_le, Int64.lt_iff_toInt_lt, ← Int64.toInt_inj, pk_lT, i64_toInt, Int64.toInt_zero, eq_self, not_true_eq_false, not_false_eq_true] at c13 c17 c28 c48 <;> omega) | omega
            · skip
              refine x_iload_n dX8_blaming_51 rfl ?_
              refine x_ifb_eq (tgt := 95) dX8_blaming_52 (by decide) (fun c52 => ?_) (fun c52 => ?_)
              · skip
                skip
                have cX := itN_false (f := blaP (M.2.2.1 5) i) (fun _ => rfl) c52 tn (by omega)
                refine x_iload_n dX8_blaming_95 rfl ?_
                refine x_ifb_eq (tgt := 101) dX8_blaming_96 (by decide) (fun c96 => ?_) (fun c96 => ?_)
                · try (exfalso; first | (exact absurd (c52.symm.trans c96) (by decide)) | (simp (disch := omega) [inS_ix, inS_N, ixL_N, ix_nI, h0] at c96 <;> omega) | (simp (disch := omega) only [h0, h1, h3, Int32.le_iff_toInt_le, Int32.lt_iff_toInt_lt, ← Int32.toInt_inj, nI_toInt, Int32.toInt_zero, m1_toInt, Int64.le_iff_toInt_le, Int64.lt_iff_toInt_lt, ← Int64.toInt_inj, pk_lT, i64_toInt, Int64.toInt_zero, eq_self, not_true_eq_false, not_false_eq_true] at c13 c17 c28 c48 c52 c96 <;> omega) | omega)
                  all_goals
                    skip
                    refine x_inc2 hL (by decide) rfl dX8_blaming_101 (nI_1 _) ?_
                    refine x_goto (tgt := 4) dX8_blaming_104 (by decide) ?_
                    refine x_drop (k := 3) ?_
                    refine x_drop (k := 4) ?_
                    refine x_eq ?_ ?_ ?_ (ihi)
                    · first | (simp [itN, blaF, c96]; done) | (simp [itN, blaF, cX]; done)
                    · rfl
                    · rfl
                · try (exfalso; first | (exact absurd (c52.symm.trans c96) (by decide)) | (simp (disch := omega) [inS_ix, inS_N, ixL_N, ix_nI, h0] at c96 <;> omega) | (simp (disch := omega) only [h0, h1, h3, Int32.le_iff_toInt_le, Int32.lt_iff_toInt_lt, ← Int32.toInt_inj, nI_toInt, Int32.toInt_zero, m1_toInt, Int64.le_iff_toInt_le, Int64.lt_iff_toInt_lt, ← Int64.toInt_inj, pk_lT, i64_toInt, Int64.toInt_zero, eq_self, not_true_eq_false, not_false_eq_true] at c13 c17 c28 c48 c52 c96 <;> omega) | omega)
                  all_goals
                    skip
                    refine x_iload_n dX8_blaming_99 rfl ?_
                    refine x_ist1 hL (by decide) rfl dX8_blaming_100 ?_
                    refine x_inc2 hL (by decide) rfl dX8_blaming_101 (nI_1 _) ?_
                    refine x_goto (tgt := 4) dX8_blaming_104 (by decide) ?_
                    refine x_drop (k := 3) ?_
                    refine x_drop (k := 4) ?_
                    refine x_eq ?_ ?_ ?_ (ihi)
                    · first | (simp [itN, blaF, c96]; done) | (simp [itN, blaF, cX]; done)
                    · rfl
                    · rfl
              · skip
                skip
                refine x_aload_n dX8_blaming_55 rfl ?_
                refine x_getf gf_X8_35 ho dX8_blaming_56 rfl rfl ?_
                refine x_bipush (v := nI 60) rfl dX8_blaming_59 ?_
                refine x_iload dX8_blaming_61 rfl ?_
                refine x_iaddN dX8_blaming_63 ?_
                refine x_iald dX8_blaming_64 rfl (by first | rfl | exact nI_add _ _ | (simp only [nI_add, pk_mul]; rfl)) (by omega) (by decide) ?_
                refine x_if_eq (tgt := 83) dX8_blaming_65 (by decide) (fun c65 => ?_) (fun c65 => ?_)
                · skip
                  skip
                  refine x_iconst (v := nI 1) rfl dX8_blaming_83 ?_
                  refine x_goto (tgt := 88) dX8_blaming_84 (by decide) ?_
                  refine x_ival (y := xb (itN (blaP (M.2.2.1 5) i) (j + 1) (covT i (itN (blaF (M.2.2.1 5) tn) i (-1))))) (by simp [itN, blaP, c52, c13, c17, c28, c48, c52, c65, xb]) ?_
                  refine x_ist3 hL (by decide) rfl dX8_blaming_88 ?_
                  refine x_inc4 hL (by decide) rfl dX8_blaming_89 (nI_1 _) ?_
                  refine x_goto (tgt := 40) dX8_blaming_92 (by decide) ?_
                  refine x_eq ?_ ?_ ?_ (ihj)
                  · first | rfl | (simp [c13, c17, c28, c48, c52, c65]; done)
                  · rfl
                  · rfl
                · skip
                  skip
                  refine x_iload_n dX8_blaming_68 rfl ?_
                  refine x_aload_n dX8_blaming_69 rfl ?_
                  refine x_getf gf_X8_35 ho dX8_blaming_70 rfl rfl ?_
                  refine x_bipush (v := nI 69) rfl dX8_blaming_73 ?_
                  refine x_iload dX8_blaming_75 rfl ?_
                  refine x_iaddN dX8_blaming_77 ?_
                  refine x_iald dX8_blaming_78 rfl (by first | rfl | exact nI_add _ _ | (simp only [nI_add, pk_mul]; rfl)) (by omega) (by decide) ?_
                  refine x_iand dX8_blaming_79 ?_
                  refine x_if_eq (tgt := 87) dX8_blaming_80 (by decide) (fun c80 => ?_) (fun c80 => ?_)
                  · skip
                    skip
                    refine x_iconst (v := nI 0) rfl dX8_blaming_87 ?_
                    refine x_ival (y := xb (itN (blaP (M.2.2.1 5) i) (j + 1) (covT i (itN (blaF (M.2.2.1 5) tn) i (-1))))) (by simp [itN, blaP, c52, c13, c17, c28, c48, c52, c65, c80, xb]) ?_
                    refine x_ist3 hL (by decide) rfl dX8_blaming_88 ?_
                    refine x_inc4 hL (by decide) rfl dX8_blaming_89 (nI_1 _) ?_
                    refine x_goto (tgt := 40) dX8_blaming_92 (by decide) ?_
                    refine x_eq ?_ ?_ ?_ (ihj)
                    · first | rfl | (simp [c13, c17, c28, c48, c52, c65, c80]; done)
                    · rfl
                    · rfl
                  · skip
                    skip
                    refine x_iconst (v := nI 1) rfl dX8_blaming_83 ?_
                    refine x_goto (tgt := 88) dX8_blaming_84 (by decide) ?_
                    refine x_ival (y := xb (itN (blaP (M.2.2.1 5) i) (j + 1) (covT i (itN (blaF (M.2.2.1 5) tn) i (-1))))) (by simp [itN, blaP, c52, c13, c17, c28, c48, c52, c65, c80, xb]) ?_
                    refine x_ist3 hL (by decide) rfl dX8_blaming_88 ?_
                    refine x_inc4 hL (by decide) rfl dX8_blaming_89 (nI_1 _) ?_
                    refine x_goto (tgt := 40) dX8_blaming_92 (by decide) ?_
                    refine x_eq ?_ ?_ ?_ (ihj)
                    · first | rfl | (simp [c13, c17, c28, c48, c52, c65, c80]; done)
                    · rfl
                    · rfl
set_option maxHeartbeats 800000 in
theorem m_cover {w : xW} {M : mS} {R : xH} {tm pm tn G : Nat} (hF : wF (M.2.2.1 5) tm pm tn G)  : CT w yX8_cover cX8_cover 2 (some (.int)) [] false (3) 0 0 [.ref 32] (hM M R) (xret (some (.int (spCover (M.2.2.1 5) tm pm).1)) (hM (mI (mI M 1 (nI 0)) 0 (nI (spCover (M.2.2.1 5) tm pm).2)) R)) := by
  refine CT.of (ini := false) (by decide +kernel) q2097 q164 (Nat.le_of_ble_eq_true rfl) (by decide) ?_
  intro Γ hw ho hL hr hh hini hal hd hmc hms hQ
  subst hw
  show AW Γ cX8_cover 0 0 0 [some (.ref 32), none] [] (hM M R)
  have h0 := hF.c0
  have h1 := hF.c1
  have h3 := hF.c3
  have l0 := hF.l0
  have l1 := hF.l1
  have l3 := hF.l3
  refine x_aload_n dX8_cover_0 rfl ?_
  refine x_iconst (v := nI 0) rfl dX8_cover_1 ?_
  refine m_puti (k := 1) (pf_X8_70 (ini := false)) ho hini dX8_cover_2 rfl rfl (by decide) (ms_1 _ _) ?_
  refine x_aload_n dX8_cover_5 rfl ?_
  refine x_iconst (v := nI 0) rfl dX8_cover_6 ?_
  refine m_puti (k := 0) (pf_X8_73 (ini := false)) ho hini dX8_cover_7 rfl rfl (by decide) (ms_0 _ _) ?_
  refine x_aload_n dX8_cover_10 rfl ?_
  refine x_callV0 lk_X8_406 (m_covering (M := (mI (mI M 1 (nI 0)) 0 (nI 0))) hF) ho dX8_cover_11 rfl (Nat.le_of_ble_eq_true rfl) (by omega) (by decide) (by omega) (by omega) ?_
  refine x_ist1 hL (by decide) rfl dX8_cover_14 ?_
  refine x_iload_n dX8_cover_15 rfl ?_
  refine x_if_ge (tgt := 28) dX8_cover_16 (by decide) (fun c16 => ?_) (fun c16 => ?_)
  · skip
    skip
    have c16 := Int32.not_lt.mpr c16
    refine x_iload_n dX8_cover_28 rfl ?_
    refine x_callS1 lk_X8_396 (m_sizeOf _) ho dX8_cover_29 (Nat.le_of_ble_eq_true rfl) (by omega) (by decide) (by omega) (by omega) ?_
    refine x_iret hr rfl dX8_cover_32 (by omega) (by omega) (hQ _ _ ?_)
    try dsimp only [mI, mSA] at c16
    exact ⟨by simp [spCover, c16], by simp [spCover, c16, mI_mI]⟩
  · skip
    skip
    have c16 := Int32.not_le.mp c16
    refine x_aload_n dX8_cover_19 rfl ?_
    refine x_bipush (v := nI 8) rfl dX8_cover_20 ?_
    refine x_callV1 lk_X8_327 (m_refuse _) ho dX8_cover_22 rfl (Nat.le_of_ble_eq_true rfl) (by omega) (by decide) (by omega) (by omega) ?_
    refine x_goto (tgt := 32) dX8_cover_25 (by decide) ?_
    refine x_iret hr rfl dX8_cover_32 (by omega) (by omega) (hQ _ _ ?_)
    try dsimp only [mI, mSA] at c16
    exact ⟨by simp [spCover, c16], by simp [spCover, c16, mI_mI]⟩
set_option maxHeartbeats 800000 in
theorem m_coverSet {w : xW} {M : mS} {R : xH} {tm pm tn G : Nat} (hF : wF (M.2.2.1 5) tm pm tn G)  : CT w yX8_coverSet cX8_coverSet 2 (some (.int)) [] false (3) 0 0 [.ref 32] (hM M R) (xret (some (.int (spCoverSet (M.2.2.1 5) tm pm).1)) (hM (mI (mI M 1 (nI 0)) 0 (nI (spCoverSet (M.2.2.1 5) tm pm).2)) R)) := by
  refine CT.of (ini := false) (by decide +kernel) q2105 q164 (Nat.le_of_ble_eq_true rfl) (by decide) ?_
  intro Γ hw ho hL hr hh hini hal hd hmc hms hQ
  subst hw
  show AW Γ cX8_coverSet 0 0 0 [some (.ref 32), none] [] (hM M R)
  have h0 := hF.c0
  have h1 := hF.c1
  have h3 := hF.c3
  have l0 := hF.l0
  have l1 := hF.l1
  have l3 := hF.l3
  refine x_aload_n dX8_coverSet_0 rfl ?_
  refine x_iconst (v := nI 0) rfl dX8_coverSet_1 ?_
  refine m_puti (k := 1) (pf_X8_70 (ini := false)) ho hini dX8_coverSet_2 rfl rfl (by decide) (ms_1 _ _) ?_
  refine x_aload_n dX8_coverSet_5 rfl ?_
  refine x_iconst (v := nI 0) rfl dX8_coverSet_6 ?_
  refine m_puti (k := 0) (pf_X8_73 (ini := false)) ho hini dX8_coverSet_7 rfl rfl (by decide) (ms_0 _ _) ?_
  refine x_aload_n dX8_coverSet_10 rfl ?_
  refine x_callV0 lk_X8_406 (m_covering (M := (mI (mI M 1 (nI 0)) 0 (nI 0))) hF) ho dX8_coverSet_11 rfl (Nat.le_of_ble_eq_true rfl) (by omega) (by decide) (by omega) (by omega) ?_
  refine x_ist1 hL (by decide) rfl dX8_coverSet_14 ?_
  refine x_iload_n dX8_coverSet_15 rfl ?_
  refine x_if_ge (tgt := 28) dX8_coverSet_16 (by decide) (fun c16 => ?_) (fun c16 => ?_)
  · skip
    skip
    have c16 := Int32.not_lt.mpr c16
    refine x_iload_n dX8_coverSet_28 rfl ?_
    refine x_iret hr rfl dX8_coverSet_29 (by omega) (by omega) (hQ _ _ ?_)
    try dsimp only [mI, mSA] at c16
    exact ⟨by simp [spCoverSet, c16], by simp [spCoverSet, c16, mI_mI]⟩
  · skip
    skip
    have c16 := Int32.not_le.mp c16
    refine x_aload_n dX8_coverSet_19 rfl ?_
    refine x_bipush (v := nI 8) rfl dX8_coverSet_20 ?_
    refine x_callV1 lk_X8_327 (m_refuse _) ho dX8_coverSet_22 rfl (Nat.le_of_ble_eq_true rfl) (by omega) (by decide) (by omega) (by omega) ?_
    refine x_goto (tgt := 29) dX8_coverSet_25 (by decide) ?_
    refine x_iret hr rfl dX8_coverSet_29 (by omega) (by omega) (hQ _ _ ?_)
    try dsimp only [mI, mSA] at c16
    exact ⟨by simp [spCoverSet, c16], by simp [spCoverSet, c16, mI_mI]⟩
set_option maxHeartbeats 800000 in
theorem m_blamed {w : xW} {M : mS} {R : xH} {tm pm tn G : Nat} (hF : wF (M.2.2.1 5) tm pm tn G)  : CT w yX8_blamed cX8_blamed 1 (some (.int)) [] false (3) 0 0 [.ref 32] (hM M R) (xret (some (.int (nI (szF (blaS (M.2.2.1 5) pm tn) 9)))) (hM (mI (mI M 1 (nI 0)) 0 (nI 0)) R)) := by
  refine CT.of (ini := false) (by decide +kernel) q2109 q164 (Nat.le_of_ble_eq_true rfl) (by decide) ?_
  intro Γ hw ho hL hr hh hini hal hd hmc hms hQ
  subst hw
  show AW Γ cX8_blamed 0 0 0 [some (.ref 32)] [] (hM M R)
  have h0 := hF.c0
  have h1 := hF.c1
  have h3 := hF.c3
  have l0 := hF.l0
  have l1 := hF.l1
  have l3 := hF.l3
  refine x_aload_n dX8_blamed_0 rfl ?_
  refine x_iconst (v := nI 0) rfl dX8_blamed_1 ?_
  refine m_puti (k := 1) (pf_X8_70 (ini := false)) ho hini dX8_blamed_2 rfl rfl (by decide) (ms_1 _ _) ?_
  refine x_aload_n dX8_blamed_5 rfl ?_
  refine x_iconst (v := nI 0) rfl dX8_blamed_6 ?_
  refine m_puti (k := 0) (pf_X8_73 (ini := false)) ho hini dX8_blamed_7 rfl rfl (by decide) (ms_0 _ _) ?_
  refine x_aload_n dX8_blamed_10 rfl ?_
  refine x_callV0 lk_X8_409 (m_blaming (M := (mI (mI M 1 (nI 0)) 0 (nI 0))) hF) ho dX8_blamed_11 rfl (Nat.le_of_ble_eq_true rfl) (by omega) (by decide) (by omega) (by omega) ?_
  refine x_callS1 lk_X8_396 (m_sizeOf _) ho dX8_blamed_14 (Nat.le_of_ble_eq_true rfl) (by omega) (by decide) (by omega) (by omega) ?_
  refine x_iret hr rfl dX8_blamed_17 (by omega) (by omega) (hQ _ _ ?_)
  exact ⟨rfl, rfl⟩
set_option maxHeartbeats 800000 in
theorem m_blamedSet {w : xW} {M : mS} {R : xH} {tm pm tn G : Nat} (hF : wF (M.2.2.1 5) tm pm tn G)  : CT w yX8_blamedSet cX8_blamedSet 1 (some (.int)) [] false (3) 0 0 [.ref 32] (hM M R) (xret (some (.int (blaS (M.2.2.1 5) pm tn))) (hM (mI (mI M 1 (nI 0)) 0 (nI 0)) R)) := by
  refine CT.of (ini := false) (by decide +kernel) q2117 q164 (Nat.le_of_ble_eq_true rfl) (by decide) ?_
  intro Γ hw ho hL hr hh hini hal hd hmc hms hQ
  subst hw
  show AW Γ cX8_blamedSet 0 0 0 [some (.ref 32)] [] (hM M R)
  have h0 := hF.c0
  have h1 := hF.c1
  have h3 := hF.c3
  have l0 := hF.l0
  have l1 := hF.l1
  have l3 := hF.l3
  refine x_aload_n dX8_blamedSet_0 rfl ?_
  refine x_iconst (v := nI 0) rfl dX8_blamedSet_1 ?_
  refine m_puti (k := 1) (pf_X8_70 (ini := false)) ho hini dX8_blamedSet_2 rfl rfl (by decide) (ms_1 _ _) ?_
  refine x_aload_n dX8_blamedSet_5 rfl ?_
  refine x_iconst (v := nI 0) rfl dX8_blamedSet_6 ?_
  refine m_puti (k := 0) (pf_X8_73 (ini := false)) ho hini dX8_blamedSet_7 rfl rfl (by decide) (ms_0 _ _) ?_
  refine x_aload_n dX8_blamedSet_10 rfl ?_
  refine x_callV0 lk_X8_409 (m_blaming (M := (mI (mI M 1 (nI 0)) 0 (nI 0))) hF) ho dX8_blamedSet_11 rfl (Nat.le_of_ble_eq_true rfl) (by omega) (by decide) (by omega) (by omega) ?_
  refine x_iret hr rfl dX8_blamedSet_14 (by omega) (by omega) (hQ _ _ ?_)
  exact ⟨rfl, rfl⟩
set_option maxHeartbeats 800000 in
theorem m_canGive {w : xW} {M : mS} {R : xH} {tm pm tn G : Nat} (hF : wF (M.2.2.1 5) tm pm tn G) (p q : Nat) (hp : p < 7) (hq : q < 7) : CT w yX8_canGive cX8_canGive 4 (some (.boolean)) [] false (3) 0 0 [.ref 32, .int (nI p), .int (nI q)] (hM M R) (xret (some (.int (xb (canB (M.2.2.1 5) pm tn p q)))) (hM M R)) := by
  refine CT.of (ini := false) (by decide +kernel) q2131 q164 (Nat.le_of_ble_eq_true rfl) (by decide) ?_
  intro Γ hw ho hL hr hh hini hal hd hmc hms hQ
  subst hw
  show AW Γ cX8_canGive 0 0 0 [some (.ref 32), some (.int (nI p)), some (.int (nI q)), none] [] (hM M R)
  have h0 := hF.c0
  have h1 := hF.c1
  have h3 := hF.c3
  have l0 := hF.l0
  have l1 := hF.l1
  have l3 := hF.l3
  refine x_iconst (v := nI 0) rfl dX8_canGive_0 ?_
  refine x_ist3 hL (by decide) rfl dX8_canGive_1 ?_
  refine x_forP (n := tn) (fun i => anyB (canF (M.2.2.1 5) pm p q) i = false) (fun i => [some (.ref 32), some (.int (nI p)), some (.int (nI q)), some (.int (nI i))]) (fun i => []) (fun i => hM M R) rfl (fun hPi => ?_) (fun i hi hPi ihi => ?_)
  · skip
    refine x_iload_n dX8_canGive_2 rfl ?_
    refine x_aload_n dX8_canGive_3 rfl ?_
    refine x_getf gf_X8_35 ho dX8_canGive_4 rfl rfl ?_
    refine x_iconst (v := nI 3) rfl dX8_canGive_7 ?_
    refine x_iald dX8_canGive_8 rfl (by first | rfl | exact nI_add _ _ | (simp only [nI_add, pk_mul]; rfl)) (by omega) (by decide) ?_
    refine x_ival (y := nI tn) h3 ?_
    refine x_icmp_ge (tgt := 46) dX8_canGive_9 (by decide) (fun c9 => ?_) (fun c9 => ?_)
    · skip
      refine x_iconst (v := nI 0) rfl dX8_canGive_46 ?_
      refine x_iret hr rfl dX8_canGive_47 (by omega) (by omega) (hQ _ _ ?_)
      try dsimp only [mI, mSA] at c9
      exact ⟨by rw [show canB (M.2.2.1 5) pm tn p q = false from hPi]; rfl, rfl⟩
    · exfalso; first | (simp (disch := omega) only [h0, h1, h3, Int32.le_iff_toInt_le, Int32.lt_iff_toInt_lt, ← Int32.toInt_inj, nI_toInt, Int32.toInt_zero, m1_toInt, Int64.le_iff_toInt_le, Int64.lt_iff_toInt_lt, ← Int64.toInt_inj, pk_lT, i64_toInt, Int64.toInt_zero, eq_self, not_true_eq_false, not_false_eq_true] at c9 <;> omega) | omega
  · skip
    refine x_iload_n dX8_canGive_2 rfl ?_
    refine x_aload_n dX8_canGive_3 rfl ?_
    refine x_getf gf_X8_35 ho dX8_canGive_4 rfl rfl ?_
    refine x_iconst (v := nI 3) rfl dX8_canGive_7 ?_
    refine x_iald dX8_canGive_8 rfl (by first | rfl | exact nI_add _ _ | (simp only [nI_add, pk_mul]; rfl)) (by omega) (by decide) ?_
    refine x_ival (y := nI tn) h3 ?_
    refine x_icmp_ge (tgt := 46) dX8_canGive_9 (by decide) (fun c9 => ?_) (fun c9 => ?_)
    · exfalso; first | (simp (disch := omega) only [h0, h1, h3, Int32.le_iff_toInt_le, Int32.lt_iff_toInt_lt, ← Int32.toInt_inj, nI_toInt, Int32.toInt_zero, m1_toInt, Int64.le_iff_toInt_le, Int64.lt_iff_toInt_lt, ← Int64.toInt_inj, pk_lT, i64_toInt, Int64.toInt_zero, eq_self, not_true_eq_false, not_false_eq_true] at c9 <;> omega) | omega
    · skip
      refine x_aload_n dX8_canGive_12 rfl ?_
      refine x_getf gf_X8_35 ho dX8_canGive_13 rfl rfl ?_
      refine x_bipush (v := nI 42) rfl dX8_canGive_16 ?_
      refine x_iload_n dX8_canGive_18 rfl ?_
      refine x_iaddN dX8_canGive_19 ?_
      refine x_iald dX8_canGive_20 rfl (by first | rfl | exact nI_add _ _ | (simp only [nI_add, pk_mul]; rfl)) (by omega) (by decide) ?_
      refine x_iload_n dX8_canGive_21 rfl ?_
      refine x_icmp_ne (tgt := 40) dX8_canGive_22 (by decide) (fun c22 => ?_) (fun c22 => ?_)
      · skip
        skip
        refine x_inc3 hL (by decide) rfl dX8_canGive_40 (nI_1 _) ?_
        refine x_goto (tgt := 2) dX8_canGive_43 (by decide) ?_
        refine x_eq ?_ ?_ ?_ (ihi ?_)
        · first | rfl | (simp [c9, c22]; done)
        · rfl
        · rfl
        · exact anyB_s hPi (by simp [canF, c9, c22])
      · skip
        skip
        refine x_aload_n dX8_canGive_25 rfl ?_
        refine x_iload_n dX8_canGive_26 rfl ?_
        refine x_iload_n dX8_canGive_27 rfl ?_
        refine x_callV2 lk_X8_357 (m_nextOf hF _ _ (by omega) (by omega)) ho dX8_canGive_28 rfl (Nat.le_of_ble_eq_true rfl) (by omega) (by decide) (by omega) (by omega) ?_
        refine x_iload_n dX8_canGive_31 rfl ?_
        refine x_callS2 lk_X8_109 (m_has _ _) ho dX8_canGive_32 (Nat.le_of_ble_eq_true rfl) (by omega) (by decide) (by omega) (by omega) ?_
        refine x_ifb_eq (tgt := 40) dX8_canGive_35 (by decide) (fun c35 => ?_) (fun c35 => ?_)
        · skip
          skip
          refine x_inc3 hL (by decide) rfl dX8_canGive_40 (nI_1 _) ?_
          refine x_goto (tgt := 2) dX8_canGive_43 (by decide) ?_
          refine x_eq ?_ ?_ ?_ (ihi ?_)
          · first | rfl | (simp [c9, c22, c35]; done)
          · rfl
          · rfl
          · exact anyB_s hPi (by simp [canF, c9, c22, c35])
        · skip
          skip
          refine x_iconst (v := nI 1) rfl dX8_canGive_38 ?_
          refine x_iret hr rfl dX8_canGive_39 (by omega) (by omega) (hQ _ _ ?_)
          try dsimp only [mI, mSA] at c9 c22 c35
          exact ⟨by rw [show canB (M.2.2.1 5) pm tn p q = true from anyB_t (i := i) (by simp [canF, c22, c35]) tn (by omega)]; rfl, rfl⟩
set_option maxHeartbeats 800000 in
theorem m_rolls {w : xW} {M : mS} {R : xH} {tm pm tn G : Nat} (hF : wF (M.2.2.1 5) tm pm tn G) (k fi la : Nat) (se : Int32) (hk : k < 7) (hf : fi < 7) (hl : la < 7) : CT w yX8_rolls cX8_rolls 7 (some (.int)) [] false (5 + k) 0 0 [.ref 32, .int (nI fi), .int (nI la), .int se, .int (nI k)] (hM M R) (xret (some (.int (rolS (M.2.2.1 5) pm tn fi k la se))) (hM M R)) := by
  have l1 := hF.l1
  induction k generalizing la se
  · skip
    refine CT.of (ini := false) (by decide +kernel) q2127 q164 (Nat.le_of_ble_eq_true rfl) (by decide) ?_
    intro Γ hw ho hL hr hh hini hal hd hmc hms hQ
    subst hw
    show AW Γ cX8_rolls 0 0 0 [some (.ref 32), some (.int (nI fi)), some (.int (nI la)), some (.int se), some (.int (nI 0)), none, none] [] (hM M R)
    have h0 := hF.c0
    have h1 := hF.c1
    have h3 := hF.c3
    have l0 := hF.l0
    have l1 := hF.l1
    have l3 := hF.l3
    refine x_iload dX8_rolls_0 rfl ?_
    refine x_if_ne (tgt := 20) dX8_rolls_2 (by decide) (fun c2 => ?_) (fun c2 => ?_)
    · try (exfalso; first | (simp (disch := omega) only [h0, h1, h3, Int32.le_iff_toInt_le, Int32.lt_iff_toInt_lt, ← Int32.toInt_inj, nI_toInt, Int32.toInt_zero, m1_toInt, Int64.le_iff_toInt_le, Int64.lt_iff_toInt_lt, ← Int64.toInt_inj, pk_lT, i64_toInt, Int64.toInt_zero, eq_self, not_true_eq_false, not_false_eq_true] at c2 <;> omega) | omega)
      all_goals
        skip
        omega
    · try (exfalso; first | (simp (disch := omega) only [h0, h1, h3, Int32.le_iff_toInt_le, Int32.lt_iff_toInt_lt, ← Int32.toInt_inj, nI_toInt, Int32.toInt_zero, m1_toInt, Int64.le_iff_toInt_le, Int64.lt_iff_toInt_lt, ← Int64.toInt_inj, pk_lT, i64_toInt, Int64.toInt_zero, eq_self, not_true_eq_false, not_false_eq_true] at c2 <;> omega) | omega)
      all_goals
        skip
        refine x_aload_n dX8_rolls_5 rfl ?_
        refine x_iload_n dX8_rolls_6 rfl ?_
        refine x_iload_n dX8_rolls_7 rfl ?_
        refine x_callV2 lk_X8_412 (m_canGive hF _ _ (by omega) (by omega)) ho dX8_rolls_8 rfl (Nat.le_of_ble_eq_true rfl) (by omega) (by decide) (by omega) (by omega) ?_
        refine x_ifb_eq (tgt := 18) dX8_rolls_11 (by decide) (fun c11 => ?_) (fun c11 => ?_)
        · try (exfalso; first | (simp (disch := omega) only [h0, h1, h3, Int32.le_iff_toInt_le, Int32.lt_iff_toInt_lt, ← Int32.toInt_inj, nI_toInt, Int32.toInt_zero, m1_toInt, Int64.le_iff_toInt_le, Int64.lt_iff_toInt_lt, ← Int64.toInt_inj, pk_lT, i64_toInt, Int64.toInt_zero, eq_self, not_true_eq_false, not_false_eq_true] at c2 c11 <;> omega) | omega)
          all_goals
            skip
            refine x_iconst (v := nI 0) rfl dX8_rolls_18 ?_
            refine x_iret hr rfl dX8_rolls_19 (by omega) (by omega) (hQ _ _ ?_)
            try dsimp only [mI, mSA] at c2 c11
            exact ⟨by simp [rolS, c2, c11, xb], rfl⟩
        · try (exfalso; first | (simp (disch := omega) only [h0, h1, h3, Int32.le_iff_toInt_le, Int32.lt_iff_toInt_lt, ← Int32.toInt_inj, nI_toInt, Int32.toInt_zero, m1_toInt, Int64.le_iff_toInt_le, Int64.lt_iff_toInt_lt, ← Int64.toInt_inj, pk_lT, i64_toInt, Int64.toInt_zero, eq_self, not_true_eq_false, not_false_eq_true] at c2 c11 <;> omega) | omega)
          all_goals
            skip
            refine x_iconst (v := nI 1) rfl dX8_rolls_14 ?_
            refine x_goto (tgt := 19) dX8_rolls_15 (by decide) ?_
            refine x_iret hr rfl dX8_rolls_19 (by omega) (by omega) (hQ _ _ ?_)
            try dsimp only [mI, mSA] at c2 c11
            exact ⟨by simp [rolS, c2, c11, xb], rfl⟩
  · rename_i k ih
    refine CT.of (ini := false) (by decide +kernel) q2127 q164 (Nat.le_of_ble_eq_true rfl) (by decide) ?_
    intro Γ hw ho hL hr hh hini hal hd hmc hms hQ
    subst hw
    show AW Γ cX8_rolls 0 0 0 [some (.ref 32), some (.int (nI fi)), some (.int (nI la)), some (.int se), some (.int (nI (k + 1))), none, none] [] (hM M R)
    have h0 := hF.c0
    have h1 := hF.c1
    have h3 := hF.c3
    have l0 := hF.l0
    have l1 := hF.l1
    have l3 := hF.l3
    refine x_iload dX8_rolls_0 rfl ?_
    refine x_if_ne (tgt := 20) dX8_rolls_2 (by decide) (fun c2 => ?_) (fun c2 => ?_)
    · try (exfalso; first | (simp (disch := omega) only [h0, h1, h3, Int32.le_iff_toInt_le, Int32.lt_iff_toInt_lt, ← Int32.toInt_inj, nI_toInt, Int32.toInt_zero, m1_toInt, Int64.le_iff_toInt_le, Int64.lt_iff_toInt_lt, ← Int64.toInt_inj, pk_lT, i64_toInt, Int64.toInt_zero, eq_self, not_true_eq_false, not_false_eq_true] at c2 <;> omega) | omega)
      all_goals
        skip
        refine x_iconst (v := nI 0) rfl dX8_rolls_20 ?_
        refine x_ist5 hL (by decide) rfl dX8_rolls_21 ?_
        refine x_iload_n dX8_rolls_23 rfl ?_
        refine x_iconst (v := nI 1) rfl dX8_rolls_24 ?_
        refine x_iaddN dX8_rolls_25 ?_
        refine x_ist6 hL (by decide) rfl dX8_rolls_26 ?_
        refine x_for (n := (pm - (fi + 1))) (fun i => [some (.ref 32), some (.int (nI fi)), some (.int (nI la)), some (.int se), some (.int (nI (k + 1))), some (.int (suF (fun i => if hs se (nI (fi + 1 + i)) = false ∧ canB (M.2.2.1 5) pm tn la (fi + 1 + i) = true then rolS (M.2.2.1 5) pm tn fi k (fi + 1 + i) (se ||| bi (fi + 1 + i)) else nI 0) i)), some (.int (nI (fi + 1 + i)))]) (fun i => []) (fun i => hM M R) ?_ (fun i hi ihi => ?_)
        · skip
          refine x_iload dX8_rolls_28 rfl ?_
          refine x_aload_n dX8_rolls_30 rfl ?_
          refine x_getf gf_X8_35 ho dX8_rolls_31 rfl rfl ?_
          refine x_iconst (v := nI 1) rfl dX8_rolls_34 ?_
          refine x_iald dX8_rolls_35 rfl (by first | rfl | exact nI_add _ _ | (simp only [nI_add, pk_mul]; rfl)) (by omega) (by decide) ?_
          refine x_ival (y := nI pm) h1 ?_
          refine x_icmp_ge (tgt := 86) dX8_rolls_36 (by decide) (fun c36 => ?_) (fun c36 => ?_)
          · skip
            refine x_iload dX8_rolls_86 rfl ?_
            refine x_iret hr rfl dX8_rolls_88 (by omega) (by omega) (hQ _ _ ?_)
            try dsimp only [mI, mSA] at c2 c36
            exact ⟨by rw [rolS], rfl⟩
          · exfalso; first | (simp (disch := omega) only [h0, h1, h3, Int32.le_iff_toInt_le, Int32.lt_iff_toInt_lt, ← Int32.toInt_inj, nI_toInt, Int32.toInt_zero, m1_toInt, Int64.le_iff_toInt_le, Int64.lt_iff_toInt_lt, ← Int64.toInt_inj, pk_lT, i64_toInt, Int64.toInt_zero, eq_self, not_true_eq_false, not_false_eq_true] at c2 c36 <;> omega) | omega
        · skip
          refine x_iload dX8_rolls_28 rfl ?_
          refine x_aload_n dX8_rolls_30 rfl ?_
          refine x_getf gf_X8_35 ho dX8_rolls_31 rfl rfl ?_
          refine x_iconst (v := nI 1) rfl dX8_rolls_34 ?_
          refine x_iald dX8_rolls_35 rfl (by first | rfl | exact nI_add _ _ | (simp only [nI_add, pk_mul]; rfl)) (by omega) (by decide) ?_
          refine x_ival (y := nI pm) h1 ?_
          refine x_icmp_ge (tgt := 86) dX8_rolls_36 (by decide) (fun c36 => ?_) (fun c36 => ?_)
          · exfalso; first | (simp (disch := omega) only [h0, h1, h3, Int32.le_iff_toInt_le, Int32.lt_iff_toInt_lt, ← Int32.toInt_inj, nI_toInt, Int32.toInt_zero, m1_toInt, Int64.le_iff_toInt_le, Int64.lt_iff_toInt_lt, ← Int64.toInt_inj, pk_lT, i64_toInt, Int64.toInt_zero, eq_self, not_true_eq_false, not_false_eq_true] at c2 c36 <;> omega) | omega
          · skip
            refine x_iload_n dX8_rolls_39 rfl ?_
            refine x_iload dX8_rolls_40 rfl ?_
            refine x_callS2 lk_X8_109 (m_has _ _) ho dX8_rolls_42 (Nat.le_of_ble_eq_true rfl) (by omega) (by decide) (by omega) (by omega) ?_
            refine x_ifb_ne (tgt := 80) dX8_rolls_45 (by decide) (fun c45 => ?_) (fun c45 => ?_)
            · try (exfalso; first | (simp (disch := omega) only [h0, h1, h3, Int32.le_iff_toInt_le, Int32.lt_iff_toInt_lt, ← Int32.toInt_inj, nI_toInt, Int32.toInt_zero, m1_toInt, Int64.le_iff_toInt_le, Int64.lt_iff_toInt_lt, ← Int64.toInt_inj, pk_lT, i64_toInt, Int64.toInt_zero, eq_self, not_true_eq_false, not_false_eq_true] at c2 c36 c45 <;> omega) | omega)
              all_goals
                skip
                refine x_inc6 hL (by decide) rfl dX8_rolls_80 (nI_1 _) ?_
                refine x_goto (tgt := 28) dX8_rolls_83 (by decide) ?_
                refine x_eq ?_ ?_ ?_ (ihi)
                · simp [suF, c2, c36, c45]; first | done | rfl | exact ⟨rfl, rfl⟩
                · rfl
                · rfl
            · try (exfalso; first | (simp (disch := omega) only [h0, h1, h3, Int32.le_iff_toInt_le, Int32.lt_iff_toInt_lt, ← Int32.toInt_inj, nI_toInt, Int32.toInt_zero, m1_toInt, Int64.le_iff_toInt_le, Int64.lt_iff_toInt_lt, ← Int64.toInt_inj, pk_lT, i64_toInt, Int64.toInt_zero, eq_self, not_true_eq_false, not_false_eq_true] at c2 c36 c45 <;> omega) | omega)
              all_goals
                skip
                refine x_aload_n dX8_rolls_48 rfl ?_
                refine x_iload_n dX8_rolls_49 rfl ?_
                refine x_iload dX8_rolls_50 rfl ?_
                refine x_callV2 lk_X8_412 (m_canGive hF _ _ (by omega) (by omega)) ho dX8_rolls_52 rfl (Nat.le_of_ble_eq_true rfl) (by omega) (by decide) (by omega) (by omega) ?_
                refine x_ifb_eq (tgt := 80) dX8_rolls_55 (by decide) (fun c55 => ?_) (fun c55 => ?_)
                · skip
                  skip
                  refine x_inc6 hL (by decide) rfl dX8_rolls_80 (nI_1 _) ?_
                  refine x_goto (tgt := 28) dX8_rolls_83 (by decide) ?_
                  refine x_eq ?_ ?_ ?_ (ihi)
                  · simp [suF, c2, c36, c45, c55]; first | done | rfl | exact ⟨rfl, rfl⟩
                  · rfl
                  · rfl
                · skip
                  skip
                  refine x_iload dX8_rolls_58 rfl ?_
                  refine x_aload_n dX8_rolls_60 rfl ?_
                  refine x_iload_n dX8_rolls_61 rfl ?_
                  refine x_iload dX8_rolls_62 rfl ?_
                  refine x_iload_n dX8_rolls_64 rfl ?_
                  refine x_iconst (v := nI 1) rfl dX8_rolls_65 ?_
                  refine x_iload dX8_rolls_66 rfl ?_
                  refine x_ishl dX8_rolls_68 ?_
                  refine x_ior dX8_rolls_69 ?_
                  refine x_iload dX8_rolls_70 rfl ?_
                  refine x_iconst (v := nI 1) rfl dX8_rolls_72 ?_
                  refine x_isubN (by omega) dX8_rolls_73 ?_
                  refine x_ival (y := nI k) rfl ?_
                  refine x_callV4 lk_X8_415 (ih _ _ (by omega) (by omega)) ho dX8_rolls_74 rfl (Nat.le_of_ble_eq_true rfl) (by omega) (by decide) (by omega) (by omega) ?_
                  refine x_iadd dX8_rolls_77 ?_
                  refine x_ist5 hL (by decide) rfl dX8_rolls_78 ?_
                  refine x_inc6 hL (by decide) rfl dX8_rolls_80 (nI_1 _) ?_
                  refine x_goto (tgt := 28) dX8_rolls_83 (by decide) ?_
                  refine x_eq ?_ ?_ ?_ (ihi)
                  · simp [suF, c2, c36, c45, c55]; first | done | rfl | exact ⟨rfl, rfl⟩
                  · rfl
                  · rfl
    · exact absurd ((nI_e0 (by omega)).mp c2) (by omega)
set_option maxHeartbeats 800000 in
theorem m_wheels {w : xW} {M : mS} {R : xH} {tm pm tn G : Nat} (hF : wF (M.2.2.1 5) tm pm tn G) (w9 : Int32) : CT w yX8_wheels cX8_wheels 4 (some (.int)) [] false (12) 0 0 [.ref 32, .int w9] (hM M R) (xret (some (.int (spWheels (M.2.2.1 5) pm tn w9).1)) (hM (mI (mI M 1 (nI 0)) 0 (nI (spWheels (M.2.2.1 5) pm tn w9).2)) R)) := by
  have l1 := hF.l1
  rcases ix_or w9 (n := 8) (by omega) with ⟨hx, hx2⟩ | ⟨n, hn, rfl, hx⟩
  rotate_left 1
  by_cases h9 : n < 2
  · skip
    refine CT.of (ini := false) (by decide +kernel) q2121 q164 (Nat.le_of_ble_eq_true rfl) (by decide) ?_
    intro Γ hw ho hL hr hh hini hal hd hmc hms hQ
    subst hw
    show AW Γ cX8_wheels 0 0 0 [some (.ref 32), some (.int (nI n)), none, none] [] (hM M R)
    have h0 := hF.c0
    have h1 := hF.c1
    have h3 := hF.c3
    have l0 := hF.l0
    have l1 := hF.l1
    have l3 := hF.l3
    refine x_aload_n dX8_wheels_0 rfl ?_
    refine x_iconst (v := nI 0) rfl dX8_wheels_1 ?_
    refine m_puti (k := 1) (pf_X8_70 (ini := false)) ho hini dX8_wheels_2 rfl rfl (by decide) (ms_1 _ _) ?_
    refine x_aload_n dX8_wheels_5 rfl ?_
    refine x_iconst (v := nI 0) rfl dX8_wheels_6 ?_
    refine m_puti (k := 0) (pf_X8_73 (ini := false)) ho hini dX8_wheels_7 rfl rfl (by decide) (ms_0 _ _) ?_
    refine x_iload_n dX8_wheels_10 rfl ?_
    refine x_i2lN (by omega) dX8_wheels_11 ?_
    refine x_ldc2 (v := lN 2) ho q2122 dX8_wheels_12 ?_
    refine x_ldc2 (v := lN 7) ho q2123 dX8_wheels_15 ?_
    refine x_callS3 lk_X8_105 (m_isIn _ _ _) ho dX8_wheels_18 (Nat.le_of_ble_eq_true rfl) (by omega) (by decide) (by omega) (by omega) ?_
    refine x_ifb_ne (tgt := 30) dX8_wheels_21 (by decide) (fun c21 => ?_) (fun c21 => ?_)
    · try (exfalso; first | (simp (disch := omega) [inS_ix, inS_N, ixL_N, ix_nI, h9, hn] at c21 <;> omega) | (simp (disch := omega) only [h0, h1, h3, Int32.le_iff_toInt_le, Int32.lt_iff_toInt_lt, ← Int32.toInt_inj, nI_toInt, Int32.toInt_zero, m1_toInt, Int64.le_iff_toInt_le, Int64.lt_iff_toInt_lt, ← Int64.toInt_inj, pk_lT, i64_toInt, Int64.toInt_zero, eq_self, not_true_eq_false, not_false_eq_true] at c21 <;> omega) | omega)
      all_goals
        skip
        omega
    · try (exfalso; first | (simp (disch := omega) [inS_ix, inS_N, ixL_N, ix_nI, h9, hn] at c21 <;> omega) | (simp (disch := omega) only [h0, h1, h3, Int32.le_iff_toInt_le, Int32.lt_iff_toInt_lt, ← Int32.toInt_inj, nI_toInt, Int32.toInt_zero, m1_toInt, Int64.le_iff_toInt_le, Int64.lt_iff_toInt_lt, ← Int64.toInt_inj, pk_lT, i64_toInt, Int64.toInt_zero, eq_self, not_true_eq_false, not_false_eq_true] at c21 <;> omega) | omega)
      all_goals
        skip
        refine x_aload_n dX8_wheels_24 rfl ?_
        refine x_iconst (v := nI 5) rfl dX8_wheels_25 ?_
        refine x_callV1 lk_X8_327 (m_refuse _) ho dX8_wheels_26 rfl (Nat.le_of_ble_eq_true rfl) (by omega) (by decide) (by omega) (by omega) ?_
        refine x_iret hr rfl dX8_wheels_29 (by omega) (by omega) (hQ _ _ ?_)
        try dsimp only [mI, mSA] at c21
        exact ⟨by simp [spWheels, hx, h9], by simp [spWheels, hx, h9, mI_mI]⟩
  · skip
    refine CT.of (ini := false) (by decide +kernel) q2121 q164 (Nat.le_of_ble_eq_true rfl) (by decide) ?_
    intro Γ hw ho hL hr hh hini hal hd hmc hms hQ
    subst hw
    show AW Γ cX8_wheels 0 0 0 [some (.ref 32), some (.int (nI n)), none, none] [] (hM M R)
    have h0 := hF.c0
    have h1 := hF.c1
    have h3 := hF.c3
    have l0 := hF.l0
    have l1 := hF.l1
    have l3 := hF.l3
    refine x_aload_n dX8_wheels_0 rfl ?_
    refine x_iconst (v := nI 0) rfl dX8_wheels_1 ?_
    refine m_puti (k := 1) (pf_X8_70 (ini := false)) ho hini dX8_wheels_2 rfl rfl (by decide) (ms_1 _ _) ?_
    refine x_aload_n dX8_wheels_5 rfl ?_
    refine x_iconst (v := nI 0) rfl dX8_wheels_6 ?_
    refine m_puti (k := 0) (pf_X8_73 (ini := false)) ho hini dX8_wheels_7 rfl rfl (by decide) (ms_0 _ _) ?_
    refine x_iload_n dX8_wheels_10 rfl ?_
    refine x_i2lN (by omega) dX8_wheels_11 ?_
    refine x_ldc2 (v := lN 2) ho q2122 dX8_wheels_12 ?_
    refine x_ldc2 (v := lN 7) ho q2123 dX8_wheels_15 ?_
    refine x_callS3 lk_X8_105 (m_isIn _ _ _) ho dX8_wheels_18 (Nat.le_of_ble_eq_true rfl) (by omega) (by decide) (by omega) (by omega) ?_
    refine x_ifb_ne (tgt := 30) dX8_wheels_21 (by decide) (fun c21 => ?_) (fun c21 => ?_)
    · try (exfalso; first | (simp (disch := omega) [inS_ix, inS_N, ixL_N, ix_nI, h9, hn] at c21 <;> omega) | (simp (disch := omega) only [h0, h1, h3, Int32.le_iff_toInt_le, Int32.lt_iff_toInt_lt, ← Int32.toInt_inj, nI_toInt, Int32.toInt_zero, m1_toInt, Int64.le_iff_toInt_le, Int64.lt_iff_toInt_lt, ← Int64.toInt_inj, pk_lT, i64_toInt, Int64.toInt_zero, eq_self, not_true_eq_false, not_false_eq_true] at c21 <;> omega) | omega)
      all_goals
        skip
        refine x_iconst (v := nI 0) rfl dX8_wheels_30 ?_
        refine x_ist2 hL (by decide) rfl dX8_wheels_31 ?_
        refine x_iconst (v := nI 0) rfl dX8_wheels_32 ?_
        refine x_ist3 hL (by decide) rfl dX8_wheels_33 ?_
        refine x_for (n := pm) (fun p => [some (.ref 32), some (.int (nI n)), some (.int (suF (fun p => rolS (M.2.2.1 5) pm tn p (n - 1) p (bi p)) p)), some (.int (nI p))]) (fun p => []) (fun p => hM (mI (mI M 1 (nI 0)) 0 (nI 0)) R) ?_ (fun p hp ihp => ?_)
        · skip
          refine x_iload_n dX8_wheels_34 rfl ?_
          refine x_aload_n dX8_wheels_35 rfl ?_
          refine x_getf gf_X8_35 ho dX8_wheels_36 rfl rfl ?_
          refine x_iconst (v := nI 1) rfl dX8_wheels_39 ?_
          refine x_iald dX8_wheels_40 rfl (by first | rfl | exact nI_add _ _ | (simp only [nI_add, pk_mul]; rfl)) (by omega) (by decide) ?_
          refine x_ival (y := nI pm) h1 ?_
          refine x_icmp_ge (tgt := 65) dX8_wheels_41 (by decide) (fun c41 => ?_) (fun c41 => ?_)
          · skip
            refine x_iload_n dX8_wheels_65 rfl ?_
            refine x_iret hr rfl dX8_wheels_66 (by omega) (by omega) (hQ _ _ ?_)
            try dsimp only [mI, mSA] at c21 c41
            exact ⟨by simp [spWheels, hx, h9], by simp [spWheels, hx, h9]⟩
          · exfalso; first | (simp (disch := omega) [inS_ix, inS_N, ixL_N, ix_nI, h9, hn] at c41 <;> omega) | (simp (disch := omega) only [h0, h1, h3, Int32.le_iff_toInt_le, Int32.lt_iff_toInt_lt, ← Int32.toInt_inj, nI_toInt, Int32.toInt_zero, m1_toInt, Int64.le_iff_toInt_le, Int64.lt_iff_toInt_lt, ← Int64.toInt_inj, pk_lT, i64_toInt, Int64.toInt_zero, eq_self, not_true_eq_false, not_false_eq_true] at c21 c41 <;> omega) | omega
        · skip
          refine x_iload_n dX8_wheels_34 rfl ?_
          refine x_aload_n dX8_wheels_35 rfl ?_
          refine x_getf gf_X8_35 ho dX8_wheels_36 rfl rfl ?_
          refine x_iconst (v := nI 1) rfl dX8_wheels_39 ?_
          refine x_iald dX8_wheels_40 rfl (by first | rfl | exact nI_add _ _ | (simp only [nI_add, pk_mul]; rfl)) (by omega) (by decide) ?_
          refine x_ival (y := nI pm) h1 ?_
          refine x_icmp_ge (tgt := 65) dX8_wheels_41 (by decide) (fun c41 => ?_) (fun c41 => ?_)
          · exfalso; first | (simp (disch := omega) [inS_ix, inS_N, ixL_N, ix_nI, h9, hn] at c41 <;> omega) | (simp (disch := omega) only [h0, h1, h3, Int32.le_iff_toInt_le, Int32.lt_iff_toInt_lt, ← Int32.toInt_inj, nI_toInt, Int32.toInt_zero, m1_toInt, Int64.le_iff_toInt_le, Int64.lt_iff_toInt_lt, ← Int64.toInt_inj, pk_lT, i64_toInt, Int64.toInt_zero, eq_self, not_true_eq_false, not_false_eq_true] at c21 c41 <;> omega) | omega
          · skip
            refine x_iload_n dX8_wheels_44 rfl ?_
            refine x_aload_n dX8_wheels_45 rfl ?_
            refine x_iload_n dX8_wheels_46 rfl ?_
            refine x_iload_n dX8_wheels_47 rfl ?_
            refine x_iconst (v := nI 1) rfl dX8_wheels_48 ?_
            refine x_iload_n dX8_wheels_49 rfl ?_
            refine x_ishl dX8_wheels_50 ?_
            refine x_iload_n dX8_wheels_51 rfl ?_
            refine x_iconst (v := nI 1) rfl dX8_wheels_52 ?_
            refine x_isubN (by omega) dX8_wheels_53 ?_
            refine x_callV4 lk_X8_415 (m_rolls (M := (mI (mI M 1 (nI 0)) 0 (nI 0))) hF _ _ _ _ (by omega) (by omega) (by omega)) ho dX8_wheels_54 rfl (Nat.le_of_ble_eq_true rfl) (by omega) (by decide) (by omega) (by omega) ?_
            refine x_iadd dX8_wheels_57 ?_
            refine x_ist2 hL (by decide) rfl dX8_wheels_58 ?_
            refine x_inc3 hL (by decide) rfl dX8_wheels_59 (nI_1 _) ?_
            refine x_goto (tgt := 34) dX8_wheels_62 (by decide) ?_
            refine x_eq ?_ ?_ ?_ (ihp)
            · rfl
            · rfl
            · rfl
    · try (exfalso; first | (simp (disch := omega) [inS_ix, inS_N, ixL_N, ix_nI, h9, hn] at c21 <;> omega) | (simp (disch := omega) only [h0, h1, h3, Int32.le_iff_toInt_le, Int32.lt_iff_toInt_lt, ← Int32.toInt_inj, nI_toInt, Int32.toInt_zero, m1_toInt, Int64.le_iff_toInt_le, Int64.lt_iff_toInt_lt, ← Int64.toInt_inj, pk_lT, i64_toInt, Int64.toInt_zero, eq_self, not_true_eq_false, not_false_eq_true] at c21 <;> omega) | omega)
      all_goals
        skip
        refine x_aload_n dX8_wheels_24 rfl ?_
        refine x_iconst (v := nI 5) rfl dX8_wheels_25 ?_
        refine x_callV1 lk_X8_327 (m_refuse _) ho dX8_wheels_26 rfl (Nat.le_of_ble_eq_true rfl) (by omega) (by decide) (by omega) (by omega) ?_
        refine x_iret hr rfl dX8_wheels_29 (by omega) (by omega) (hQ _ _ ?_)
        try dsimp only [mI, mSA] at c21
        exact ⟨by simp [spWheels, hx, h9], by simp [spWheels, hx, h9]⟩
  · skip
    refine CT.of (ini := false) (by decide +kernel) q2121 q164 (Nat.le_of_ble_eq_true rfl) (by decide) ?_
    intro Γ hw ho hL hr hh hini hal hd hmc hms hQ
    subst hw
    show AW Γ cX8_wheels 0 0 0 [some (.ref 32), some (.int w9), none, none] [] (hM M R)
    have h0 := hF.c0
    have h1 := hF.c1
    have h3 := hF.c3
    have l0 := hF.l0
    have l1 := hF.l1
    have l3 := hF.l3
    refine x_aload_n dX8_wheels_0 rfl ?_
    refine x_iconst (v := nI 0) rfl dX8_wheels_1 ?_
    refine m_puti (k := 1) (pf_X8_70 (ini := false)) ho hini dX8_wheels_2 rfl rfl (by decide) (ms_1 _ _) ?_
    refine x_aload_n dX8_wheels_5 rfl ?_
    refine x_iconst (v := nI 0) rfl dX8_wheels_6 ?_
    refine m_puti (k := 0) (pf_X8_73 (ini := false)) ho hini dX8_wheels_7 rfl rfl (by decide) (ms_0 _ _) ?_
    refine x_iload_n dX8_wheels_10 rfl ?_
    refine x_i2l dX8_wheels_11 ?_
    refine x_ldc2 (v := lN 2) ho q2122 dX8_wheels_12 ?_
    refine x_ldc2 (v := lN 7) ho q2123 dX8_wheels_15 ?_
    refine x_callS3 lk_X8_105 (m_isIn _ _ _) ho dX8_wheels_18 (Nat.le_of_ble_eq_true rfl) (by omega) (by decide) (by omega) (by omega) ?_
    refine x_ifb_ne (tgt := 30) dX8_wheels_21 (by decide) (fun c21 => ?_) (fun c21 => ?_)
    · try (exfalso; first | (simp (disch := omega) [inS_ix, inS_N, ixL_N, ix_nI, inS_2 hx (show 2 < 2 ^ 31 by decide) (show 7 < 2 ^ 31 by decide)] at c21 <;> omega) | (simp (disch := omega) only [h0, h1, h3, Int32.le_iff_toInt_le, Int32.lt_iff_toInt_lt, ← Int32.toInt_inj, nI_toInt, Int32.toInt_zero, m1_toInt, Int64.le_iff_toInt_le, Int64.lt_iff_toInt_lt, ← Int64.toInt_inj, pk_lT, i64_toInt, Int64.toInt_zero, eq_self, not_true_eq_false, not_false_eq_true] at c21 <;> omega) | omega)
      all_goals
        skip
        exact absurd ((inS_2 hx (show 2 < 2 ^ 31 by decide) (show 7 < 2 ^ 31 by decide)).symm.trans c21) (by decide)
    · try (exfalso; first | (simp (disch := omega) [inS_ix, inS_N, ixL_N, ix_nI, inS_2 hx (show 2 < 2 ^ 31 by decide) (show 7 < 2 ^ 31 by decide)] at c21 <;> omega) | (simp (disch := omega) only [h0, h1, h3, Int32.le_iff_toInt_le, Int32.lt_iff_toInt_lt, ← Int32.toInt_inj, nI_toInt, Int32.toInt_zero, m1_toInt, Int64.le_iff_toInt_le, Int64.lt_iff_toInt_lt, ← Int64.toInt_inj, pk_lT, i64_toInt, Int64.toInt_zero, eq_self, not_true_eq_false, not_false_eq_true] at c21 <;> omega) | omega)
      all_goals
        skip
        refine x_aload_n dX8_wheels_24 rfl ?_
        refine x_iconst (v := nI 5) rfl dX8_wheels_25 ?_
        refine x_callV1 lk_X8_327 (m_refuse _) ho dX8_wheels_26 rfl (Nat.le_of_ble_eq_true rfl) (by omega) (by decide) (by omega) (by omega) ?_
        refine x_iret hr rfl dX8_wheels_29 (by omega) (by omega) (hQ _ _ ?_)
        try dsimp only [mI, mSA] at c21
        exact ⟨by simp [spWheels, hx], by simp [spWheels, hx, mI_mI]⟩
