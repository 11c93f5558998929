/-! ===== the model: givings ===== -/
set_option maxRecDepth 100000
set_option maxHeartbeats 800000 in
theorem m_laysTin {w : xW} {M : mS} {R : xH} {tm pm tn G : Nat} (hF : wF (M.2.2.1 5) tm pm tn G) (t : Nat) (all : Bool) (ht : t < 9) : CT w yX8_laysTin cX8_laysTin 6 none [] false (2) 0 0 [.ref 32, .int (nI t), .int (xb all)] (hM M R) (xret none (hM (mSA M 11 (tinS (M.2.2.1 5) pm t all (M.2.2.1 11))) R)) := by
  refine CT.of (ini := false) (by decide +kernel) q2082 q164 (Nat.le_of_ble_eq_true rfl) (by decide) ?_
  intro Γ hw ho hL hr hh hini hal hd hmc hms hQ
  subst hw
  show AW Γ cX8_laysTin 0 0 0 [some (.ref 32), some (.int (nI t)), some (.int (xb all)), none, none, none] [] (hM M R)
  have h0 := hF.c0
  have h1 := hF.c1
  have h3 := hF.c3
  have l0 := hF.l0
  have l1 := hF.l1
  have l3 := hF.l3
  refine x_bipush (v := nI 127) rfl dX8_laysTin_0 ?_
  refine x_ist3 hL (by decide) rfl dX8_laysTin_2 ?_
  refine x_eq (h' := hM (mSA M 11 (M.2.2.1 11)) R) rfl rfl (congrArg (hM · R) mSA_id.symm) ?_
  refine x_for (n := 128) (fun i => [some (.ref 32), some (.int (nI t)), some (.int (xb all)), some (.int (dnS i)), none, none]) (fun i => []) (fun i => hM (mSA M 11 (itN (tinF (M.2.2.1 5) pm t all) i (M.2.2.1 11))) R) ?_ (fun i hi ihi => ?_)
  · skip
    refine x_iload_n dX8_laysTin_3 rfl ?_
    refine x_if_lt (tgt := 108) dX8_laysTin_4 (by decide) (fun c4 => ?_) (fun c4 => ?_)
    · skip
      refine x_vret hr dX8_laysTin_108 (by omega) (by omega) (hQ _ _ ?_)
      exact ⟨rfl, rfl⟩
    · exfalso; first | (exact absurd (show dnS 128 < 0 by decide +kernel) c4) | (simp (disch := omega) [inS_ix, inS_N, ixL_N, ix_nI, h0] at c4 <;> omega) | (simp (disch := omega) only [h0, h1, h3, Int32.le_iff_toInt_le, Int32.lt_iff_toInt_lt, ← Int32.toInt_inj, nI_toInt, Int32.toInt_zero, m1_toInt, Int64.le_iff_toInt_le, Int64.lt_iff_toInt_lt, ← Int64.toInt_inj, pk_lT, i64_toInt, Int64.toInt_zero, eq_self, not_true_eq_false, not_false_eq_true] at c4 <;> omega) | omega
  · skip
    refine x_eq (l' := [some (.ref 32), some (.int (nI t)), some (.int (xb all)), some (.int (nI (127 - i))), none, none]) (by rw [dnS_b hi]) rfl rfl ?_
    refine x_iload_n dX8_laysTin_3 rfl ?_
    refine x_if_lt (tgt := 108) dX8_laysTin_4 (by decide) (fun c4 => ?_) (fun c4 => ?_)
    · exfalso; first | (exact absurd (show dnS 128 < 0 by decide +kernel) c4) | (simp (disch := omega) [inS_ix, inS_N, ixL_N, ix_nI, h0] at c4 <;> omega) | (simp (disch := omega) only [h0, h1, h3, Int32.le_iff_toInt_le, Int32.lt_iff_toInt_lt, ← Int32.toInt_inj, nI_toInt, Int32.toInt_zero, m1_toInt, Int64.le_iff_toInt_le, Int64.lt_iff_toInt_lt, ← Int64.toInt_inj, pk_lT, i64_toInt, Int64.toInt_zero, eq_self, not_true_eq_false, not_false_eq_true] at c4 <;> omega) | omega
    · skip
      refine x_iload_n dX8_laysTin_7 rfl ?_
      refine x_ifb_eq (tgt := 15) dX8_laysTin_8 (by decide) (fun c8 => ?_) (fun c8 => ?_)
      · skip
        skip
        refine x_aload_n dX8_laysTin_15 rfl ?_
        refine x_getf gf_X8_53 ho dX8_laysTin_16 rfl rfl ?_
        refine x_iload_n dX8_laysTin_19 rfl ?_
        refine x_iald dX8_laysTin_20 rfl (by first | rfl | exact nI_add _ _ | (simp only [nI_add, pk_mul]; rfl)) (by omega) (by decide) ?_
        refine x_ival (y := (itN (tinF (M.2.2.1 5) pm t all) i (M.2.2.1 11)) (127 - i)) (congrFun (upA_s (f := M.2.2.1) (r := 11) (x := (itN (tinF (M.2.2.1 5) pm t all) i (M.2.2.1 11)))) (127 - i)) ?_
        refine x_ival (y := (tinV (M.2.2.1 5) pm t all (itN (tinF (M.2.2.1 5) pm t all) i (M.2.2.1 11)) (127 - i) 0)) (by simp [tinV, itN, c8]) ?_
        refine x_ist4 hL (by decide) rfl dX8_laysTin_21 ?_
        refine x_iconst (v := nI 0) rfl dX8_laysTin_23 ?_
        refine x_ist5 hL (by decide) rfl dX8_laysTin_24 ?_
        refine x_for (n := pm) (fun p => [some (.ref 32), some (.int (nI t)), some (.int (xb all)), some (.int (nI (127 - i))), some (.int (tinV (M.2.2.1 5) pm t all (itN (tinF (M.2.2.1 5) pm t all) i (M.2.2.1 11)) (127 - i) p)), some (.int (nI p))]) (fun p => []) (fun p => hM (mSA M 11 (itN (tinF (M.2.2.1 5) pm t all) i (M.2.2.1 11))) R) ?_ (fun p hp ihp => ?_)
        · skip
          refine x_iload dX8_laysTin_26 rfl ?_
          refine x_aload_n dX8_laysTin_28 rfl ?_
          refine x_getf gf_X8_35 ho dX8_laysTin_29 rfl rfl ?_
          refine x_iconst (v := nI 1) rfl dX8_laysTin_32 ?_
          refine x_iald dX8_laysTin_33 rfl (by first | rfl | exact nI_add _ _ | (simp only [nI_add, pk_mul]; rfl)) (by omega) (by decide) ?_
          refine x_ival (y := nI pm) h1 ?_
          refine x_icmp_ge (tgt := 80) dX8_laysTin_34 (by decide) (fun c34 => ?_) (fun c34 => ?_)
          · skip
            refine x_aload_n dX8_laysTin_80 rfl ?_
            refine x_getf gf_X8_53 ho dX8_laysTin_81 rfl rfl ?_
            refine x_iload_n dX8_laysTin_84 rfl ?_
            refine x_iload_n dX8_laysTin_85 rfl ?_
            refine x_ifb_ne (tgt := 95) dX8_laysTin_86 (by decide) (fun c86 => ?_) (fun c86 => ?_)
            · try (exfalso; first | (exact absurd (c8.symm.trans c86) (by decide)) | (simp (disch := omega) [inS_ix, inS_N, ixL_N, ix_nI, h0] at c86 <;> omega) | (simp (disch := omega) only [h0, h1, h3, Int32.le_iff_toInt_le, Int32.lt_iff_toInt_lt, ← Int32.toInt_inj, nI_toInt, Int32.toInt_zero, m1_toInt, Int64.le_iff_toInt_le, Int64.lt_iff_toInt_lt, ← Int64.toInt_inj, pk_lT, i64_toInt, Int64.toInt_zero, eq_self, not_true_eq_false, not_false_eq_true] at c4 c8 c34 c86 <;> omega) | omega)
              all_goals
                skip
                refine x_iload dX8_laysTin_95 rfl ?_
                refine x_goto (tgt := 101) dX8_laysTin_97 (by decide) ?_
                refine m_iast (r := 11) dX8_laysTin_101 (by decide) (by decide) (fun _ => rfl) (by first | rfl | exact nI_add _ _ | (simp only [nI_add, pk_mul]; rfl)) (by omega) (by decide) ?_
                refine x_inc3 hL (by decide) rfl dX8_laysTin_102 (dnS_s i hi) ?_
                refine x_goto (tgt := 3) dX8_laysTin_105 (by decide) ?_
                refine x_drop (k := 4) ?_
                refine x_drop (k := 5) ?_
                refine x_eq ?_ ?_ ?_ (ihi)
                · first | rfl | (simp [c4, c8, c34, c86]; done)
                · rfl
                · rw [mA_SA]; exact congrArg (fun g => hM (mSA M 11 g) R) (by rw [itN, tinF]; first | (rw [if_pos c86]; done) | (rw [if_neg (by rw [c86]; decide), if_pos c92]; done) | (rw [if_neg (by rw [c86]; decide), if_neg c92]; done))
            · try (exfalso; first | (exact absurd (c8.symm.trans c86) (by decide)) | (simp (disch := omega) [inS_ix, inS_N, ixL_N, ix_nI, h0] at c86 <;> omega) | (simp (disch := omega) only [h0, h1, h3, Int32.le_iff_toInt_le, Int32.lt_iff_toInt_lt, ← Int32.toInt_inj, nI_toInt, Int32.toInt_zero, m1_toInt, Int64.le_iff_toInt_le, Int64.lt_iff_toInt_lt, ← Int64.toInt_inj, pk_lT, i64_toInt, Int64.toInt_zero, eq_self, not_true_eq_false, not_false_eq_true] at c4 c8 c34 c86 <;> omega) | omega)
              all_goals
                skip
                refine x_iload dX8_laysTin_89 rfl ?_
                refine x_iconst (v := nI 1) rfl dX8_laysTin_91 ?_
                refine x_icmp_ge (tgt := 100) dX8_laysTin_92 (by decide) (fun c92 => ?_) (fun c92 => ?_)
                · skip
                  skip
                  have c92 := Int32.not_lt.mpr c92
                  refine x_iconst (v := nI 1) rfl dX8_laysTin_100 ?_
                  refine m_iast (r := 11) dX8_laysTin_101 (by decide) (by decide) (fun _ => rfl) (by first | rfl | exact nI_add _ _ | (simp only [nI_add, pk_mul]; rfl)) (by omega) (by decide) ?_
                  refine x_inc3 hL (by decide) rfl dX8_laysTin_102 (dnS_s i hi) ?_
                  refine x_goto (tgt := 3) dX8_laysTin_105 (by decide) ?_
                  refine x_drop (k := 4) ?_
                  refine x_drop (k := 5) ?_
                  refine x_eq ?_ ?_ ?_ (ihi)
                  · first | rfl | (simp [c4, c8, c34, c86, c92]; done)
                  · rfl
                  · rw [mA_SA]; exact congrArg (fun g => hM (mSA M 11 g) R) (by rw [itN, tinF]; first | (rw [if_pos c86]; done) | (rw [if_neg (by rw [c86]; decide), if_pos c92]; done) | (rw [if_neg (by rw [c86]; decide), if_neg c92]; done))
                · skip
                  skip
                  have c92 := Int32.not_le.mp c92
                  refine x_iload dX8_laysTin_95 rfl ?_
                  refine x_goto (tgt := 101) dX8_laysTin_97 (by decide) ?_
                  refine m_iast (r := 11) dX8_laysTin_101 (by decide) (by decide) (fun _ => rfl) (by first | rfl | exact nI_add _ _ | (simp only [nI_add, pk_mul]; rfl)) (by omega) (by decide) ?_
                  refine x_inc3 hL (by decide) rfl dX8_laysTin_102 (dnS_s i hi) ?_
                  refine x_goto (tgt := 3) dX8_laysTin_105 (by decide) ?_
                  refine x_drop (k := 4) ?_
                  refine x_drop (k := 5) ?_
                  refine x_eq ?_ ?_ ?_ (ihi)
                  · first | rfl | (simp [c4, c8, c34, c86, c92]; done)
                  · rfl
                  · rw [mA_SA]; exact congrArg (fun g => hM (mSA M 11 g) R) (by rw [itN, tinF]; first | (rw [if_pos c86]; done) | (rw [if_neg (by rw [c86]; decide), if_pos c92]; done) | (rw [if_neg (by rw [c86]; decide), if_neg c92]; done))
          · exfalso; first | (simp (disch := omega) [inS_ix, inS_N, ixL_N, ix_nI, h0] at c34 <;> omega) | (simp (disch := omega) only [h0, h1, h3, Int32.le_iff_toInt_le, Int32.lt_iff_toInt_lt, ← Int32.toInt_inj, nI_toInt, Int32.toInt_zero, m1_toInt, Int64.le_iff_toInt_le, Int64.lt_iff_toInt_lt, ← Int64.toInt_inj, pk_lT, i64_toInt, Int64.toInt_zero, eq_self, not_true_eq_false, not_false_eq_true] at c4 c8 c34 <;> omega) | omega
        · skip
          refine x_iload dX8_laysTin_26 rfl ?_
          refine x_aload_n dX8_laysTin_28 rfl ?_
          refine x_getf gf_X8_35 ho dX8_laysTin_29 rfl rfl ?_
          refine x_iconst (v := nI 1) rfl dX8_laysTin_32 ?_
          refine x_iald dX8_laysTin_33 rfl (by first | rfl | exact nI_add _ _ | (simp only [nI_add, pk_mul]; rfl)) (by omega) (by decide) ?_
          refine x_ival (y := nI pm) h1 ?_
          refine x_icmp_ge (tgt := 80) dX8_laysTin_34 (by decide) (fun c34 => ?_) (fun c34 => ?_)
          · exfalso; first | (simp (disch := omega) [inS_ix, inS_N, ixL_N, ix_nI, h0] at c34 <;> omega) | (simp (disch := omega) only [h0, h1, h3, Int32.le_iff_toInt_le, Int32.lt_iff_toInt_lt, ← Int32.toInt_inj, nI_toInt, Int32.toInt_zero, m1_toInt, Int64.le_iff_toInt_le, Int64.lt_iff_toInt_lt, ← Int64.toInt_inj, pk_lT, i64_toInt, Int64.toInt_zero, eq_self, not_true_eq_false, not_false_eq_true] at c4 c8 c34 <;> omega) | omega
          · skip
            refine x_iload_n dX8_laysTin_37 rfl ?_
            refine x_iload dX8_laysTin_38 rfl ?_
            refine x_callS2 lk_X8_109 (m_has _ _) ho dX8_laysTin_40 (Nat.le_of_ble_eq_true rfl) (by omega) (by decide) (by omega) (by omega) ?_
            refine x_ifb_eq (tgt := 74) dX8_laysTin_43 (by decide) (fun c43 => ?_) (fun c43 => ?_)
            · skip
              skip
              refine x_inc5 hL (by decide) rfl dX8_laysTin_74 (nI_1 _) ?_
              refine x_goto (tgt := 26) dX8_laysTin_77 (by decide) ?_
              refine x_eq ?_ ?_ ?_ (ihp)
              · simp [tinV, itN, c4, c8, c34, c43]
              · rfl
              · rfl
            · skip
              skip
              refine x_aload_n dX8_laysTin_46 rfl ?_
              refine x_iload_n dX8_laysTin_47 rfl ?_
              refine x_iload dX8_laysTin_48 rfl ?_
              refine x_callV2 lk_X8_354 (m_isTrue (M := mSA M 11 (itN (tinF (M.2.2.1 5) pm t all) i (M.2.2.1 11))) (wF_8 hF 11 (by decide) _) _ _ (by omega) (by omega)) ho dX8_laysTin_50 rfl (Nat.le_of_ble_eq_true rfl) (by omega) (by decide) (by omega) (by omega) ?_
              refine x_ival (y := xb (trB (M.2.2.1 5) t p)) rfl ?_
              refine x_ifb_eq (tgt := 74) dX8_laysTin_53 (by decide) (fun c53 => ?_) (fun c53 => ?_)
              · skip
                skip
                refine x_inc5 hL (by decide) rfl dX8_laysTin_74 (nI_1 _) ?_
                refine x_goto (tgt := 26) dX8_laysTin_77 (by decide) ?_
                refine x_eq ?_ ?_ ?_ (ihp)
                · simp [tinV, itN, c4, c8, c34, c43, c53]
                · rfl
                · rfl
              · skip
                skip
                refine x_iload dX8_laysTin_56 rfl ?_
                refine x_aload_n dX8_laysTin_58 rfl ?_
                refine x_getf gf_X8_53 ho dX8_laysTin_59 rfl rfl ?_
                refine x_iload_n dX8_laysTin_62 rfl ?_
                refine x_iconst (v := nI 1) rfl dX8_laysTin_63 ?_
                refine x_iload dX8_laysTin_64 rfl ?_
                refine x_ishl dX8_laysTin_66 ?_
                refine x_iconst (v := (-1)) rfl dX8_laysTin_67 ?_
                refine x_ixor dX8_laysTin_68 ?_
                refine x_iand dX8_laysTin_69 ?_
                obtain ⟨u, hu, eu⟩ := and_N (s := 127 - i) (y := bi p ^^^ (-1)) (by omega)
                have eu2 : u = cl (nI (127 - i) &&& (bi p ^^^ (-1))) := by rw [eu, cl_nI (by omega)]
                refine x_ival (y := nI u) eu ?_
                refine x_iald dX8_laysTin_70 rfl (by first | rfl | exact nI_add _ _ | (simp only [nI_add, pk_mul]; rfl)) (by omega) (by decide) ?_
                refine x_ival (y := (itN (tinF (M.2.2.1 5) pm t all) i (M.2.2.1 11)) u) (congrFun (upA_s (f := M.2.2.1) (r := 11) (x := (itN (tinF (M.2.2.1 5) pm t all) i (M.2.2.1 11)))) u) ?_
                subst eu2
                refine x_iadd dX8_laysTin_71 ?_
                refine x_ist4 hL (by decide) rfl dX8_laysTin_72 ?_
                refine x_inc5 hL (by decide) rfl dX8_laysTin_74 (nI_1 _) ?_
                refine x_goto (tgt := 26) dX8_laysTin_77 (by decide) ?_
                refine x_eq ?_ ?_ ?_ (ihp)
                · simp [tinV, itN, c4, c8, c34, c43, c53]
                · rfl
                · rfl
      · skip
        skip
        refine x_iconst (v := nI 0) rfl dX8_laysTin_11 ?_
        refine x_goto (tgt := 21) dX8_laysTin_12 (by decide) ?_
        refine x_ival (y := (tinV (M.2.2.1 5) pm t all (itN (tinF (M.2.2.1 5) pm t all) i (M.2.2.1 11)) (127 - i) 0)) (by simp [tinV, itN, c8]) ?_
        refine x_ist4 hL (by decide) rfl dX8_laysTin_21 ?_
        refine x_iconst (v := nI 0) rfl dX8_laysTin_23 ?_
        refine x_ist5 hL (by decide) rfl dX8_laysTin_24 ?_
        refine x_for (n := pm) (fun p => [some (.ref 32), some (.int (nI t)), some (.int (xb all)), some (.int (nI (127 - i))), some (.int (tinV (M.2.2.1 5) pm t all (itN (tinF (M.2.2.1 5) pm t all) i (M.2.2.1 11)) (127 - i) p)), some (.int (nI p))]) (fun p => []) (fun p => hM (mSA M 11 (itN (tinF (M.2.2.1 5) pm t all) i (M.2.2.1 11))) R) ?_ (fun p hp ihp => ?_)
        · skip
          refine x_iload dX8_laysTin_26 rfl ?_
          refine x_aload_n dX8_laysTin_28 rfl ?_
          refine x_getf gf_X8_35 ho dX8_laysTin_29 rfl rfl ?_
          refine x_iconst (v := nI 1) rfl dX8_laysTin_32 ?_
          refine x_iald dX8_laysTin_33 rfl (by first | rfl | exact nI_add _ _ | (simp only [nI_add, pk_mul]; rfl)) (by omega) (by decide) ?_
          refine x_ival (y := nI pm) h1 ?_
          refine x_icmp_ge (tgt := 80) dX8_laysTin_34 (by decide) (fun c34 => ?_) (fun c34 => ?_)
          · skip
            refine x_aload_n dX8_laysTin_80 rfl ?_
            refine x_getf gf_X8_53 ho dX8_laysTin_81 rfl rfl ?_
            refine x_iload_n dX8_laysTin_84 rfl ?_
            refine x_iload_n dX8_laysTin_85 rfl ?_
            refine x_ifb_ne (tgt := 95) dX8_laysTin_86 (by decide) (fun c86 => ?_) (fun c86 => ?_)
            · try (exfalso; first | (exact absurd (c8.symm.trans c86) (by decide)) | (simp (disch := omega) [inS_ix, inS_N, ixL_N, ix_nI, h0] at c86 <;> omega) | (simp (disch := omega) only [h0, h1, h3, Int32.le_iff_toInt_le, Int32.lt_iff_toInt_lt, ← Int32.toInt_inj, nI_toInt, Int32.toInt_zero, m1_toInt, Int64.le_iff_toInt_le, Int64.lt_iff_toInt_lt, ← Int64.toInt_inj, pk_lT, i64_toInt, Int64.toInt_zero, eq_self, not_true_eq_false, not_false_eq_true] at c4 c8 c34 c86 <;> omega) | omega)
              all_goals
                skip
                refine x_iload dX8_laysTin_95 rfl ?_
                refine x_goto (tgt := 101) dX8_laysTin_97 (by decide) ?_
                refine m_iast (r := 11) dX8_laysTin_101 (by decide) (by decide) (fun _ => rfl) (by first | rfl | exact nI_add _ _ | (simp only [nI_add, pk_mul]; rfl)) (by omega) (by decide) ?_
                refine x_inc3 hL (by decide) rfl dX8_laysTin_102 (dnS_s i hi) ?_
                refine x_goto (tgt := 3) dX8_laysTin_105 (by decide) ?_
                refine x_drop (k := 4) ?_
                refine x_drop (k := 5) ?_
                refine x_eq ?_ ?_ ?_ (ihi)
                · first | rfl | (simp [c4, c8, c34, c86]; done)
                · rfl
                · rw [mA_SA]; exact congrArg (fun g => hM (mSA M 11 g) R) (by rw [itN, tinF]; first | (rw [if_pos c86]; done) | (rw [if_neg (by rw [c86]; decide), if_pos c92]; done) | (rw [if_neg (by rw [c86]; decide), if_neg c92]; done))
            · try (exfalso; first | (exact absurd (c8.symm.trans c86) (by decide)) | (simp (disch := omega) [inS_ix, inS_N, ixL_N, ix_nI, h0] at c86 <;> omega) | (simp (disch := omega) only [h0, h1, h3, Int32.le_iff_toInt_le, Int32.lt_iff_toInt_lt, ← Int32.toInt_inj, nI_toInt, Int32.toInt_zero, m1_toInt, Int64.le_iff_toInt_le, Int64.lt_iff_toInt_lt, ← Int64.toInt_inj, pk_lT, i64_toInt, Int64.toInt_zero, eq_self, not_true_eq_false, not_false_eq_true] at c4 c8 c34 c86 <;> omega) | omega)
              all_goals
                skip
                refine x_iload dX8_laysTin_89 rfl ?_
                refine x_iconst (v := nI 1) rfl dX8_laysTin_91 ?_
                refine x_icmp_ge (tgt := 100) dX8_laysTin_92 (by decide) (fun c92 => ?_) (fun c92 => ?_)
                · skip
                  skip
                  have c92 := Int32.not_lt.mpr c92
                  refine x_iconst (v := nI 1) rfl dX8_laysTin_100 ?_
                  refine m_iast (r := 11) dX8_laysTin_101 (by decide) (by decide) (fun _ => rfl) (by first | rfl | exact nI_add _ _ | (simp only [nI_add, pk_mul]; rfl)) (by omega) (by decide) ?_
                  refine x_inc3 hL (by decide) rfl dX8_laysTin_102 (dnS_s i hi) ?_
                  refine x_goto (tgt := 3) dX8_laysTin_105 (by decide) ?_
                  refine x_drop (k := 4) ?_
                  refine x_drop (k := 5) ?_
                  refine x_eq ?_ ?_ ?_ (ihi)
                  · first | rfl | (simp [c4, c8, c34, c86, c92]; done)
                  · rfl
                  · rw [mA_SA]; exact congrArg (fun g => hM (mSA M 11 g) R) (by rw [itN, tinF]; first | (rw [if_pos c86]; done) | (rw [if_neg (by rw [c86]; decide), if_pos c92]; done) | (rw [if_neg (by rw [c86]; decide), if_neg c92]; done))
                · skip
                  skip
                  have c92 := Int32.not_le.mp c92
                  refine x_iload dX8_laysTin_95 rfl ?_
                  refine x_goto (tgt := 101) dX8_laysTin_97 (by decide) ?_
                  refine m_iast (r := 11) dX8_laysTin_101 (by decide) (by decide) (fun _ => rfl) (by first | rfl | exact nI_add _ _ | (simp only [nI_add, pk_mul]; rfl)) (by omega) (by decide) ?_
                  refine x_inc3 hL (by decide) rfl dX8_laysTin_102 (dnS_s i hi) ?_
                  refine x_goto (tgt := 3) dX8_laysTin_105 (by decide) ?_
                  refine x_drop (k := 4) ?_
                  refine x_drop (k := 5) ?_
                  refine x_eq ?_ ?_ ?_ (ihi)
                  · first | rfl | (simp [c4, c8, c34, c86, c92]; done)
                  · rfl
                  · rw [mA_SA]; exact congrArg (fun g => hM (mSA M 11 g) R) (by rw [itN, tinF]; first | (rw [if_pos c86]; done) | (rw [if_neg (by rw [c86]; decide), if_pos c92]; done) | (rw [if_neg (by rw [c86]; decide), if_neg c92]; done))
          · exfalso; first | (simp (disch := omega) [inS_ix, inS_N, ixL_N, ix_nI, h0] at c34 <;> omega) | (simp (disch := omega) only [h0, h1, h3, Int32.le_iff_toInt_le, Int32.lt_iff_toInt_lt, ← Int32.toInt_inj, nI_toInt, Int32.toInt_zero, m1_toInt, Int64.le_iff_toInt_le, Int64.lt_iff_toInt_lt, ← Int64.toInt_inj, pk_lT, i64_toInt, Int64.toInt_zero, eq_self, not_true_eq_false, not_false_eq_true] at c4 c8 c34 <;> omega) | omega
        · skip
          refine x_iload dX8_laysTin_26 rfl ?_
          refine x_aload_n dX8_laysTin_28 rfl ?_
          refine x_getf gf_X8_35 ho dX8_laysTin_29 rfl rfl ?_
          refine x_iconst (v := nI 1) rfl dX8_laysTin_32 ?_
          refine x_iald dX8_laysTin_33 rfl (by first | rfl | exact nI_add _ _ | (simp only [nI_add, pk_mul]; rfl)) (by omega) (by decide) ?_
          refine x_ival (y := nI pm) h1 ?_
          refine x_icmp_ge (tgt := 80) dX8_laysTin_34 (by decide) (fun c34 => ?_) (fun c34 => ?_)
          · exfalso; first | (simp (disch := omega) [inS_ix, inS_N, ixL_N, ix_nI, h0] at c34 <;> omega) | (simp (disch := omega) only [h0, h1, h3, Int32.le_iff_toInt_le, Int32.lt_iff_toInt_lt, ← Int32.toInt_inj, nI_toInt, Int32.toInt_zero, m1_toInt, Int64.le_iff_toInt_le, Int64.lt_iff_toInt_lt, ← Int64.toInt_inj, pk_lT, i64_toInt, Int64.toInt_zero, eq_self, not_true_eq_false, not_false_eq_true] at c4 c8 c34 <;> omega) | omega
          · skip
            refine x_iload_n dX8_laysTin_37 rfl ?_
            refine x_iload dX8_laysTin_38 rfl ?_
            refine x_callS2 lk_X8_109 (m_has _ _) ho dX8_laysTin_40 (Nat.le_of_ble_eq_true rfl) (by omega) (by decide) (by omega) (by omega) ?_
            refine x_ifb_eq (tgt := 74) dX8_laysTin_43 (by decide) (fun c43 => ?_) (fun c43 => ?_)
            · skip
              skip
              refine x_inc5 hL (by decide) rfl dX8_laysTin_74 (nI_1 _) ?_
              refine x_goto (tgt := 26) dX8_laysTin_77 (by decide) ?_
              refine x_eq ?_ ?_ ?_ (ihp)
              · simp [tinV, itN, c4, c8, c34, c43]
              · rfl
              · rfl
            · skip
              skip
              refine x_aload_n dX8_laysTin_46 rfl ?_
              refine x_iload_n dX8_laysTin_47 rfl ?_
              refine x_iload dX8_laysTin_48 rfl ?_
              refine x_callV2 lk_X8_354 (m_isTrue (M := mSA M 11 (itN (tinF (M.2.2.1 5) pm t all) i (M.2.2.1 11))) (wF_8 hF 11 (by decide) _) _ _ (by omega) (by omega)) ho dX8_laysTin_50 rfl (Nat.le_of_ble_eq_true rfl) (by omega) (by decide) (by omega) (by omega) ?_
              refine x_ival (y := xb (trB (M.2.2.1 5) t p)) rfl ?_
              refine x_ifb_eq (tgt := 74) dX8_laysTin_53 (by decide) (fun c53 => ?_) (fun c53 => ?_)
              · skip
                skip
                refine x_inc5 hL (by decide) rfl dX8_laysTin_74 (nI_1 _) ?_
                refine x_goto (tgt := 26) dX8_laysTin_77 (by decide) ?_
                refine x_eq ?_ ?_ ?_ (ihp)
                · simp [tinV, itN, c4, c8, c34, c43, c53]
                · rfl
                · rfl
              · skip
                skip
                refine x_iload dX8_laysTin_56 rfl ?_
                refine x_aload_n dX8_laysTin_58 rfl ?_
                refine x_getf gf_X8_53 ho dX8_laysTin_59 rfl rfl ?_
                refine x_iload_n dX8_laysTin_62 rfl ?_
                refine x_iconst (v := nI 1) rfl dX8_laysTin_63 ?_
                refine x_iload dX8_laysTin_64 rfl ?_
                refine x_ishl dX8_laysTin_66 ?_
                refine x_iconst (v := (-1)) rfl dX8_laysTin_67 ?_
                refine x_ixor dX8_laysTin_68 ?_
                refine x_iand dX8_laysTin_69 ?_
                obtain ⟨u, hu, eu⟩ := and_N (s := 127 - i) (y := bi p ^^^ (-1)) (by omega)
                have eu2 : u = cl (nI (127 - i) &&& (bi p ^^^ (-1))) := by rw [eu, cl_nI (by omega)]
                refine x_ival (y := nI u) eu ?_
                refine x_iald dX8_laysTin_70 rfl (by first | rfl | exact nI_add _ _ | (simp only [nI_add, pk_mul]; rfl)) (by omega) (by decide) ?_
                refine x_ival (y := (itN (tinF (M.2.2.1 5) pm t all) i (M.2.2.1 11)) u) (congrFun (upA_s (f := M.2.2.1) (r := 11) (x := (itN (tinF (M.2.2.1 5) pm t all) i (M.2.2.1 11)))) u) ?_
                subst eu2
                refine x_iadd dX8_laysTin_71 ?_
                refine x_ist4 hL (by decide) rfl dX8_laysTin_72 ?_
                refine x_inc5 hL (by decide) rfl dX8_laysTin_74 (nI_1 _) ?_
                refine x_goto (tgt := 26) dX8_laysTin_77 (by decide) ?_
                refine x_eq ?_ ?_ ?_ (ihp)
                · simp [tinV, itN, c4, c8, c34, c43, c53]
                · rfl
                · rfl
