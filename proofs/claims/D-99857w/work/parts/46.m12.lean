/-! ===== the model: givings, all ===== -/
set_option maxRecDepth 100000
set_option maxHeartbeats 800000 in
theorem m_laysGivings {w : xW} {M : mS} {R : xH} {tm pm tn G : Nat} (hF : wF (M.2.2.1 5) tm pm tn G) (tins : Int32) (fr us : Nat) (all : Bool) (hf : fr ≤ tn) (hu : us < 128) : CT w yX8_laysGivings cX8_laysGivings 7 (some (.int)) [] false (3) 0 0 [.ref 32, .int tins, .int (nI fr), .int (nI us), .int (xb all)] (hM M R) (xret (some (.int (gvR all us (gvS (M.2.2.1 5) pm tn all tins fr us (M.2.2.1 11)) 128))) (hM (mSA M 11 (gvS (M.2.2.1 5) pm tn all tins fr us (M.2.2.1 11))) R)) := by
  refine CT.of (ini := false) (by decide +kernel) q2078 q164 (Nat.le_of_ble_eq_true rfl) (by decide) ?_
  intro Γ hw ho hL hr hh hini hal hd hmc hms hQ
  subst hw
  show AW Γ cX8_laysGivings 0 0 0 [some (.ref 32), some (.int tins), some (.int (nI fr)), some (.int (nI us)), some (.int (xb all)), none, none] [] (hM M R)
  have h0 := hF.c0
  have h1 := hF.c1
  have h3 := hF.c3
  have l0 := hF.l0
  have l1 := hF.l1
  have l3 := hF.l3
  refine x_iconst (v := nI 0) rfl dX8_laysGivings_0 ?_
  refine x_ist5 hL (by decide) rfl dX8_laysGivings_1 ?_
  refine x_eq (h' := hM (mSA M 11 (gv0 (M.2.2.1 11) us 0)) R) rfl rfl (by rw [show gv0 (M.2.2.1 11) us 0 = M.2.2.1 11 from lay_0]; exact congrArg (hM · R) mSA_id.symm) ?_
  refine x_for (n := 128) (fun i => [some (.ref 32), some (.int tins), some (.int (nI fr)), some (.int (nI us)), some (.int (xb all)), some (.int (nI i)), none]) (fun i => []) (fun i => hM (mSA M 11 (gv0 (M.2.2.1 11) us i)) R) ?_ (fun i hi ihi => ?_)
  · skip
    refine x_iload dX8_laysGivings_3 rfl ?_
    refine x_sipush (v := nI 128) rfl dX8_laysGivings_5 ?_
    refine x_icmp_ge (tgt := 35) dX8_laysGivings_8 (by decide) (fun c8 => ?_) (fun c8 => ?_)
    · skip
      refine x_iload_n dX8_laysGivings_35 rfl ?_
      refine x_ist5 hL (by decide) rfl dX8_laysGivings_36 ?_
      refine x_eq (h' := hM (mSA M 11 (gvW (M.2.2.1 5) pm all tins fr 0 (gv0 (M.2.2.1 11) us 128))) R) rfl rfl rfl ?_
      refine x_for (n := (tn - fr)) (fun k => [some (.ref 32), some (.int tins), some (.int (nI fr)), some (.int (nI us)), some (.int (xb all)), some (.int (nI (fr + k))), none]) (fun k => []) (fun k => hM (mSA M 11 (gvW (M.2.2.1 5) pm all tins fr k (gv0 (M.2.2.1 11) us 128))) R) ?_ (fun k hk ihk => ?_)
      · skip
        refine x_iload dX8_laysGivings_38 rfl ?_
        refine x_aload_n dX8_laysGivings_40 rfl ?_
        refine x_getf gf_X8_35 ho dX8_laysGivings_41 rfl rfl ?_
        refine x_iconst (v := nI 3) rfl dX8_laysGivings_44 ?_
        refine x_iald dX8_laysGivings_45 rfl (by first | rfl | exact nI_add _ _ | (simp only [nI_add, pk_mul]; rfl)) (by omega) (by decide) ?_
        refine x_ival (y := nI tn) h3 ?_
        refine x_icmp_ge (tgt := 72) dX8_laysGivings_46 (by decide) (fun c46 => ?_) (fun c46 => ?_)
        · skip
          refine x_iconst (v := nI 0) rfl dX8_laysGivings_72 ?_
          refine x_ist5 hL (by decide) rfl dX8_laysGivings_73 ?_
          refine x_iconst (v := nI 0) rfl dX8_laysGivings_75 ?_
          refine x_ist6 hL (by decide) rfl dX8_laysGivings_76 ?_
          refine x_for (n := 128) (fun s => [some (.ref 32), some (.int tins), some (.int (nI fr)), some (.int (nI us)), some (.int (xb all)), some (.int (gvR all us (gvS (M.2.2.1 5) pm tn all tins fr us (M.2.2.1 11)) s)), some (.int (nI s))]) (fun s => []) (fun s => hM (mSA M 11 (gvS (M.2.2.1 5) pm tn all tins fr us (M.2.2.1 11))) R) ?_ (fun s hs ihs => ?_)
          · skip
            refine x_iload dX8_laysGivings_78 rfl ?_
            refine x_sipush (v := nI 128) rfl dX8_laysGivings_80 ?_
            refine x_icmp_ge (tgt := 141) dX8_laysGivings_83 (by decide) (fun c83 => ?_) (fun c83 => ?_)
            · skip
              refine x_iload dX8_laysGivings_141 rfl ?_
              refine x_iret hr rfl dX8_laysGivings_143 (by omega) (by omega) (hQ _ _ ?_)
              exact ⟨rfl, rfl⟩
            · exfalso; first | (simp (disch := omega) [inS_ix, inS_N, ixL_N, ix_nI, h3] at c83 <;> omega) | (simp (disch := omega) only [h0, h1, h3, Int32.le_iff_toInt_le, Int32.lt_iff_toInt_lt, ← Int32.toInt_inj, nI_toInt, Int32.toInt_zero, m1_toInt, Int64.le_iff_toInt_le, Int64.lt_iff_toInt_lt, ← Int64.toInt_inj, pk_lT, i64_toInt, Int64.toInt_zero, eq_self, not_true_eq_false, not_false_eq_true] at c8 c46 c83 <;> omega) | omega
          · skip
            refine x_iload dX8_laysGivings_78 rfl ?_
            refine x_sipush (v := nI 128) rfl dX8_laysGivings_80 ?_
            refine x_icmp_ge (tgt := 141) dX8_laysGivings_83 (by decide) (fun c83 => ?_) (fun c83 => ?_)
            · exfalso; first | (simp (disch := omega) [inS_ix, inS_N, ixL_N, ix_nI, h3] at c83 <;> omega) | (simp (disch := omega) only [h0, h1, h3, Int32.le_iff_toInt_le, Int32.lt_iff_toInt_lt, ← Int32.toInt_inj, nI_toInt, Int32.toInt_zero, m1_toInt, Int64.le_iff_toInt_le, Int64.lt_iff_toInt_lt, ← Int64.toInt_inj, pk_lT, i64_toInt, Int64.toInt_zero, eq_self, not_true_eq_false, not_false_eq_true] at c8 c46 c83 <;> omega) | omega
            · skip
              refine x_iload dX8_laysGivings_86 rfl ?_
              refine x_ifb_eq (tgt := 104) dX8_laysGivings_88 (by decide) (fun c88 => ?_) (fun c88 => ?_)
              · skip
                skip
                refine x_aload_n dX8_laysGivings_104 rfl ?_
                refine x_getf gf_X8_53 ho dX8_laysGivings_105 rfl rfl ?_
                refine x_iload dX8_laysGivings_108 rfl ?_
                refine x_iald dX8_laysGivings_110 rfl (by first | rfl | exact nI_add _ _ | (simp only [nI_add, pk_mul]; rfl)) (by omega) (by decide) ?_
                refine x_ival (y := (gvS (M.2.2.1 5) pm tn all tins fr us (M.2.2.1 11)) s) (congrFun (upA_s (f := M.2.2.1) (r := 11) (x := (gvS (M.2.2.1 5) pm tn all tins fr us (M.2.2.1 11)))) s) ?_
                refine x_if_le (tgt := 131) dX8_laysGivings_111 (by decide) (fun c111 => ?_) (fun c111 => ?_)
                · skip
                  skip
                  have c111 := Int32.not_lt.mpr c111
                  refine x_iload dX8_laysGivings_131 rfl ?_
                  refine x_ival (y := gvN all us (gvS (M.2.2.1 5) pm tn all tins fr us (M.2.2.1 11)) s (gvR all us (gvS (M.2.2.1 5) pm tn all tins fr us (M.2.2.1 11)) s)) (by rw [gvN]; first | (rw [if_pos c88]; done) | (rw [if_neg (by rw [c88]; decide), if_pos c111]; done) | (rw [if_neg (by rw [c88]; decide), if_neg c111]; done)) ?_
                  refine x_ist5 hL (by decide) rfl dX8_laysGivings_133 ?_
                  refine x_inc6 hL (by decide) rfl dX8_laysGivings_135 (nI_1 _) ?_
                  refine x_goto (tgt := 78) dX8_laysGivings_138 (by decide) ?_
                  refine x_eq ?_ ?_ ?_ (ihs)
                  · rfl
                  · rfl
                  · rfl
                · skip
                  skip
                  have c111 := Int32.not_le.mp c111
                  refine x_iload dX8_laysGivings_114 rfl ?_
                  refine x_iload dX8_laysGivings_116 rfl ?_
                  refine x_iload_n dX8_laysGivings_118 rfl ?_
                  refine x_iconst (v := (-1)) rfl dX8_laysGivings_119 ?_
                  refine x_ixor dX8_laysGivings_120 ?_
                  refine x_iand dX8_laysGivings_121 ?_
                  refine x_callS1 lk_X8_396 (m_sizeOf _) ho dX8_laysGivings_122 (Nat.le_of_ble_eq_true rfl) (by omega) (by decide) (by omega) (by omega) ?_
                  refine x_mmax ho q1841 q1253 q171 q1254 (Nat.le_of_ble_eq_true rfl) (by omega) (by omega) (by omega) dX8_laysGivings_125 ?_
                  refine x_goto (tgt := 133) dX8_laysGivings_128 (by decide) ?_
                  refine x_ival (y := gvN all us (gvS (M.2.2.1 5) pm tn all tins fr us (M.2.2.1 11)) s (gvR all us (gvS (M.2.2.1 5) pm tn all tins fr us (M.2.2.1 11)) s)) (by rw [gvN]; first | (rw [if_pos c88]; done) | (rw [if_neg (by rw [c88]; decide), if_pos c111]; done) | (rw [if_neg (by rw [c88]; decide), if_neg c111]; done)) ?_
                  refine x_ist5 hL (by decide) rfl dX8_laysGivings_133 ?_
                  refine x_inc6 hL (by decide) rfl dX8_laysGivings_135 (nI_1 _) ?_
                  refine x_goto (tgt := 78) dX8_laysGivings_138 (by decide) ?_
                  refine x_eq ?_ ?_ ?_ (ihs)
                  · rfl
                  · rfl
                  · rfl
              · skip
                skip
                refine x_iload dX8_laysGivings_91 rfl ?_
                refine x_aload_n dX8_laysGivings_93 rfl ?_
                refine x_getf gf_X8_53 ho dX8_laysGivings_94 rfl rfl ?_
                refine x_iload dX8_laysGivings_97 rfl ?_
                refine x_iald dX8_laysGivings_99 rfl (by first | rfl | exact nI_add _ _ | (simp only [nI_add, pk_mul]; rfl)) (by omega) (by decide) ?_
                refine x_ival (y := (gvS (M.2.2.1 5) pm tn all tins fr us (M.2.2.1 11)) s) (congrFun (upA_s (f := M.2.2.1) (r := 11) (x := (gvS (M.2.2.1 5) pm tn all tins fr us (M.2.2.1 11)))) s) ?_
                refine x_iadd dX8_laysGivings_100 ?_
                refine x_goto (tgt := 133) dX8_laysGivings_101 (by decide) ?_
                refine x_ival (y := gvN all us (gvS (M.2.2.1 5) pm tn all tins fr us (M.2.2.1 11)) s (gvR all us (gvS (M.2.2.1 5) pm tn all tins fr us (M.2.2.1 11)) s)) (by rw [gvN]; first | (rw [if_pos c88]; done) | (rw [if_neg (by rw [c88]; decide), if_pos c111]; done) | (rw [if_neg (by rw [c88]; decide), if_neg c111]; done)) ?_
                refine x_ist5 hL (by decide) rfl dX8_laysGivings_133 ?_
                refine x_inc6 hL (by decide) rfl dX8_laysGivings_135 (nI_1 _) ?_
                refine x_goto (tgt := 78) dX8_laysGivings_138 (by decide) ?_
                refine x_eq ?_ ?_ ?_ (ihs)
                · rfl
                · rfl
                · rfl
        · exfalso; first | (have := (nI_leI (by omega) (by omega)).mp c46; omega) | (exact c46 (nI_le (by omega) (by omega))) | (simp (disch := omega) [inS_ix, inS_N, ixL_N, ix_nI, h3] at c46 <;> omega) | (simp (disch := omega) only [h0, h1, h3, Int32.le_iff_toInt_le, Int32.lt_iff_toInt_lt, ← Int32.toInt_inj, nI_toInt, Int32.toInt_zero, m1_toInt, Int64.le_iff_toInt_le, Int64.lt_iff_toInt_lt, ← Int64.toInt_inj, pk_lT, i64_toInt, Int64.toInt_zero, eq_self, not_true_eq_false, not_false_eq_true] at c8 c46 <;> omega) | omega
      · skip
        refine x_iload dX8_laysGivings_38 rfl ?_
        refine x_aload_n dX8_laysGivings_40 rfl ?_
        refine x_getf gf_X8_35 ho dX8_laysGivings_41 rfl rfl ?_
        refine x_iconst (v := nI 3) rfl dX8_laysGivings_44 ?_
        refine x_iald dX8_laysGivings_45 rfl (by first | rfl | exact nI_add _ _ | (simp only [nI_add, pk_mul]; rfl)) (by omega) (by decide) ?_
        refine x_ival (y := nI tn) h3 ?_
        refine x_icmp_ge (tgt := 72) dX8_laysGivings_46 (by decide) (fun c46 => ?_) (fun c46 => ?_)
        · exfalso; first | (have := (nI_leI (by omega) (by omega)).mp c46; omega) | (exact c46 (nI_le (by omega) (by omega))) | (simp (disch := omega) [inS_ix, inS_N, ixL_N, ix_nI, h3] at c46 <;> omega) | (simp (disch := omega) only [h0, h1, h3, Int32.le_iff_toInt_le, Int32.lt_iff_toInt_lt, ← Int32.toInt_inj, nI_toInt, Int32.toInt_zero, m1_toInt, Int64.le_iff_toInt_le, Int64.lt_iff_toInt_lt, ← Int64.toInt_inj, pk_lT, i64_toInt, Int64.toInt_zero, eq_self, not_true_eq_false, not_false_eq_true] at c8 c46 <;> omega) | omega
        · skip
          refine x_iload_n dX8_laysGivings_49 rfl ?_
          refine x_iload dX8_laysGivings_50 rfl ?_
          refine x_callS2 lk_X8_109 (m_has _ _) ho dX8_laysGivings_52 (Nat.le_of_ble_eq_true rfl) (by omega) (by decide) (by omega) (by omega) ?_
          refine x_ifb_eq (tgt := 66) dX8_laysGivings_55 (by decide) (fun c55 => ?_) (fun c55 => ?_)
          · skip
            skip
            have c55 : ¬ hs tins (nI (fr + k)) = true := by rw [c55]; decide
            refine x_inc5 hL (by decide) rfl dX8_laysGivings_66 (nI_1 _) ?_
            refine x_goto (tgt := 38) dX8_laysGivings_69 (by decide) ?_
            refine x_eq ?_ ?_ ?_ (ihk)
            · rfl
            · rfl
            · exact congrArg (fun f => hM (mSA M 11 f) R) (by rw [gvW_s, if_neg c55])
          · skip
            skip
            refine x_aload_n dX8_laysGivings_58 rfl ?_
            refine x_iload dX8_laysGivings_59 rfl ?_
            refine x_iload dX8_laysGivings_61 rfl ?_
            refine x_callV2 lk_X8_392 (m_laysTin (M := mSA M 11 (gvW (M.2.2.1 5) pm all tins fr k (gv0 (M.2.2.1 11) us 128))) (wF_8 hF 11 (by decide) _) _ _ (by omega)) ho dX8_laysGivings_63 rfl (Nat.le_of_ble_eq_true rfl) (by omega) (by decide) (by omega) (by omega) ?_
            refine x_inc5 hL (by decide) rfl dX8_laysGivings_66 (nI_1 _) ?_
            refine x_goto (tgt := 38) dX8_laysGivings_69 (by decide) ?_
            refine x_eq ?_ ?_ ?_ (ihk)
            · rfl
            · rfl
            · rw [mSA_mSA, mSA_5 (by decide), show (mSA M 11 (gvW (M.2.2.1 5) pm all tins fr k (gv0 (M.2.2.1 11) us 128))).2.2.1 11 = (gvW (M.2.2.1 5) pm all tins fr k (gv0 (M.2.2.1 11) us 128)) from upA_s (f := M.2.2.1) (r := 11) (x := (gvW (M.2.2.1 5) pm all tins fr k (gv0 (M.2.2.1 11) us 128)))]; exact congrArg (fun f => hM (mSA M 11 f) R) (by rw [gvW_s, if_pos c55])
    · exfalso; first | (simp (disch := omega) [inS_ix, inS_N, ixL_N, ix_nI, h3] at c8 <;> omega) | (simp (disch := omega) only [h0, h1, h3, Int32.le_iff_toInt_le, Int32.lt_iff_toInt_lt, ← Int32.toInt_inj, nI_toInt, Int32.toInt_zero, m1_toInt, Int64.le_iff_toInt_le, Int64.lt_iff_toInt_lt, ← Int64.toInt_inj, pk_lT, i64_toInt, Int64.toInt_zero, eq_self, not_true_eq_false, not_false_eq_true] at c8 <;> omega) | omega
  · skip
    refine x_iload dX8_laysGivings_3 rfl ?_
    refine x_sipush (v := nI 128) rfl dX8_laysGivings_5 ?_
    refine x_icmp_ge (tgt := 35) dX8_laysGivings_8 (by decide) (fun c8 => ?_) (fun c8 => ?_)
    · exfalso; first | (simp (disch := omega) [inS_ix, inS_N, ixL_N, ix_nI, h3] at c8 <;> omega) | (simp (disch := omega) only [h0, h1, h3, Int32.le_iff_toInt_le, Int32.lt_iff_toInt_lt, ← Int32.toInt_inj, nI_toInt, Int32.toInt_zero, m1_toInt, Int64.le_iff_toInt_le, Int64.lt_iff_toInt_lt, ← Int64.toInt_inj, pk_lT, i64_toInt, Int64.toInt_zero, eq_self, not_true_eq_false, not_false_eq_true] at c8 <;> omega) | omega
    · skip
      refine x_aload_n dX8_laysGivings_11 rfl ?_
      refine x_getf gf_X8_53 ho dX8_laysGivings_12 rfl rfl ?_
      refine x_iload dX8_laysGivings_15 rfl ?_
      refine x_iload dX8_laysGivings_17 rfl ?_
      refine x_iload_n dX8_laysGivings_19 rfl ?_
      refine x_icmp_ne (tgt := 27) dX8_laysGivings_20 (by decide) (fun c20 => ?_) (fun c20 => ?_)
      · skip
        skip
        have c20 : ¬ i = us := fun q => c20 (congrArg nI q)
        refine x_iconst (v := nI 0) rfl dX8_laysGivings_27 ?_
        refine m_iast (r := 11) dX8_laysGivings_28 (by decide) (by decide) (fun _ => rfl) (by first | rfl | exact nI_add _ _ | (simp only [nI_add, pk_mul]; rfl)) (by omega) (by decide) ?_
        refine x_inc5 hL (by decide) rfl dX8_laysGivings_29 (nI_1 _) ?_
        refine x_goto (tgt := 3) dX8_laysGivings_32 (by decide) ?_
        refine x_eq ?_ ?_ ?_ (ihi)
        · first | rfl | (simp [c8, c20]; done)
        · rfl
        · rw [mA_SA]; exact congrArg (fun f => hM (mSA M 11 f) R) (layI_0 (by simp [c20]))
      · skip
        skip
        have c20 := (nI_eq (by omega) (by omega)).mp c20
        refine x_iconst (v := nI 1) rfl dX8_laysGivings_23 ?_
        refine x_goto (tgt := 28) dX8_laysGivings_24 (by decide) ?_
        refine m_iast (r := 11) dX8_laysGivings_28 (by decide) (by decide) (fun _ => rfl) (by first | rfl | exact nI_add _ _ | (simp only [nI_add, pk_mul]; rfl)) (by omega) (by decide) ?_
        refine x_inc5 hL (by decide) rfl dX8_laysGivings_29 (nI_1 _) ?_
        refine x_goto (tgt := 3) dX8_laysGivings_32 (by decide) ?_
        refine x_eq ?_ ?_ ?_ (ihi)
        · first | rfl | (simp [c8, c20]; done)
        · rfl
        · rw [mA_SA]; exact congrArg (fun f => hM (mSA M 11 f) R) (layI_0 (by simp [c20]))
