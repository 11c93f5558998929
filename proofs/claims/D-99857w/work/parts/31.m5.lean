/-! ===== the model: ways ===== -/
set_option maxRecDepth 100000
set_option maxHeartbeats 800000 in
theorem m_way {w : xW} {M : mS} {R : xH} {tm pm tn G : Nat} (hF : wF (M.2.2.1 5) tm pm tn G) (t9 q9 : Int32) : CT w yX8_way cX8_way 4 (some (.int)) [] false (4) 0 0 [.ref 32, .int t9, .int q9] (hM M R) (xrt (some (.int (spWay (M.2.2.1 5) pm tn t9 q9).1)) (fun M' => mQ M' (mI (mI M 1 (nI 0)) 0 (nI (spWay (M.2.2.1 5) pm tn t9 q9).2))) R) := by
  have l0 := hF.l0
  have l1 := hF.l1
  have l3 := hF.l3
  rcases ix_or t9 (n := tn) (by omega) with ⟨hx, hx2⟩ | ⟨t, ht, rfl, hx⟩
  rotate_left 1
  rcases ix_or q9 (n := pm) (by omega) with ⟨hy, hy2⟩ | ⟨j, hj, rfl, hy⟩
  rotate_left 1
  rcases hF.on ht with e | ⟨p, hp, e⟩
  · have hg := goB_1 e
    refine CT.of (ini := false) (by decide +kernel) q2026 q164 (Nat.le_of_ble_eq_true rfl) (by decide) ?_
    intro Γ hw ho hL hr hh hini hal hd hmc hms hQ
    subst hw
    show AW Γ cX8_way 0 0 0 [some (.ref 32), some (.int (nI t)), some (.int (nI j)), none] [] (hM M R)
    have h0 := hF.c0
    have h1 := hF.c1
    have h3 := hF.c3
    have l0 := hF.l0
    have l1 := hF.l1
    have l3 := hF.l3
    refine x_aload_n dX8_way_0 rfl ?_
    refine x_iconst (v := nI 0) rfl dX8_way_1 ?_
    refine m_puti (k := 1) (pf_X8_70 (ini := false)) ho hini dX8_way_2 rfl rfl (by decide) (ms_1 _ _) ?_
    refine x_aload_n dX8_way_5 rfl ?_
    refine x_aload_n dX8_way_6 rfl ?_
    refine x_iload_n dX8_way_7 rfl ?_
    refine x_iload_n dX8_way_8 rfl ?_
    refine x_callV2 lk_X8_374 (m_whyNoWay (M := (mI M 1 (nI 0))) hF _ _) ho dX8_way_9 rfl (Nat.le_of_ble_eq_true rfl) (by omega) (by decide) (by omega) (by omega) ?_
    refine x_ival (y := nI 9) (by first | (simp [whyW, hx, hy, hg]; done) | (simp [whyW, hx, hy, hg, hy]; done)) ?_
    refine m_puti (k := 0) (pf_X8_73 (ini := false)) ho hini dX8_way_12 rfl rfl (by decide) (ms_0 _ _) ?_
    refine x_aload_n dX8_way_15 rfl ?_
    refine x_getf gf_X8_73 ho dX8_way_16 rfl rfl ?_
    refine x_ival (y := nI 9) rfl ?_
    refine x_if_le (tgt := 24) dX8_way_19 (by decide) (fun c19 => ?_) (fun c19 => ?_)
    · try (exfalso; first | (simp (disch := omega) [inS_ix, inS_N, ixL_N, ix_nI, hx, hy, hg] at c19 <;> omega) | (simp (disch := omega) only [h0, h1, h3, Int32.le_iff_toInt_le, Int32.lt_iff_toInt_lt, ← Int32.toInt_inj, nI_toInt, Int32.toInt_zero, m1_toInt, Int64.le_iff_toInt_le, Int64.lt_iff_toInt_lt, ← Int64.toInt_inj, pk_lT, i64_toInt, Int64.toInt_zero, eq_self, not_true_eq_false, not_false_eq_true] at c19 <;> omega) | omega)
      all_goals
        skip
        omega
    · try (exfalso; first | (simp (disch := omega) [inS_ix, inS_N, ixL_N, ix_nI, hx, hy, hg] at c19 <;> omega) | (simp (disch := omega) only [h0, h1, h3, Int32.le_iff_toInt_le, Int32.lt_iff_toInt_lt, ← Int32.toInt_inj, nI_toInt, Int32.toInt_zero, m1_toInt, Int64.le_iff_toInt_le, Int64.lt_iff_toInt_lt, ← Int64.toInt_inj, pk_lT, i64_toInt, Int64.toInt_zero, eq_self, not_true_eq_false, not_false_eq_true] at c19 <;> omega) | omega)
      all_goals
        skip
        refine x_iconst (v := (-1)) rfl dX8_way_22 ?_
        refine x_iret hr rfl dX8_way_23 (by omega) (by omega) (hQ _ _ ?_)
        try dsimp only [mI, mSA] at c19
        exact ⟨by simp [spWay, hx, hy, hg], _, rfl, by simp [spWay, hx, hy, hg]; exact mQ_r _⟩
  · have hg := goB_0 e (show p < 2 ^ 31 by omega)
    refine CT.of (ini := false) (by decide +kernel) q2026 q164 (Nat.le_of_ble_eq_true rfl) (by decide) ?_
    intro Γ hw ho hL hr hh hini hal hd hmc hms hQ
    subst hw
    show AW Γ cX8_way 0 0 0 [some (.ref 32), some (.int (nI t)), some (.int (nI j)), none] [] (hM M R)
    have hfz := farS_f (c := (M.2.2.1 5)) (f0 := M.2.2.1 8) (g0 := fun _ => nI 0) (pm := pm) (t := t) (to := j) (by omega) p (by omega)
    refine x_aload_n dX8_way_0 rfl ?_
    refine x_iconst (v := nI 0) rfl dX8_way_1 ?_
    refine m_puti (k := 1) (pf_X8_70 (ini := false)) ho hini dX8_way_2 rfl rfl (by decide) (ms_1 _ _) ?_
    refine x_aload_n dX8_way_5 rfl ?_
    refine x_aload_n dX8_way_6 rfl ?_
    refine x_iload_n dX8_way_7 rfl ?_
    refine x_iload_n dX8_way_8 rfl ?_
    refine x_callV2 lk_X8_374 (m_whyNoWay (M := (mI M 1 (nI 0))) hF _ _) ho dX8_way_9 rfl (Nat.le_of_ble_eq_true rfl) (by omega) (by decide) (by omega) (by omega) ?_
    refine x_ival (y := nI 0) (by first | (simp [whyW, hx, hy, hg]; done) | (simp [whyW, hx, hy, hg, hy]; done)) ?_
    refine m_puti (k := 0) (pf_X8_73 (ini := false)) ho hini dX8_way_12 rfl rfl (by decide) (ms_0 _ _) ?_
    refine x_aload_n dX8_way_15 rfl ?_
    refine x_getf gf_X8_73 ho dX8_way_16 rfl rfl ?_
    refine x_ival (y := nI 0) rfl ?_
    refine x_if_le (tgt := 24) dX8_way_19 (by decide) (fun c19 => ?_) (fun c19 => ?_)
    · try (exfalso; first | (simp (disch := omega) [inS_ix, inS_N, ixL_N, ix_nI, hx, hy, hg] at c19 <;> omega) | (simp (disch := omega) only [h0, h1, h3, Int32.le_iff_toInt_le, Int32.lt_iff_toInt_lt, ← Int32.toInt_inj, nI_toInt, Int32.toInt_zero, m1_toInt, Int64.le_iff_toInt_le, Int64.lt_iff_toInt_lt, ← Int64.toInt_inj, pk_lT, i64_toInt, Int64.toInt_zero, eq_self, not_true_eq_false, not_false_eq_true] at c19 <;> omega) | omega)
      all_goals
        skip
        refine x_aload_n dX8_way_24 rfl ?_
        refine x_iload_n dX8_way_25 rfl ?_
        refine x_iload_n dX8_way_26 rfl ?_
        refine x_callV2 lk_X8_377 (m_laysFar (M := (mI (mI M 1 (nI 0)) 0 (nI 0))) hF _ _ (by omega) (by omega)) ho dX8_way_27 rfl (Nat.le_of_ble_eq_true rfl) (by omega) (by decide) (by omega) (by omega) ?_
        refine x_aload_n dX8_way_30 rfl ?_
        refine x_getf gf_X8_44 ho dX8_way_31 rfl rfl ?_
        refine x_aload_n dX8_way_34 rfl ?_
        refine x_getf gf_X8_35 ho dX8_way_35 rfl rfl ?_
        refine x_bipush (v := nI 42) rfl dX8_way_38 ?_
        refine x_iload_n dX8_way_40 rfl ?_
        refine x_iaddN dX8_way_41 ?_
        refine x_iald dX8_way_42 rfl (by first | rfl | exact nI_add _ _ | (simp only [nI_add, pk_mul]; rfl)) (by omega) (by decide) ?_
        refine x_ival (y := nI p) ((congrFun (mSA_5 (by decide)) _).trans e) ?_
        refine x_iald dX8_way_43 rfl (by first | rfl | exact nI_add _ _ | (simp only [nI_add, pk_mul]; rfl)) (by omega) (by decide) ?_
        refine x_ival (y := (farZ (M.2.2.1 5) pm t j) p) ((congrFun (upA_s (f := M.2.2.1) (r := 8) (x := (farS (M.2.2.1 5) pm t j (M.2.2.1 8)))) p).trans hfz) ?_
        refine x_ist3 hL (by decide) rfl dX8_way_44 ?_
        refine x_iload_n dX8_way_45 rfl ?_
        refine x_bipush (v := nI 99) rfl dX8_way_46 ?_
        refine x_icmp_ge (tgt := 55) dX8_way_48 (by decide) (fun c48 => ?_) (fun c48 => ?_)
        · skip
          skip
          have c48 := Int32.not_lt.mpr c48
          refine x_aload_n dX8_way_55 rfl ?_
          refine x_bipush (v := nI 8) rfl dX8_way_56 ?_
          refine x_callV1 lk_X8_327 (m_refuse (M := mSA (mI (mI M 1 (nI 0)) 0 (nI 0)) 8 (farS (M.2.2.1 5) pm t j (M.2.2.1 8))) _) ho dX8_way_58 rfl (Nat.le_of_ble_eq_true rfl) (by omega) (by decide) (by omega) (by omega) ?_
          refine x_iret hr rfl dX8_way_61 (by omega) (by omega) (hQ _ _ ?_)
          try dsimp only [mI, mSA] at c19 c48
          exact ⟨by simp (disch := omega) [spWay, hx, hy, hg, e, cl_nI, c48, -Int32.not_lt, -Int32.not_le], _, rfl, by simp (disch := omega) [spWay, hx, hy, hg, e, cl_nI, c48, -Int32.not_lt, -Int32.not_le]; first | exact mQ_R | exact mQ_SA (r := 8) (mQ_r _) (by decide) (by decide)⟩
        · skip
          skip
          have c48 := Int32.not_le.mp c48
          refine x_iload_n dX8_way_51 rfl ?_
          refine x_goto (tgt := 61) dX8_way_52 (by decide) ?_
          refine x_iret hr rfl dX8_way_61 (by omega) (by omega) (hQ _ _ ?_)
          try dsimp only [mI, mSA] at c19 c48
          exact ⟨by simp (disch := omega) [spWay, hx, hy, hg, e, cl_nI, c48, -Int32.not_lt, -Int32.not_le], _, rfl, by simp (disch := omega) [spWay, hx, hy, hg, e, cl_nI, c48, -Int32.not_lt, -Int32.not_le]; first | exact mQ_R | exact mQ_SA (r := 8) (mQ_r _) (by decide) (by decide)⟩
    · exact absurd (by decide +kernel) c19
  · skip
    refine CT.of (ini := false) (by decide +kernel) q2026 q164 (Nat.le_of_ble_eq_true rfl) (by decide) ?_
    intro Γ hw ho hL hr hh hini hal hd hmc hms hQ
    subst hw
    show AW Γ cX8_way 0 0 0 [some (.ref 32), some (.int t9), some (.int q9), none] [] (hM M R)
    have h0 := hF.c0
    have h1 := hF.c1
    have h3 := hF.c3
    have l0 := hF.l0
    have l1 := hF.l1
    have l3 := hF.l3
    refine x_aload_n dX8_way_0 rfl ?_
    refine x_iconst (v := nI 0) rfl dX8_way_1 ?_
    refine m_puti (k := 1) (pf_X8_70 (ini := false)) ho hini dX8_way_2 rfl rfl (by decide) (ms_1 _ _) ?_
    refine x_aload_n dX8_way_5 rfl ?_
    refine x_aload_n dX8_way_6 rfl ?_
    refine x_iload_n dX8_way_7 rfl ?_
    refine x_iload_n dX8_way_8 rfl ?_
    refine x_callV2 lk_X8_374 (m_whyNoWay (M := (mI M 1 (nI 0))) hF _ _) ho dX8_way_9 rfl (Nat.le_of_ble_eq_true rfl) (by omega) (by decide) (by omega) (by omega) ?_
    refine x_ival (y := nI 2) (by first | (simp [whyW, hx]; done) | (simp [whyW, hx, hy]; done)) ?_
    refine m_puti (k := 0) (pf_X8_73 (ini := false)) ho hini dX8_way_12 rfl rfl (by decide) (ms_0 _ _) ?_
    refine x_aload_n dX8_way_15 rfl ?_
    refine x_getf gf_X8_73 ho dX8_way_16 rfl rfl ?_
    refine x_ival (y := nI 2) rfl ?_
    refine x_if_le (tgt := 24) dX8_way_19 (by decide) (fun c19 => ?_) (fun c19 => ?_)
    · try (exfalso; first | (simp (disch := omega) [inS_ix, inS_N, ixL_N, ix_nI, hx, ixL_i] at c19 <;> omega) | (simp (disch := omega) only [h0, h1, h3, Int32.le_iff_toInt_le, Int32.lt_iff_toInt_lt, ← Int32.toInt_inj, nI_toInt, Int32.toInt_zero, m1_toInt, Int64.le_iff_toInt_le, Int64.lt_iff_toInt_lt, ← Int64.toInt_inj, pk_lT, i64_toInt, Int64.toInt_zero, eq_self, not_true_eq_false, not_false_eq_true] at c19 <;> omega) | omega)
      all_goals
        skip
        omega
    · try (exfalso; first | (simp (disch := omega) [inS_ix, inS_N, ixL_N, ix_nI, hx, ixL_i] at c19 <;> omega) | (simp (disch := omega) only [h0, h1, h3, Int32.le_iff_toInt_le, Int32.lt_iff_toInt_lt, ← Int32.toInt_inj, nI_toInt, Int32.toInt_zero, m1_toInt, Int64.le_iff_toInt_le, Int64.lt_iff_toInt_lt, ← Int64.toInt_inj, pk_lT, i64_toInt, Int64.toInt_zero, eq_self, not_true_eq_false, not_false_eq_true] at c19 <;> omega) | omega)
      all_goals
        skip
        refine x_iconst (v := (-1)) rfl dX8_way_22 ?_
        refine x_iret hr rfl dX8_way_23 (by omega) (by omega) (hQ _ _ ?_)
        try dsimp only [mI, mSA] at c19
        exact ⟨by first | (simp [spWay, hx]; done) | (simp [spWay, hx, hy]; done), _, rfl, by first | (simp [spWay, hx]; exact mQ_r _) | (simp [spWay, hx, hy]; exact mQ_r _)⟩
  · skip
    refine CT.of (ini := false) (by decide +kernel) q2026 q164 (Nat.le_of_ble_eq_true rfl) (by decide) ?_
    intro Γ hw ho hL hr hh hini hal hd hmc hms hQ
    subst hw
    show AW Γ cX8_way 0 0 0 [some (.ref 32), some (.int (nI t)), some (.int q9), none] [] (hM M R)
    have h0 := hF.c0
    have h1 := hF.c1
    have h3 := hF.c3
    have l0 := hF.l0
    have l1 := hF.l1
    have l3 := hF.l3
    refine x_aload_n dX8_way_0 rfl ?_
    refine x_iconst (v := nI 0) rfl dX8_way_1 ?_
    refine m_puti (k := 1) (pf_X8_70 (ini := false)) ho hini dX8_way_2 rfl rfl (by decide) (ms_1 _ _) ?_
    refine x_aload_n dX8_way_5 rfl ?_
    refine x_aload_n dX8_way_6 rfl ?_
    refine x_iload_n dX8_way_7 rfl ?_
    refine x_iload_n dX8_way_8 rfl ?_
    refine x_callV2 lk_X8_374 (m_whyNoWay (M := (mI M 1 (nI 0))) hF _ _) ho dX8_way_9 rfl (Nat.le_of_ble_eq_true rfl) (by omega) (by decide) (by omega) (by omega) ?_
    refine x_ival (y := nI 2) (by first | (simp [whyW, hx]; done) | (simp [whyW, hx, hy]; done)) ?_
    refine m_puti (k := 0) (pf_X8_73 (ini := false)) ho hini dX8_way_12 rfl rfl (by decide) (ms_0 _ _) ?_
    refine x_aload_n dX8_way_15 rfl ?_
    refine x_getf gf_X8_73 ho dX8_way_16 rfl rfl ?_
    refine x_ival (y := nI 2) rfl ?_
    refine x_if_le (tgt := 24) dX8_way_19 (by decide) (fun c19 => ?_) (fun c19 => ?_)
    · try (exfalso; first | (simp (disch := omega) [inS_ix, inS_N, ixL_N, ix_nI, hx, hy, ixL_i] at c19 <;> omega) | (simp (disch := omega) only [h0, h1, h3, Int32.le_iff_toInt_le, Int32.lt_iff_toInt_lt, ← Int32.toInt_inj, nI_toInt, Int32.toInt_zero, m1_toInt, Int64.le_iff_toInt_le, Int64.lt_iff_toInt_lt, ← Int64.toInt_inj, pk_lT, i64_toInt, Int64.toInt_zero, eq_self, not_true_eq_false, not_false_eq_true] at c19 <;> omega) | omega)
      all_goals
        skip
        omega
    · try (exfalso; first | (simp (disch := omega) [inS_ix, inS_N, ixL_N, ix_nI, hx, hy, ixL_i] at c19 <;> omega) | (simp (disch := omega) only [h0, h1, h3, Int32.le_iff_toInt_le, Int32.lt_iff_toInt_lt, ← Int32.toInt_inj, nI_toInt, Int32.toInt_zero, m1_toInt, Int64.le_iff_toInt_le, Int64.lt_iff_toInt_lt, ← Int64.toInt_inj, pk_lT, i64_toInt, Int64.toInt_zero, eq_self, not_true_eq_false, not_false_eq_true] at c19 <;> omega) | omega)
      all_goals
        skip
        refine x_iconst (v := (-1)) rfl dX8_way_22 ?_
        refine x_iret hr rfl dX8_way_23 (by omega) (by omega) (hQ _ _ ?_)
        try dsimp only [mI, mSA] at c19
        exact ⟨by first | (simp [spWay, hx]; done) | (simp [spWay, hx, hy]; done), _, rfl, by first | (simp [spWay, hx]; exact mQ_r _) | (simp [spWay, hx, hy]; exact mQ_r _)⟩
set_option maxHeartbeats 800000 in
theorem m_wayAt {w : xW} {M : mS} {R : xH} {tm pm tn G : Nat} (hF : wF (M.2.2.1 5) tm pm tn G) (t9 q9 k9 : Int32) : CT w yX8_wayAt cX8_wayAt 8 (some (.int)) [] false (4) 0 0 [.ref 32, .int t9, .int q9, .int k9] (hM M R) (xrt (some (.int (spWayAt (M.2.2.1 5) pm tn t9 q9 k9).1)) (fun M' => mQ M' (mI (mI M 1 (nI 0)) 0 (nI (spWayAt (M.2.2.1 5) pm tn t9 q9 k9).2))) R) := by
  have l0 := hF.l0
  have l1 := hF.l1
  have l3 := hF.l3
  rcases ix_or t9 (n := tn) (by omega) with ⟨hx, hx2⟩ | ⟨t, ht, rfl, hx⟩
  rotate_left 1
  rcases ix_or q9 (n := pm) (by omega) with ⟨hy, hy2⟩ | ⟨j, hj, rfl, hy⟩
  rotate_left 1
  rcases hF.on ht with e | ⟨p, hp, e⟩
  · have hg := goB_1 e
    refine CT.of (ini := false) (by decide +kernel) q2038 q164 (Nat.le_of_ble_eq_true rfl) (by decide) ?_
    intro Γ hw ho hL hr hh hini hal hd hmc hms hQ
    subst hw
    show AW Γ cX8_wayAt 0 0 0 [some (.ref 32), some (.int (nI t)), some (.int (nI j)), some (.int k9), none, none, none, none] [] (hM M R)
    have h0 := hF.c0
    have h1 := hF.c1
    have h3 := hF.c3
    have l0 := hF.l0
    have l1 := hF.l1
    have l3 := hF.l3
    refine x_aload_n dX8_wayAt_0 rfl ?_
    refine x_iconst (v := nI 0) rfl dX8_wayAt_1 ?_
    refine m_puti (k := 1) (pf_X8_70 (ini := false)) ho hini dX8_wayAt_2 rfl rfl (by decide) (ms_1 _ _) ?_
    refine x_aload_n dX8_wayAt_5 rfl ?_
    refine x_aload_n dX8_wayAt_6 rfl ?_
    refine x_iload_n dX8_wayAt_7 rfl ?_
    refine x_iload_n dX8_wayAt_8 rfl ?_
    refine x_callV2 lk_X8_374 (m_whyNoWay (M := (mI M 1 (nI 0))) hF _ _) ho dX8_wayAt_9 rfl (Nat.le_of_ble_eq_true rfl) (by omega) (by decide) (by omega) (by omega) ?_
    refine x_ival (y := nI 9) (by first | (simp [whyW, hx, hy, hg]; done) | (simp [whyW, hx, hy, hg, hy]; done)) ?_
    refine m_puti (k := 0) (pf_X8_73 (ini := false)) ho hini dX8_wayAt_12 rfl rfl (by decide) (ms_0 _ _) ?_
    refine x_aload_n dX8_wayAt_15 rfl ?_
    refine x_getf gf_X8_73 ho dX8_wayAt_16 rfl rfl ?_
    refine x_ival (y := nI 9) rfl ?_
    refine x_if_le (tgt := 24) dX8_wayAt_19 (by decide) (fun c19 => ?_) (fun c19 => ?_)
    · try (exfalso; first | (simp (disch := omega) [inS_ix, inS_N, ixL_N, ix_nI, hx, hy, hg] at c19 <;> omega) | (simp (disch := omega) only [h0, h1, h3, Int32.le_iff_toInt_le, Int32.lt_iff_toInt_lt, ← Int32.toInt_inj, nI_toInt, Int32.toInt_zero, m1_toInt, Int64.le_iff_toInt_le, Int64.lt_iff_toInt_lt, ← Int64.toInt_inj, pk_lT, i64_toInt, Int64.toInt_zero, eq_self, not_true_eq_false, not_false_eq_true] at c19 <;> omega) | omega)
      all_goals
        skip
        omega
    · try (exfalso; first | (simp (disch := omega) [inS_ix, inS_N, ixL_N, ix_nI, hx, hy, hg] at c19 <;> omega) | (simp (disch := omega) only [h0, h1, h3, Int32.le_iff_toInt_le, Int32.lt_iff_toInt_lt, ← Int32.toInt_inj, nI_toInt, Int32.toInt_zero, m1_toInt, Int64.le_iff_toInt_le, Int64.lt_iff_toInt_lt, ← Int64.toInt_inj, pk_lT, i64_toInt, Int64.toInt_zero, eq_self, not_true_eq_false, not_false_eq_true] at c19 <;> omega) | omega)
      all_goals
        skip
        refine x_iconst (v := (-1)) rfl dX8_wayAt_22 ?_
        refine x_iret hr rfl dX8_wayAt_23 (by omega) (by omega) (hQ _ _ ?_)
        try dsimp only [mI, mSA] at c19
        exact ⟨by simp [spWayAt, hx, hy, hg], _, rfl, by simp [spWayAt, hx, hy, hg]; exact mQ_r _⟩
  · have hg := goB_0 e (show p < 2 ^ 31 by omega)
    refine CT.of (ini := false) (by decide +kernel) q2038 q164 (Nat.le_of_ble_eq_true rfl) (by decide) ?_
    intro Γ hw ho hL hr hh hini hal hd hmc hms hQ
    subst hw
    show AW Γ cX8_wayAt 0 0 0 [some (.ref 32), some (.int (nI t)), some (.int (nI j)), some (.int k9), none, none, none, none] [] (hM M R)
    have hfz : ∀ q, q < 7 → (farS (M.2.2.1 5) pm t j (M.2.2.1 8)) q = (farZ (M.2.2.1 5) pm t j) q := farS_f (by omega)
    have hok : okF (M.2.2.1 5) pm t j (farZ (M.2.2.1 5) pm t j) := okF_S (by omega)
    refine x_aload_n dX8_wayAt_0 rfl ?_
    refine x_iconst (v := nI 0) rfl dX8_wayAt_1 ?_
    refine m_puti (k := 1) (pf_X8_70 (ini := false)) ho hini dX8_wayAt_2 rfl rfl (by decide) (ms_1 _ _) ?_
    refine x_aload_n dX8_wayAt_5 rfl ?_
    refine x_aload_n dX8_wayAt_6 rfl ?_
    refine x_iload_n dX8_wayAt_7 rfl ?_
    refine x_iload_n dX8_wayAt_8 rfl ?_
    refine x_callV2 lk_X8_374 (m_whyNoWay (M := (mI M 1 (nI 0))) hF _ _) ho dX8_wayAt_9 rfl (Nat.le_of_ble_eq_true rfl) (by omega) (by decide) (by omega) (by omega) ?_
    refine x_ival (y := nI 0) (by first | (simp [whyW, hx, hy, hg]; done) | (simp [whyW, hx, hy, hg, hy]; done)) ?_
    refine m_puti (k := 0) (pf_X8_73 (ini := false)) ho hini dX8_wayAt_12 rfl rfl (by decide) (ms_0 _ _) ?_
    refine x_aload_n dX8_wayAt_15 rfl ?_
    refine x_getf gf_X8_73 ho dX8_wayAt_16 rfl rfl ?_
    refine x_ival (y := nI 0) rfl ?_
    refine x_if_le (tgt := 24) dX8_wayAt_19 (by decide) (fun c19 => ?_) (fun c19 => ?_)
    · try (exfalso; first | (simp (disch := omega) [inS_ix, inS_N, ixL_N, ix_nI, hx, hy, hg] at c19 <;> omega) | (simp (disch := omega) only [h0, h1, h3, Int32.le_iff_toInt_le, Int32.lt_iff_toInt_lt, ← Int32.toInt_inj, nI_toInt, Int32.toInt_zero, m1_toInt, Int64.le_iff_toInt_le, Int64.lt_iff_toInt_lt, ← Int64.toInt_inj, pk_lT, i64_toInt, Int64.toInt_zero, eq_self, not_true_eq_false, not_false_eq_true] at c19 <;> omega) | omega)
      all_goals
        skip
        refine x_aload_n dX8_wayAt_24 rfl ?_
        refine x_iload_n dX8_wayAt_25 rfl ?_
        refine x_iload_n dX8_wayAt_26 rfl ?_
        refine x_callV2 lk_X8_377 (m_laysFar (M := (mI (mI M 1 (nI 0)) 0 (nI 0))) hF _ _ (by omega) (by omega)) ho dX8_wayAt_27 rfl (Nat.le_of_ble_eq_true rfl) (by omega) (by decide) (by omega) (by omega) ?_
        refine x_aload_n dX8_wayAt_30 rfl ?_
        refine x_getf gf_X8_35 ho dX8_wayAt_31 rfl rfl ?_
        refine x_bipush (v := nI 42) rfl dX8_wayAt_34 ?_
        refine x_iload_n dX8_wayAt_36 rfl ?_
        refine x_iaddN dX8_wayAt_37 ?_
        refine x_iald dX8_wayAt_38 rfl (by first | rfl | exact nI_add _ _ | (simp only [nI_add, pk_mul]; rfl)) (by omega) (by decide) ?_
        refine x_ival (y := nI p) ((congrFun (mSA_5 (by decide)) _).trans e) ?_
        refine x_ist4 hL (by decide) rfl dX8_wayAt_39 ?_
        refine x_aload_n dX8_wayAt_41 rfl ?_
        refine x_getf gf_X8_44 ho dX8_wayAt_42 rfl rfl ?_
        refine x_iload dX8_wayAt_45 rfl ?_
        refine x_iald dX8_wayAt_47 rfl (by first | rfl | exact nI_add _ _ | (simp only [nI_add, pk_mul]; rfl)) (by omega) (by decide) ?_
        refine x_ival (y := (farZ (M.2.2.1 5) pm t j) p) ((congrFun (upA_s (f := M.2.2.1) (r := 8) (x := (farS (M.2.2.1 5) pm t j (M.2.2.1 8)))) p).trans (hfz _ (by omega))) ?_
        refine x_bipush (v := nI 99) rfl dX8_wayAt_48 ?_
        refine x_icmp_ge (tgt := 70) dX8_wayAt_50 (by decide) (fun c50 => ?_) (fun c50 => ?_)
        · skip
          skip
          have c50 := Int32.not_lt.mpr c50
          refine x_aload_n dX8_wayAt_70 rfl ?_
          refine x_bipush (v := nI 8) rfl dX8_wayAt_71 ?_
          refine x_callV1 lk_X8_327 (m_refuse (M := mSA (mI (mI M 1 (nI 0)) 0 (nI 0)) 8 (farS (M.2.2.1 5) pm t j (M.2.2.1 8))) _) ho dX8_wayAt_73 rfl (Nat.le_of_ble_eq_true rfl) (by omega) (by decide) (by omega) (by omega) ?_
          refine x_iret hr rfl dX8_wayAt_76 (by omega) (by omega) (hQ _ _ ?_)
          try dsimp only [mI, mSA] at c19 c50
          exact ⟨by simp (disch := omega) [spWayAt, hx, hy, hg, e, cl_nI, c50, -Int32.not_lt, -Int32.not_le], _, rfl, by simp (disch := omega) [spWayAt, hx, hy, hg, e, cl_nI, c50, -Int32.not_lt, -Int32.not_le]; first | exact mQ_R | exact mQ_SA (r := 8) (mQ_r _) (by decide) (by decide)⟩
        · skip
          skip
          refine x_iload_n dX8_wayAt_53 rfl ?_
          refine x_i2l dX8_wayAt_54 ?_
          refine x_lconst (v := lN 0) rfl dX8_wayAt_55 ?_
          refine x_aload_n dX8_wayAt_56 rfl ?_
          refine x_getf gf_X8_44 ho dX8_wayAt_57 rfl rfl ?_
          refine x_iload dX8_wayAt_60 rfl ?_
          refine x_iald dX8_wayAt_62 rfl (by first | rfl | exact nI_add _ _ | (simp only [nI_add, pk_mul]; rfl)) (by omega) (by decide) ?_
          refine x_ival (y := (farZ (M.2.2.1 5) pm t j) p) ((congrFun (upA_s (f := M.2.2.1) (r := 8) (x := (farS (M.2.2.1 5) pm t j (M.2.2.1 8)))) p).trans (hfz _ (by omega))) ?_
          refine x_i2l dX8_wayAt_63 ?_
          refine x_callS3 lk_X8_105 (m_isIn _ _ _) ho dX8_wayAt_64 (Nat.le_of_ble_eq_true rfl) (by omega) (by decide) (by omega) (by omega) ?_
          refine x_ifb_ne (tgt := 77) dX8_wayAt_67 (by decide) (fun c67 => ?_) (fun c67 => ?_)
          · skip
            skip
            refine x_iconst (v := nI 0) rfl dX8_wayAt_77 ?_
            refine x_ist5 hL (by decide) rfl dX8_wayAt_78 ?_
            simp only [Int32.not_le] at c50
            rcases okF_v hok (p := p) (by omega) with e9 | ⟨u, hu, eu⟩
            · exact absurd c50 (by rw [e9]; decide +kernel)
            obtain ⟨k, hk, rfl⟩ := inS_of (k := k9) (m := u) (by rw [← eu]; exact c67) (by omega)
            refine x_for (n := k) (fun i => [some (.ref 32), some (.int (nI t)), some (.int (nI j)), some (.int (nI k)), some (.int (nI (goW (M.2.2.1 5) pm t (farZ (M.2.2.1 5) pm t j) i p))), some (.int (nI i)), none, none]) (fun i => []) (fun i => hM (mSA (mI (mI M 1 (nI 0)) 0 (nI 0)) 8 (farS (M.2.2.1 5) pm t j (M.2.2.1 8))) R) ?_ (fun i hi ihi => ?_)
            · skip
              refine x_iload dX8_wayAt_80 rfl ?_
              refine x_iload_n dX8_wayAt_82 rfl ?_
              refine x_icmp_ge (tgt := 143) dX8_wayAt_83 (by decide) (fun c83 => ?_) (fun c83 => ?_)
              · skip
                refine x_iload dX8_wayAt_143 rfl ?_
                refine x_iret hr rfl dX8_wayAt_145 (by omega) (by omega) (hQ _ _ ?_)
                try dsimp only [mI, mSA] at c19 c50 c67 c83
                exact ⟨by simp (disch := omega) [spWayAt, hx, hy, hg, e, cl_nI, c50, c67, -Int32.not_lt, -Int32.not_le], _, rfl, by simp (disch := omega) [spWayAt, hx, hy, hg, e, cl_nI, c50, c67, -Int32.not_lt, -Int32.not_le]; first | exact mQ_R | exact mQ_SA (r := 8) (mQ_r _) (by decide) (by decide)⟩
              · exfalso; first | (have := (nI_leI (by omega) (by omega)).mp c83; omega) | (exact c83 (nI_le (by omega) (by omega))) | (simp (disch := omega) [inS_ix, inS_N, ixL_N, ix_nI, hx, hy, hg] at c83 <;> omega) | (simp (disch := omega) only [h0, h1, h3, Int32.le_iff_toInt_le, Int32.lt_iff_toInt_lt, ← Int32.toInt_inj, nI_toInt, Int32.toInt_zero, m1_toInt, Int64.le_iff_toInt_le, Int64.lt_iff_toInt_lt, ← Int64.toInt_inj, pk_lT, i64_toInt, Int64.toInt_zero, eq_self, not_true_eq_false, not_false_eq_true] at c19 c50 c67 c83 <;> omega) | omega
            · skip
              obtain ⟨hr1, hr2⟩ := goW_ok hok (by omega) hu eu i (by omega)
              obtain ⟨hs1, hs2, hs3, hs4⟩ := stepS_s (stepS_ok hok hr1 (by omega) hr2 (by omega))
              refine x_iload dX8_wayAt_80 rfl ?_
              refine x_iload_n dX8_wayAt_82 rfl ?_
              refine x_icmp_ge (tgt := 143) dX8_wayAt_83 (by decide) (fun c83 => ?_) (fun c83 => ?_)
              · exfalso; first | (have := (nI_leI (by omega) (by omega)).mp c83; omega) | (exact c83 (nI_le (by omega) (by omega))) | (simp (disch := omega) [inS_ix, inS_N, ixL_N, ix_nI, hx, hy, hg] at c83 <;> omega) | (simp (disch := omega) only [h0, h1, h3, Int32.le_iff_toInt_le, Int32.lt_iff_toInt_lt, ← Int32.toInt_inj, nI_toInt, Int32.toInt_zero, m1_toInt, Int64.le_iff_toInt_le, Int64.lt_iff_toInt_lt, ← Int64.toInt_inj, pk_lT, i64_toInt, Int64.toInt_zero, eq_self, not_true_eq_false, not_false_eq_true] at c19 c50 c67 c83 <;> omega) | omega
              · skip
                refine x_aload_n dX8_wayAt_86 rfl ?_
                refine x_iload_n dX8_wayAt_87 rfl ?_
                refine x_iload dX8_wayAt_88 rfl ?_
                refine x_callV2 lk_X8_357 (m_nextOf (M := mSA (mI (mI M 1 (nI 0)) 0 (nI 0)) 8 (farS (M.2.2.1 5) pm t j (M.2.2.1 8))) (wF_8 hF 8 (by decide) _) _ _ (by omega) (by omega)) ho dX8_wayAt_90 rfl (Nat.le_of_ble_eq_true rfl) (by omega) (by decide) (by omega) (by omega) ?_
                refine x_ival (y := nxS (M.2.2.1 5) pm t (goW (M.2.2.1 5) pm t (farZ (M.2.2.1 5) pm t j) i p)) (by rw [mSA_5 (by decide)]) ?_
                refine x_ist6 hL (by decide) rfl dX8_wayAt_93 ?_
                refine x_iconst (v := nI 0) rfl dX8_wayAt_95 ?_
                refine x_ist7 hL (by decide) rfl dX8_wayAt_96 ?_
                refine x_for (n := (stepS (M.2.2.1 5) pm t (farZ (M.2.2.1 5) pm t j) (goW (M.2.2.1 5) pm t (farZ (M.2.2.1 5) pm t j) i p))) (fun q => [some (.ref 32), some (.int (nI t)), some (.int (nI j)), some (.int (nI k)), some (.int (nI (goW (M.2.2.1 5) pm t (farZ (M.2.2.1 5) pm t j) i p))), some (.int (nI i)), some (.int (nxS (M.2.2.1 5) pm t (goW (M.2.2.1 5) pm t (farZ (M.2.2.1 5) pm t j) i p))), some (.int (nI q))]) (fun q => []) (fun q => hM (mSA (mI (mI M 1 (nI 0)) 0 (nI 0)) 8 (farS (M.2.2.1 5) pm t j (M.2.2.1 8))) R) ?_ (fun q hq ihq => ?_)
                · skip
                  refine x_iload dX8_wayAt_98 rfl ?_
                  refine x_iload dX8_wayAt_100 rfl ?_
                  refine x_callS2 lk_X8_109 (m_has _ _) ho dX8_wayAt_102 (Nat.le_of_ble_eq_true rfl) (by omega) (by decide) (by omega) (by omega) ?_
                  refine x_ifb_eq (tgt := 127) dX8_wayAt_105 (by decide) (fun c105 => ?_) (fun c105 => ?_)
                  · try (exfalso; first | (exact absurd (hs1.symm.trans c105) (by decide)) | (simp (disch := omega) [inS_ix, inS_N, ixL_N, ix_nI, hx, hy, hg] at c105 <;> omega) | (simp (disch := omega) only [h0, h1, h3, Int32.le_iff_toInt_le, Int32.lt_iff_toInt_lt, ← Int32.toInt_inj, nI_toInt, Int32.toInt_zero, m1_toInt, Int64.le_iff_toInt_le, Int64.lt_iff_toInt_lt, ← Int64.toInt_inj, pk_lT, i64_toInt, Int64.toInt_zero, eq_self, not_true_eq_false, not_false_eq_true] at c19 c50 c67 c83 c105 <;> omega) | omega)
                    all_goals
                      skip
                      refine x_inc7 hL (by decide) rfl dX8_wayAt_127 (nI_1 _) ?_
                      refine x_goto (tgt := 98) dX8_wayAt_130 (by decide) ?_
                      omega
                  · try (exfalso; first | (exact absurd (hs1.symm.trans c105) (by decide)) | (simp (disch := omega) [inS_ix, inS_N, ixL_N, ix_nI, hx, hy, hg] at c105 <;> omega) | (simp (disch := omega) only [h0, h1, h3, Int32.le_iff_toInt_le, Int32.lt_iff_toInt_lt, ← Int32.toInt_inj, nI_toInt, Int32.toInt_zero, m1_toInt, Int64.le_iff_toInt_le, Int64.lt_iff_toInt_lt, ← Int64.toInt_inj, pk_lT, i64_toInt, Int64.toInt_zero, eq_self, not_true_eq_false, not_false_eq_true] at c19 c50 c67 c83 c105 <;> omega) | omega)
                    all_goals
                      skip
                      refine x_aload_n dX8_wayAt_108 rfl ?_
                      refine x_getf gf_X8_44 ho dX8_wayAt_109 rfl rfl ?_
                      refine x_iload dX8_wayAt_112 rfl ?_
                      refine x_iald dX8_wayAt_114 rfl (by first | rfl | exact nI_add _ _ | (simp only [nI_add, pk_mul]; rfl)) (by omega) (by decide) ?_
                      first
                        | refine x_ival (y := (farZ (M.2.2.1 5) pm t j) q) ((congrFun (upA_s (f := M.2.2.1) (r := 8) (x := (farS (M.2.2.1 5) pm t j (M.2.2.1 8)))) q).trans (hfz _ (by omega))) ?_
                        | refine x_ival (y := (farZ (M.2.2.1 5) pm t j) (stepS (M.2.2.1 5) pm t (farZ (M.2.2.1 5) pm t j) (goW (M.2.2.1 5) pm t (farZ (M.2.2.1 5) pm t j) i p))) ((congrFun (upA_s (f := M.2.2.1) (r := 8) (x := (farS (M.2.2.1 5) pm t j (M.2.2.1 8)))) (stepS (M.2.2.1 5) pm t (farZ (M.2.2.1 5) pm t j) (goW (M.2.2.1 5) pm t (farZ (M.2.2.1 5) pm t j) i p))).trans (hfz _ (by omega))) ?_
                      refine x_aload_n dX8_wayAt_115 rfl ?_
                      refine x_getf gf_X8_44 ho dX8_wayAt_116 rfl rfl ?_
                      refine x_iload dX8_wayAt_119 rfl ?_
                      refine x_iald dX8_wayAt_121 rfl (by first | rfl | exact nI_add _ _ | (simp only [nI_add, pk_mul]; rfl)) (by omega) (by decide) ?_
                      refine x_ival (y := (farZ (M.2.2.1 5) pm t j) (goW (M.2.2.1 5) pm t (farZ (M.2.2.1 5) pm t j) i p)) ((congrFun (upA_s (f := M.2.2.1) (r := 8) (x := (farS (M.2.2.1 5) pm t j (M.2.2.1 8)))) (goW (M.2.2.1 5) pm t (farZ (M.2.2.1 5) pm t j) i p)).trans (hfz _ (by omega))) ?_
                      refine x_iconst (v := nI 1) rfl dX8_wayAt_122 ?_
                      refine x_isub dX8_wayAt_123 ?_
                      refine x_icmp_eq (tgt := 133) dX8_wayAt_124 (by decide) (fun c124 => ?_) (fun c124 => ?_)
                      · try (exfalso; first | (exact c124 hs2) | (exact hs4 q hq ⟨c105, c124⟩) | (simp (disch := omega) [inS_ix, inS_N, ixL_N, ix_nI, hx, hy, hg] at c124 <;> omega) | (simp (disch := omega) only [h0, h1, h3, Int32.le_iff_toInt_le, Int32.lt_iff_toInt_lt, ← Int32.toInt_inj, nI_toInt, Int32.toInt_zero, m1_toInt, Int64.le_iff_toInt_le, Int64.lt_iff_toInt_lt, ← Int64.toInt_inj, pk_lT, i64_toInt, Int64.toInt_zero, eq_self, not_true_eq_false, not_false_eq_true] at c19 c50 c67 c83 c105 c124 <;> omega) | omega)
                        all_goals
                          skip
                          refine x_iload dX8_wayAt_133 rfl ?_
                          refine x_ist4 hL (by decide) rfl dX8_wayAt_135 ?_
                          refine x_inc5 hL (by decide) rfl dX8_wayAt_137 (nI_1 _) ?_
                          refine x_goto (tgt := 80) dX8_wayAt_140 (by decide) ?_
                          refine x_drop (k := 6) ?_
                          refine x_drop (k := 7) ?_
                          refine x_eq ?_ ?_ ?_ (ihi)
                          · first | rfl | (simp [c19, c50, c67, c83, c105, c124]; done)
                          · rfl
                          · rfl
                      · try (exfalso; first | (exact c124 hs2) | (exact hs4 q hq ⟨c105, c124⟩) | (simp (disch := omega) [inS_ix, inS_N, ixL_N, ix_nI, hx, hy, hg] at c124 <;> omega) | (simp (disch := omega) only [h0, h1, h3, Int32.le_iff_toInt_le, Int32.lt_iff_toInt_lt, ← Int32.toInt_inj, nI_toInt, Int32.toInt_zero, m1_toInt, Int64.le_iff_toInt_le, Int64.lt_iff_toInt_lt, ← Int64.toInt_inj, pk_lT, i64_toInt, Int64.toInt_zero, eq_self, not_true_eq_false, not_false_eq_true] at c19 c50 c67 c83 c105 c124 <;> omega) | omega)
                        all_goals
                          skip
                          refine x_inc7 hL (by decide) rfl dX8_wayAt_127 (nI_1 _) ?_
                          refine x_goto (tgt := 98) dX8_wayAt_130 (by decide) ?_
                          omega
                · skip
                  refine x_iload dX8_wayAt_98 rfl ?_
                  refine x_iload dX8_wayAt_100 rfl ?_
                  refine x_callS2 lk_X8_109 (m_has _ _) ho dX8_wayAt_102 (Nat.le_of_ble_eq_true rfl) (by omega) (by decide) (by omega) (by omega) ?_
                  refine x_ifb_eq (tgt := 127) dX8_wayAt_105 (by decide) (fun c105 => ?_) (fun c105 => ?_)
                  · try (exfalso; first | (exact absurd (hs1.symm.trans c105) (by decide)) | (simp (disch := omega) [inS_ix, inS_N, ixL_N, ix_nI, hx, hy, hg] at c105 <;> omega) | (simp (disch := omega) only [h0, h1, h3, Int32.le_iff_toInt_le, Int32.lt_iff_toInt_lt, ← Int32.toInt_inj, nI_toInt, Int32.toInt_zero, m1_toInt, Int64.le_iff_toInt_le, Int64.lt_iff_toInt_lt, ← Int64.toInt_inj, pk_lT, i64_toInt, Int64.toInt_zero, eq_self, not_true_eq_false, not_false_eq_true] at c19 c50 c67 c83 c105 <;> omega) | omega)
                    all_goals
                      skip
                      refine x_inc7 hL (by decide) rfl dX8_wayAt_127 (nI_1 _) ?_
                      refine x_goto (tgt := 98) dX8_wayAt_130 (by decide) ?_
                      refine x_eq ?_ ?_ ?_ (ihq)
                      · first | rfl | (simp [c19, c50, c67, c83, c105]; done)
                      · rfl
                      · rfl
                  · try (exfalso; first | (exact absurd (hs1.symm.trans c105) (by decide)) | (simp (disch := omega) [inS_ix, inS_N, ixL_N, ix_nI, hx, hy, hg] at c105 <;> omega) | (simp (disch := omega) only [h0, h1, h3, Int32.le_iff_toInt_le, Int32.lt_iff_toInt_lt, ← Int32.toInt_inj, nI_toInt, Int32.toInt_zero, m1_toInt, Int64.le_iff_toInt_le, Int64.lt_iff_toInt_lt, ← Int64.toInt_inj, pk_lT, i64_toInt, Int64.toInt_zero, eq_self, not_true_eq_false, not_false_eq_true] at c19 c50 c67 c83 c105 <;> omega) | omega)
                    all_goals
                      skip
                      refine x_aload_n dX8_wayAt_108 rfl ?_
                      refine x_getf gf_X8_44 ho dX8_wayAt_109 rfl rfl ?_
                      refine x_iload dX8_wayAt_112 rfl ?_
                      refine x_iald dX8_wayAt_114 rfl (by first | rfl | exact nI_add _ _ | (simp only [nI_add, pk_mul]; rfl)) (by omega) (by decide) ?_
                      first
                        | refine x_ival (y := (farZ (M.2.2.1 5) pm t j) q) ((congrFun (upA_s (f := M.2.2.1) (r := 8) (x := (farS (M.2.2.1 5) pm t j (M.2.2.1 8)))) q).trans (hfz _ (by omega))) ?_
                        | refine x_ival (y := (farZ (M.2.2.1 5) pm t j) (stepS (M.2.2.1 5) pm t (farZ (M.2.2.1 5) pm t j) (goW (M.2.2.1 5) pm t (farZ (M.2.2.1 5) pm t j) i p))) ((congrFun (upA_s (f := M.2.2.1) (r := 8) (x := (farS (M.2.2.1 5) pm t j (M.2.2.1 8)))) (stepS (M.2.2.1 5) pm t (farZ (M.2.2.1 5) pm t j) (goW (M.2.2.1 5) pm t (farZ (M.2.2.1 5) pm t j) i p))).trans (hfz _ (by omega))) ?_
                      refine x_aload_n dX8_wayAt_115 rfl ?_
                      refine x_getf gf_X8_44 ho dX8_wayAt_116 rfl rfl ?_
                      refine x_iload dX8_wayAt_119 rfl ?_
                      refine x_iald dX8_wayAt_121 rfl (by first | rfl | exact nI_add _ _ | (simp only [nI_add, pk_mul]; rfl)) (by omega) (by decide) ?_
                      refine x_ival (y := (farZ (M.2.2.1 5) pm t j) (goW (M.2.2.1 5) pm t (farZ (M.2.2.1 5) pm t j) i p)) ((congrFun (upA_s (f := M.2.2.1) (r := 8) (x := (farS (M.2.2.1 5) pm t j (M.2.2.1 8)))) (goW (M.2.2.1 5) pm t (farZ (M.2.2.1 5) pm t j) i p)).trans (hfz _ (by omega))) ?_
                      refine x_iconst (v := nI 1) rfl dX8_wayAt_122 ?_
                      refine x_isub dX8_wayAt_123 ?_
                      refine x_icmp_eq (tgt := 133) dX8_wayAt_124 (by decide) (fun c124 => ?_) (fun c124 => ?_)
                      · try (exfalso; first | (exact c124 hs2) | (exact hs4 q hq ⟨c105, c124⟩) | (simp (disch := omega) [inS_ix, inS_N, ixL_N, ix_nI, hx, hy, hg] at c124 <;> omega) | (simp (disch := omega) only [h0, h1, h3, Int32.le_iff_toInt_le, Int32.lt_iff_toInt_lt, ← Int32.toInt_inj, nI_toInt, Int32.toInt_zero, m1_toInt, Int64.le_iff_toInt_le, Int64.lt_iff_toInt_lt, ← Int64.toInt_inj, pk_lT, i64_toInt, Int64.toInt_zero, eq_self, not_true_eq_false, not_false_eq_true] at c19 c50 c67 c83 c105 c124 <;> omega) | omega)
                        all_goals
                          skip
                          refine x_iload dX8_wayAt_133 rfl ?_
                          refine x_ist4 hL (by decide) rfl dX8_wayAt_135 ?_
                          refine x_inc5 hL (by decide) rfl dX8_wayAt_137 (nI_1 _) ?_
                          refine x_goto (tgt := 80) dX8_wayAt_140 (by decide) ?_
                          refine x_drop (k := 6) ?_
                          refine x_drop (k := 7) ?_
                          refine x_eq ?_ ?_ ?_ (ihi)
                          · first | rfl | (simp [c19, c50, c67, c83, c105, c124]; done)
                          · rfl
                          · rfl
                      · try (exfalso; first | (exact c124 hs2) | (exact hs4 q hq ⟨c105, c124⟩) | (simp (disch := omega) [inS_ix, inS_N, ixL_N, ix_nI, hx, hy, hg] at c124 <;> omega) | (simp (disch := omega) only [h0, h1, h3, Int32.le_iff_toInt_le, Int32.lt_iff_toInt_lt, ← Int32.toInt_inj, nI_toInt, Int32.toInt_zero, m1_toInt, Int64.le_iff_toInt_le, Int64.lt_iff_toInt_lt, ← Int64.toInt_inj, pk_lT, i64_toInt, Int64.toInt_zero, eq_self, not_true_eq_false, not_false_eq_true] at c19 c50 c67 c83 c105 c124 <;> omega) | omega)
                        all_goals
                          skip
                          refine x_inc7 hL (by decide) rfl dX8_wayAt_127 (nI_1 _) ?_
                          refine x_goto (tgt := 98) dX8_wayAt_130 (by decide) ?_
                          refine x_eq ?_ ?_ ?_ (ihq)
                          · first | rfl | (simp [c19, c50, c67, c83, c105, c124]; done)
                          · rfl
                          · rfl
          · skip
            skip
            refine x_aload_n dX8_wayAt_70 rfl ?_
            refine x_bipush (v := nI 8) rfl dX8_wayAt_71 ?_
            refine x_callV1 lk_X8_327 (m_refuse (M := mSA (mI (mI M 1 (nI 0)) 0 (nI 0)) 8 (farS (M.2.2.1 5) pm t j (M.2.2.1 8))) _) ho dX8_wayAt_73 rfl (Nat.le_of_ble_eq_true rfl) (by omega) (by decide) (by omega) (by omega) ?_
            refine x_iret hr rfl dX8_wayAt_76 (by omega) (by omega) (hQ _ _ ?_)
            try dsimp only [mI, mSA] at c19 c50 c67
            exact ⟨by simp (disch := omega) [spWayAt, hx, hy, hg, e, cl_nI, c50, c67, -Int32.not_lt, -Int32.not_le], _, rfl, by simp (disch := omega) [spWayAt, hx, hy, hg, e, cl_nI, c50, c67, -Int32.not_lt, -Int32.not_le]; first | exact mQ_R | exact mQ_SA (r := 8) (mQ_r _) (by decide) (by decide)⟩
    · exact absurd (by decide +kernel) c19
  · skip
    refine CT.of (ini := false) (by decide +kernel) q2038 q164 (Nat.le_of_ble_eq_true rfl) (by decide) ?_
    intro Γ hw ho hL hr hh hini hal hd hmc hms hQ
    subst hw
    show AW Γ cX8_wayAt 0 0 0 [some (.ref 32), some (.int t9), some (.int q9), some (.int k9), none, none, none, none] [] (hM M R)
    have h0 := hF.c0
    have h1 := hF.c1
    have h3 := hF.c3
    have l0 := hF.l0
    have l1 := hF.l1
    have l3 := hF.l3
    refine x_aload_n dX8_wayAt_0 rfl ?_
    refine x_iconst (v := nI 0) rfl dX8_wayAt_1 ?_
    refine m_puti (k := 1) (pf_X8_70 (ini := false)) ho hini dX8_wayAt_2 rfl rfl (by decide) (ms_1 _ _) ?_
    refine x_aload_n dX8_wayAt_5 rfl ?_
    refine x_aload_n dX8_wayAt_6 rfl ?_
    refine x_iload_n dX8_wayAt_7 rfl ?_
    refine x_iload_n dX8_wayAt_8 rfl ?_
    refine x_callV2 lk_X8_374 (m_whyNoWay (M := (mI M 1 (nI 0))) hF _ _) ho dX8_wayAt_9 rfl (Nat.le_of_ble_eq_true rfl) (by omega) (by decide) (by omega) (by omega) ?_
    refine x_ival (y := nI 2) (by first | (simp [whyW, hx]; done) | (simp [whyW, hx, hy]; done)) ?_
    refine m_puti (k := 0) (pf_X8_73 (ini := false)) ho hini dX8_wayAt_12 rfl rfl (by decide) (ms_0 _ _) ?_
    refine x_aload_n dX8_wayAt_15 rfl ?_
    refine x_getf gf_X8_73 ho dX8_wayAt_16 rfl rfl ?_
    refine x_ival (y := nI 2) rfl ?_
    refine x_if_le (tgt := 24) dX8_wayAt_19 (by decide) (fun c19 => ?_) (fun c19 => ?_)
    · try (exfalso; first | (simp (disch := omega) [inS_ix, inS_N, ixL_N, ix_nI, hx, ixL_i] at c19 <;> omega) | (simp (disch := omega) only [h0, h1, h3, Int32.le_iff_toInt_le, Int32.lt_iff_toInt_lt, ← Int32.toInt_inj, nI_toInt, Int32.toInt_zero, m1_toInt, Int64.le_iff_toInt_le, Int64.lt_iff_toInt_lt, ← Int64.toInt_inj, pk_lT, i64_toInt, Int64.toInt_zero, eq_self, not_true_eq_false, not_false_eq_true] at c19 <;> omega) | omega)
      all_goals
        skip
        omega
    · try (exfalso; first | (simp (disch := omega) [inS_ix, inS_N, ixL_N, ix_nI, hx, ixL_i] at c19 <;> omega) | (simp (disch := omega) only [h0, h1, h3, Int32.le_iff_toInt_le, Int32.lt_iff_toInt_lt, ← Int32.toInt_inj, nI_toInt, Int32.toInt_zero, m1_toInt, Int64.le_iff_toInt_le, Int64.lt_iff_toInt_lt, ← Int64.toInt_inj, pk_lT, i64_toInt, Int64.toInt_zero, eq_self, not_true_eq_false, not_false_eq_true] at c19 <;> omega) | omega)
      all_goals
        skip
        refine x_iconst (v := (-1)) rfl dX8_wayAt_22 ?_
        refine x_iret hr rfl dX8_wayAt_23 (by omega) (by omega) (hQ _ _ ?_)
        try dsimp only [mI, mSA] at c19
        exact ⟨by first | (simp [spWayAt, hx]; done) | (simp [spWayAt, hx, hy]; done), _, rfl, by first | (simp [spWayAt, hx]; exact mQ_r _) | (simp [spWayAt, hx, hy]; exact mQ_r _)⟩
  · skip
    refine CT.of (ini := false) (by decide +kernel) q2038 q164 (Nat.le_of_ble_eq_true rfl) (by decide) ?_
    intro Γ hw ho hL hr hh hini hal hd hmc hms hQ
    subst hw
    show AW Γ cX8_wayAt 0 0 0 [some (.ref 32), some (.int (nI t)), some (.int q9), some (.int k9), none, none, none, none] [] (hM M R)
    have h0 := hF.c0
    have h1 := hF.c1
    have h3 := hF.c3
    have l0 := hF.l0
    have l1 := hF.l1
    have l3 := hF.l3
    refine x_aload_n dX8_wayAt_0 rfl ?_
    refine x_iconst (v := nI 0) rfl dX8_wayAt_1 ?_
    refine m_puti (k := 1) (pf_X8_70 (ini := false)) ho hini dX8_wayAt_2 rfl rfl (by decide) (ms_1 _ _) ?_
    refine x_aload_n dX8_wayAt_5 rfl ?_
    refine x_aload_n dX8_wayAt_6 rfl ?_
    refine x_iload_n dX8_wayAt_7 rfl ?_
    refine x_iload_n dX8_wayAt_8 rfl ?_
    refine x_callV2 lk_X8_374 (m_whyNoWay (M := (mI M 1 (nI 0))) hF _ _) ho dX8_wayAt_9 rfl (Nat.le_of_ble_eq_true rfl) (by omega) (by decide) (by omega) (by omega) ?_
    refine x_ival (y := nI 2) (by first | (simp [whyW, hx]; done) | (simp [whyW, hx, hy]; done)) ?_
    refine m_puti (k := 0) (pf_X8_73 (ini := false)) ho hini dX8_wayAt_12 rfl rfl (by decide) (ms_0 _ _) ?_
    refine x_aload_n dX8_wayAt_15 rfl ?_
    refine x_getf gf_X8_73 ho dX8_wayAt_16 rfl rfl ?_
    refine x_ival (y := nI 2) rfl ?_
    refine x_if_le (tgt := 24) dX8_wayAt_19 (by decide) (fun c19 => ?_) (fun c19 => ?_)
    · try (exfalso; first | (simp (disch := omega) [inS_ix, inS_N, ixL_N, ix_nI, hx, hy, ixL_i] at c19 <;> omega) | (simp (disch := omega) only [h0, h1, h3, Int32.le_iff_toInt_le, Int32.lt_iff_toInt_lt, ← Int32.toInt_inj, nI_toInt, Int32.toInt_zero, m1_toInt, Int64.le_iff_toInt_le, Int64.lt_iff_toInt_lt, ← Int64.toInt_inj, pk_lT, i64_toInt, Int64.toInt_zero, eq_self, not_true_eq_false, not_false_eq_true] at c19 <;> omega) | omega)
      all_goals
        skip
        omega
    · try (exfalso; first | (simp (disch := omega) [inS_ix, inS_N, ixL_N, ix_nI, hx, hy, ixL_i] at c19 <;> omega) | (simp (disch := omega) only [h0, h1, h3, Int32.le_iff_toInt_le, Int32.lt_iff_toInt_lt, ← Int32.toInt_inj, nI_toInt, Int32.toInt_zero, m1_toInt, Int64.le_iff_toInt_le, Int64.lt_iff_toInt_lt, ← Int64.toInt_inj, pk_lT, i64_toInt, Int64.toInt_zero, eq_self, not_true_eq_false, not_false_eq_true] at c19 <;> omega) | omega)
      all_goals
        skip
        refine x_iconst (v := (-1)) rfl dX8_wayAt_22 ?_
        refine x_iret hr rfl dX8_wayAt_23 (by omega) (by omega) (hQ _ _ ?_)
        try dsimp only [mI, mSA] at c19
        exact ⟨by first | (simp [spWayAt, hx]; done) | (simp [spWayAt, hx, hy]; done), _, rfl, by first | (simp [spWayAt, hx]; exact mQ_r _) | (simp [spWayAt, hx, hy]; exact mQ_r _)⟩
