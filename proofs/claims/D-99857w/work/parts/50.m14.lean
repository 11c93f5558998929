/-! ===== the model: years ===== -/
set_option maxRecDepth 100000
set_option maxHeartbeats 800000 in
theorem m_draw {w : xW} {M : mS} {R : xH} (r n : Nat) (e : M.1 40 = nI r) (hr : r < 65536) (h0n : 0 < n) (hn : n < 100) : CT w yX8_draw cX8_draw 2 (some (.int)) [] false (0) 0 0 [.ref 32, .int (nI n)] (hM M R) (xret (some (.int (nI (drw r / 8 % n)))) (hM (mI M 40 (nI (drw r))) R)) := by
  refine CT.of (ini := false) (by decide +kernel) q2224 q164 (Nat.le_of_ble_eq_true rfl) (by decide) ?_
  intro Γ hw ho hL hr hh hini hal hd hmc hms hQ
  subst hw
  show AW Γ cX8_draw 0 0 0 [some (.ref 32), some (.int (nI n))] [] (hM M R)
  have hd1 : drw r < 65536 := Nat.mod_lt _ (by decide)
  have hd2 : drw r / 8 < 65536 := Nat.lt_of_le_of_lt (Nat.div_le_self _ _) hd1
  refine x_aload_n dX8_draw_0 rfl ?_
  refine x_aload_n dX8_draw_1 rfl ?_
  refine x_getf gf_X8_460 ho dX8_draw_2 rfl rfl ?_
  refine x_ival e ?_
  refine x_sipush (v := nI 2971) rfl dX8_draw_5 ?_
  refine x_imulN dX8_draw_8 ?_
  refine x_sipush (v := nI 10891) rfl dX8_draw_9 ?_
  refine x_iaddN dX8_draw_12 ?_
  refine x_ldcw (v := nI 65536) ho q2225 dX8_draw_13 ?_
  refine x_iremN (by omega) (by omega) (by omega) dX8_draw_16 ?_
  refine x_ival (y := nI (drw r)) rfl ?_
  refine m_puti (k := 40) (pf_X8_460 (ini := false)) ho hini dX8_draw_17 rfl rfl (by decide) (ms_40 _ _) ?_
  refine x_aload_n dX8_draw_20 rfl ?_
  refine x_getf gf_X8_460 ho dX8_draw_21 rfl rfl ?_
  refine x_ival (y := nI (drw r)) rfl ?_
  refine x_bipush (v := nI 8) rfl dX8_draw_24 ?_
  refine x_idivN (by omega) (by omega) (by omega) dX8_draw_26 ?_
  refine x_iload_n dX8_draw_27 rfl ?_
  refine x_iremN (by omega) (by omega) (by omega) dX8_draw_28 ?_
  refine x_iret hr rfl dX8_draw_29 (by omega) (by omega) (hQ _ _ ?_)
  exact ⟨rfl, rfl⟩
set_option maxHeartbeats 800000 in
theorem m_allGot {w : xW} {M : mS} {R : xH} {tm pm tn G : Nat} (hF : wF (M.2.2.1 5) tm pm tn G)  : CT w yX8_allGot cX8_allGot 3 (some (.int)) [] false (0) 0 0 [.ref 32] (hM M R) (xret (some (.int (gotS (M.2.2.1 5) pm))) (hM M R)) := by
  refine CT.of (ini := false) (by decide +kernel) q2204 q164 (Nat.le_of_ble_eq_true rfl) (by decide) ?_
  intro Γ hw ho hL hr hh hini hal hd hmc hms hQ
  subst hw
  show AW Γ cX8_allGot 0 0 0 [some (.ref 32), none, none] [] (hM M R)
  have h0 := hF.c0
  have h1 := hF.c1
  have h3 := hF.c3
  have l0 := hF.l0
  have l1 := hF.l1
  have l3 := hF.l3
  refine x_iconst (v := nI 0) rfl dX8_allGot_0 ?_
  refine x_ist1 hL (by decide) rfl dX8_allGot_1 ?_
  refine x_iconst (v := nI 0) rfl dX8_allGot_2 ?_
  refine x_ist2 hL (by decide) rfl dX8_allGot_3 ?_
  refine x_for (n := pm) (fun i => [some (.ref 32), some (.int (gotS (M.2.2.1 5) i)), some (.int (nI i))]) (fun i => []) (fun i => hM M R) ?_ (fun i hi ihi => ?_)
  · skip
    refine x_iload_n dX8_allGot_4 rfl ?_
    refine x_aload_n dX8_allGot_5 rfl ?_
    refine x_getf gf_X8_35 ho dX8_allGot_6 rfl rfl ?_
    refine x_iconst (v := nI 1) rfl dX8_allGot_9 ?_
    refine x_iald dX8_allGot_10 rfl (by first | rfl | exact nI_add _ _ | (simp only [nI_add, pk_mul]; rfl)) (by omega) (by decide) ?_
    refine x_ival (y := nI pm) h1 ?_
    refine x_icmp_ge (tgt := 32) dX8_allGot_11 (by decide) (fun c11 => ?_) (fun c11 => ?_)
    · skip
      refine x_iload_n dX8_allGot_32 rfl ?_
      refine x_iret hr rfl dX8_allGot_33 (by omega) (by omega) (hQ _ _ ?_)
      try dsimp only [mI, mSA] at c11
      exact ⟨rfl, rfl⟩
    · exfalso; first | (simp (disch := omega) only [h0, h1, h3, Int32.le_iff_toInt_le, Int32.lt_iff_toInt_lt, ← Int32.toInt_inj, nI_toInt, Int32.toInt_zero, m1_toInt, Int64.le_iff_toInt_le, Int64.lt_iff_toInt_lt, ← Int64.toInt_inj, pk_lT, i64_toInt, Int64.toInt_zero, eq_self, not_true_eq_false, not_false_eq_true] at c11 <;> omega) | omega
  · skip
    refine x_iload_n dX8_allGot_4 rfl ?_
    refine x_aload_n dX8_allGot_5 rfl ?_
    refine x_getf gf_X8_35 ho dX8_allGot_6 rfl rfl ?_
    refine x_iconst (v := nI 1) rfl dX8_allGot_9 ?_
    refine x_iald dX8_allGot_10 rfl (by first | rfl | exact nI_add _ _ | (simp only [nI_add, pk_mul]; rfl)) (by omega) (by decide) ?_
    refine x_ival (y := nI pm) h1 ?_
    refine x_icmp_ge (tgt := 32) dX8_allGot_11 (by decide) (fun c11 => ?_) (fun c11 => ?_)
    · exfalso; first | (simp (disch := omega) only [h0, h1, h3, Int32.le_iff_toInt_le, Int32.lt_iff_toInt_lt, ← Int32.toInt_inj, nI_toInt, Int32.toInt_zero, m1_toInt, Int64.le_iff_toInt_le, Int64.lt_iff_toInt_lt, ← Int64.toInt_inj, pk_lT, i64_toInt, Int64.toInt_zero, eq_self, not_true_eq_false, not_false_eq_true] at c11 <;> omega) | omega
    · skip
      refine x_iload_n dX8_allGot_14 rfl ?_
      refine x_aload_n dX8_allGot_15 rfl ?_
      refine x_getf gf_X8_35 ho dX8_allGot_16 rfl rfl ?_
      refine x_bipush (v := nI 26) rfl dX8_allGot_19 ?_
      refine x_iload_n dX8_allGot_21 rfl ?_
      refine x_iaddN dX8_allGot_22 ?_
      refine x_iald dX8_allGot_23 rfl (by first | rfl | exact nI_add _ _ | (simp only [nI_add, pk_mul]; rfl)) (by omega) (by decide) ?_
      refine x_iadd dX8_allGot_24 ?_
      refine x_ist1 hL (by decide) rfl dX8_allGot_25 ?_
      refine x_inc2 hL (by decide) rfl dX8_allGot_26 (nI_1 _) ?_
      refine x_goto (tgt := 4) dX8_allGot_29 (by decide) ?_
      refine x_eq ?_ ?_ ?_ (ihi)
      · rfl
      · rfl
      · rfl
set_option maxHeartbeats 800000 in
theorem m_isBitten {w : xW} {M : mS} {R : xH} {tm pm tn G : Nat} (hF : wF (M.2.2.1 5) tm pm tn G) (t r : Nat) (ht : t < tn) (e : M.1 40 = nI r) (hr9 : r < 65536) : CT w yX8_isBitten cX8_isBitten 2 (some (.boolean)) [] false (2) 0 0 [.ref 32, .int (nI t)] (hM M R) (xret (some (.int (xb (biB (M.2.2.1 5) t r)))) (hM (biM M t r) R)) := by
  refine CT.of (ini := false) (by decide +kernel) q2220 q164 (Nat.le_of_ble_eq_true rfl) (by decide) ?_
  intro Γ hw ho hL hr hh hini hal hd hmc hms hQ
  subst hw
  show AW Γ cX8_isBitten 0 0 0 [some (.ref 32), some (.int (nI t))] [] (hM M R)
  have h0 := hF.c0
  have h1 := hF.c1
  have h3 := hF.c3
  have l0 := hF.l0
  have l1 := hF.l1
  have l3 := hF.l3
  refine x_aload_n dX8_isBitten_0 rfl ?_
  refine x_iload_n dX8_isBitten_1 rfl ?_
  refine x_callV1 lk_X8_310 (m_isGone hF _ (by omega)) ho dX8_isBitten_2 rfl (Nat.le_of_ble_eq_true rfl) (by omega) (by decide) (by omega) (by omega) ?_
  refine x_ifb_ne (tgt := 35) dX8_isBitten_5 (by decide) (fun c5 => ?_) (fun c5 => ?_)
  · skip
    skip
    refine x_iconst (v := nI 0) rfl dX8_isBitten_35 ?_
    refine x_iret hr rfl dX8_isBitten_36 (by omega) (by omega) (hQ _ _ ?_)
    exact ⟨by simp [biB, c5, xb], by simp [biM, c5]⟩
  · skip
    skip
    refine x_aload_n dX8_isBitten_8 rfl ?_
    refine x_getf gf_X8_35 ho dX8_isBitten_9 rfl rfl ?_
    refine x_bipush (v := nI 51) rfl dX8_isBitten_12 ?_
    refine x_iload_n dX8_isBitten_14 rfl ?_
    refine x_iaddN dX8_isBitten_15 ?_
    refine x_iald dX8_isBitten_16 rfl (by first | rfl | exact nI_add _ _ | (simp only [nI_add, pk_mul]; rfl)) (by omega) (by decide) ?_
    refine x_if_eq (tgt := 35) dX8_isBitten_17 (by decide) (fun c17 => ?_) (fun c17 => ?_)
    · skip
      skip
      refine x_iconst (v := nI 0) rfl dX8_isBitten_35 ?_
      refine x_iret hr rfl dX8_isBitten_36 (by omega) (by omega) (hQ _ _ ?_)
      exact ⟨by simp [biB, c5, c17, xb], by simp [biM, c5, c17]⟩
    · skip
      skip
      refine x_aload_n dX8_isBitten_20 rfl ?_
      refine x_bipush (v := nI 16) rfl dX8_isBitten_21 ?_
      refine x_callV1 lk_X8_464 (m_draw (M := M) r 16 e hr9 (by omega) (by omega)) ho dX8_isBitten_23 rfl (Nat.le_of_ble_eq_true rfl) (by omega) (by decide) (by omega) (by omega) ?_
      refine x_aload_n dX8_isBitten_26 rfl ?_
      refine x_getf gf_X8_35 ho dX8_isBitten_27 rfl rfl ?_
      refine x_iconst (v := nI 4) rfl dX8_isBitten_30 ?_
      refine x_iald dX8_isBitten_31 rfl (by first | rfl | exact nI_add _ _ | (simp only [nI_add, pk_mul]; rfl)) (by omega) (by decide) ?_
      refine x_ival (y := M.2.2.1 5 4) rfl ?_
      refine x_icmp_lt (tgt := 37) dX8_isBitten_32 (by decide) (fun c32 => ?_) (fun c32 => ?_)
      · skip
        skip
        refine x_aload_n dX8_isBitten_37 rfl ?_
        refine x_iload_n dX8_isBitten_38 rfl ?_
        refine x_callV1 lk_X8_363 (m_finds (M := (mI M 40 (nI (drw r)))) hF _ ht) ho dX8_isBitten_39 rfl (Nat.le_of_ble_eq_true rfl) (by omega) (by decide) (by omega) (by omega) ?_
        refine x_aload_n dX8_isBitten_42 rfl ?_
        refine x_dup rfl dX8_isBitten_43 ?_
        refine x_getf gf_X8_467 ho dX8_isBitten_44 rfl rfl ?_
        refine x_ival (y := M.1 44) rfl ?_
        refine x_iconst (v := nI 1) rfl dX8_isBitten_47 ?_
        refine x_iadd dX8_isBitten_48 ?_
        refine m_puti (k := 44) (pf_X8_467 (ini := false)) ho hini dX8_isBitten_49 rfl rfl (by decide) (ms_44 _ _) ?_
        refine x_iconst (v := nI 1) rfl dX8_isBitten_52 ?_
        refine x_iret hr rfl dX8_isBitten_53 (by omega) (by omega) (hQ _ _ ?_)
        exact ⟨by simp [biB, c5, c17, c32, xb], by simp [biM, c5, c17, c32]⟩
      · skip
        skip
        refine x_iconst (v := nI 0) rfl dX8_isBitten_35 ?_
        refine x_iret hr rfl dX8_isBitten_36 (by omega) (by omega) (hQ _ _ ?_)
        exact ⟨by simp [biB, c5, c17, c32, xb], by simp [biM, c5, c17, c32]⟩
set_option maxHeartbeats 800000 in
theorem m_isAny {w : xW} {M : mS} {R : xH} {tm pm tn G : Nat} (hF : wF (M.2.2.1 5) tm pm tn G) (r : Nat) (e : M.1 40 = nI r) (hr9 : r < 65536) : CT w yX8_isAny cX8_isAny 2 (some (.boolean)) [] false (5) 0 0 [.ref 32] (hM M R) (xret (some (.int (xb (anyV (M.2.2.1 5) pm tn r)))) (hM (anyM M pm tn r) R)) := by
  by_cases h9 : tn = 0
  · skip
    refine CT.of (ini := false) (by decide +kernel) q2229 q164 (Nat.le_of_ble_eq_true rfl) (by decide) ?_
    intro Γ hw ho hL hr hh hini hal hd hmc hms hQ
    subst hw
    show AW Γ cX8_isAny 0 0 0 [some (.ref 32), none] [] (hM M R)
    have h0 := hF.c0
    have h1 := hF.c1
    have h3 := hF.c3
    have l0 := hF.l0
    have l1 := hF.l1
    have l3 := hF.l3
    refine x_aload_n dX8_isAny_0 rfl ?_
    refine x_getf gf_X8_35 ho dX8_isAny_1 rfl rfl ?_
    refine x_iconst (v := nI 3) rfl dX8_isAny_4 ?_
    refine x_iald dX8_isAny_5 rfl (by first | rfl | exact nI_add _ _ | (simp only [nI_add, pk_mul]; rfl)) (by omega) (by decide) ?_
    refine x_ival (y := nI 0) (by rw [h3, h9]) ?_
    refine x_if_ne (tgt := 11) dX8_isAny_6 (by decide) (fun c6 => ?_) (fun c6 => ?_)
    · try (exfalso; first | (simp (disch := omega) only [h0, h1, h3, Int32.le_iff_toInt_le, Int32.lt_iff_toInt_lt, ← Int32.toInt_inj, nI_toInt, Int32.toInt_zero, m1_toInt, Int64.le_iff_toInt_le, Int64.lt_iff_toInt_lt, ← Int64.toInt_inj, pk_lT, i64_toInt, Int64.toInt_zero, eq_self, not_true_eq_false, not_false_eq_true] at c6 <;> omega) | omega)
      all_goals
        skip
        exact absurd rfl c6
    · try (exfalso; first | (simp (disch := omega) only [h0, h1, h3, Int32.le_iff_toInt_le, Int32.lt_iff_toInt_lt, ← Int32.toInt_inj, nI_toInt, Int32.toInt_zero, m1_toInt, Int64.le_iff_toInt_le, Int64.lt_iff_toInt_lt, ← Int64.toInt_inj, pk_lT, i64_toInt, Int64.toInt_zero, eq_self, not_true_eq_false, not_false_eq_true] at c6 <;> omega) | omega)
      all_goals
        skip
        refine x_iconst (v := nI 0) rfl dX8_isAny_9 ?_
        refine x_iret hr rfl dX8_isAny_10 (by omega) (by omega) (hQ _ _ ?_)
        exact ⟨by simp [anyV, h9, xb], by simp [anyM, h9]⟩
  · have hpp : 0 < pm := hF.so.resolve_left h9
    have b1 : anT tn r < tn := Nat.mod_lt _ (by omega)
    have b2 : anQ pm r < pm := Nat.mod_lt _ hpp
    have b3 : drw r < 65536 := Nat.mod_lt _ (by decide)
    refine CT.of (ini := false) (by decide +kernel) q2229 q164 (Nat.le_of_ble_eq_true rfl) (by decide) ?_
    intro Γ hw ho hL hr hh hini hal hd hmc hms hQ
    subst hw
    show AW Γ cX8_isAny 0 0 0 [some (.ref 32), none] [] (hM M R)
    have h0 := hF.c0
    have h1 := hF.c1
    have h3 := hF.c3
    have l0 := hF.l0
    have l1 := hF.l1
    have l3 := hF.l3
    refine x_aload_n dX8_isAny_0 rfl ?_
    refine x_getf gf_X8_35 ho dX8_isAny_1 rfl rfl ?_
    refine x_iconst (v := nI 3) rfl dX8_isAny_4 ?_
    refine x_iald dX8_isAny_5 rfl (by first | rfl | exact nI_add _ _ | (simp only [nI_add, pk_mul]; rfl)) (by omega) (by decide) ?_
    refine x_ival (y := nI tn) h3 ?_
    refine x_if_ne (tgt := 11) dX8_isAny_6 (by decide) (fun c6 => ?_) (fun c6 => ?_)
    · try (exfalso; first | (simp (disch := omega) [inS_ix, inS_N, ixL_N, ix_nI, h9] at c6 <;> omega) | (simp (disch := omega) only [h0, h1, h3, Int32.le_iff_toInt_le, Int32.lt_iff_toInt_lt, ← Int32.toInt_inj, nI_toInt, Int32.toInt_zero, m1_toInt, Int64.le_iff_toInt_le, Int64.lt_iff_toInt_lt, ← Int64.toInt_inj, pk_lT, i64_toInt, Int64.toInt_zero, eq_self, not_true_eq_false, not_false_eq_true] at c6 <;> omega) | omega)
      all_goals
        skip
        refine x_aload_n dX8_isAny_11 rfl ?_
        refine x_aload_n dX8_isAny_12 rfl ?_
        refine x_getf gf_X8_35 ho dX8_isAny_13 rfl rfl ?_
        refine x_iconst (v := nI 3) rfl dX8_isAny_16 ?_
        refine x_iald dX8_isAny_17 rfl (by first | rfl | exact nI_add _ _ | (simp only [nI_add, pk_mul]; rfl)) (by omega) (by decide) ?_
        refine x_ival (y := nI tn) h3 ?_
        refine x_callV1 lk_X8_464 (m_draw (M := M) r tn e hr9 (by omega) (by omega)) ho dX8_isAny_18 rfl (Nat.le_of_ble_eq_true rfl) (by omega) (by decide) (by omega) (by omega) ?_
        refine x_ival (y := nI (anT tn r)) rfl ?_
        refine x_ist1 hL (by decide) rfl dX8_isAny_21 ?_
        refine x_aload_n dX8_isAny_22 rfl ?_
        refine x_iload_n dX8_isAny_23 rfl ?_
        refine x_aload_n dX8_isAny_24 rfl ?_
        refine x_aload_n dX8_isAny_25 rfl ?_
        refine x_getf gf_X8_35 ho dX8_isAny_26 rfl rfl ?_
        refine x_iconst (v := nI 1) rfl dX8_isAny_29 ?_
        refine x_iald dX8_isAny_30 rfl (by first | rfl | exact nI_add _ _ | (simp only [nI_add, pk_mul]; rfl)) (by omega) (by decide) ?_
        refine x_ival (y := nI pm) h1 ?_
        refine x_callV1 lk_X8_464 (m_draw (M := (mI M 40 (nI (drw r)))) (drw r) pm rfl b3 (by omega) (by omega)) ho dX8_isAny_31 rfl (Nat.le_of_ble_eq_true rfl) (by omega) (by decide) (by omega) (by omega) ?_
        refine x_ival (y := nI (anQ pm r)) rfl ?_
        refine x_callV2 lk_X8_360 (m_passes (M := (mI (mI M 40 (nI (drw r))) 40 (nI (drw (drw r))))) hF _ _ b1 b2) ho dX8_isAny_34 rfl (Nat.le_of_ble_eq_true rfl) (by omega) (by decide) (by omega) (by omega) ?_
        refine x_iret hr (xb_n _) dX8_isAny_37 (by omega) (by omega) (hQ _ _ ?_)
        exact ⟨by simp [anyV, h9], by rw [anyM, if_neg h9]; dsimp only [mI]; rw [upd_upd]⟩
    · exact absurd ((nI_e0 (by omega)).mp c6) h9
