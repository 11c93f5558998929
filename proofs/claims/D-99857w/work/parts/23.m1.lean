/-! ===== the model: numbers, trays ===== -/
set_option maxRecDepth 100000
set_option maxHeartbeats 4000000 in
theorem m_isIn {w : xW} {h : xH} (x a b : Int64) : CT w yX8_isIn cX8_isIn 6 (some (.boolean)) [] false (0) 0 0 [.long x, .long a, .long b] (h) (xret (some (.int (xb (inS x a b)))) (h)) := by
  refine CT.of (ini := false) (by decide +kernel) q1753 q164 (Nat.le_of_ble_eq_true rfl) (by decide) ?_
  intro Γ hw ho hL hr hh hini hal hd hmc hms hQ
  subst hw
  show AW Γ cX8_isIn 0 0 0 [some (.long x), none, some (.long a), none, some (.long b), none] [] (h)
  refine x_lload_n dX8_isIn_0 rfl ?_
  refine x_lload_n dX8_isIn_1 rfl ?_
  refine x_lcmp_lt (tgt := 17) dX8_isIn_2 dX8_isIn_3 (by decide) (fun c2 => ?_) (fun c2 => ?_)
  · try (exfalso; first | (simp (disch := omega) only [Int32.le_iff_toInt_le, Int32.lt_iff_toInt_lt, ← Int32.toInt_inj, nI_toInt, Int32.toInt_zero, m1_toInt, Int64.le_iff_toInt_le, Int64.lt_iff_toInt_lt, ← Int64.toInt_inj, pk_lT, i64_toInt, Int64.toInt_zero] at c2 <;> omega) | omega)
    all_goals
      skip
      refine x_iconst (v := nI 0) rfl dX8_isIn_17 ?_
      refine x_iret hr rfl dX8_isIn_18 (by omega) (by omega) (hQ _ _ ?_)
      exact ⟨by rw [show inS x a b = false from decide_eq_false fun q => absurd q.1 (Int64.not_le.mpr c2)]; rfl, rfl⟩
  · try (exfalso; first | (simp (disch := omega) only [Int32.le_iff_toInt_le, Int32.lt_iff_toInt_lt, ← Int32.toInt_inj, nI_toInt, Int32.toInt_zero, m1_toInt, Int64.le_iff_toInt_le, Int64.lt_iff_toInt_lt, ← Int64.toInt_inj, pk_lT, i64_toInt, Int64.toInt_zero] at c2 <;> omega) | omega)
    all_goals
      skip
      refine x_lload_n dX8_isIn_6 rfl ?_
      refine x_lload dX8_isIn_7 rfl ?_
      refine x_lcmp_gt (tgt := 17) dX8_isIn_9 dX8_isIn_10 (by decide) (fun c9 => ?_) (fun c9 => ?_)
      · try (exfalso; first | (simp (disch := omega) only [Int32.le_iff_toInt_le, Int32.lt_iff_toInt_lt, ← Int32.toInt_inj, nI_toInt, Int32.toInt_zero, m1_toInt, Int64.le_iff_toInt_le, Int64.lt_iff_toInt_lt, ← Int64.toInt_inj, pk_lT, i64_toInt, Int64.toInt_zero] at c2 c9 <;> omega) | omega)
        all_goals
          skip
          refine x_iconst (v := nI 0) rfl dX8_isIn_17 ?_
          refine x_iret hr rfl dX8_isIn_18 (by omega) (by omega) (hQ _ _ ?_)
          exact ⟨by rw [show inS x a b = false from decide_eq_false fun q => absurd q.2 (Int64.not_le.mpr c9)]; rfl, rfl⟩
      · try (exfalso; first | (simp (disch := omega) only [Int32.le_iff_toInt_le, Int32.lt_iff_toInt_lt, ← Int32.toInt_inj, nI_toInt, Int32.toInt_zero, m1_toInt, Int64.le_iff_toInt_le, Int64.lt_iff_toInt_lt, ← Int64.toInt_inj, pk_lT, i64_toInt, Int64.toInt_zero] at c2 c9 <;> omega) | omega)
        all_goals
          skip
          refine x_iconst (v := nI 1) rfl dX8_isIn_13 ?_
          refine x_goto (tgt := 18) dX8_isIn_14 (by decide) ?_
          refine x_iret hr rfl dX8_isIn_18 (by omega) (by omega) (hQ _ _ ?_)
          exact ⟨by rw [show inS x a b = true from decide_eq_true ⟨Int64.not_lt.mp c2, Int64.not_lt.mp c9⟩]; rfl, rfl⟩
set_option maxHeartbeats 4000000 in
theorem m_has {w : xW} {h : xH} (x k : Int32) : CT w yX8_has cX8_has 2 (some (.boolean)) [] false (0) 0 0 [.int x, .int k] (h) (xret (some (.int (xb (hs x k)))) (h)) := by
  refine CT.of (ini := false) (by decide +kernel) q1844 q164 (Nat.le_of_ble_eq_true rfl) (by decide) ?_
  intro Γ hw ho hL hr hh hini hal hd hmc hms hQ
  subst hw
  show AW Γ cX8_has 0 0 0 [some (.int x), some (.int k)] [] (h)
  refine x_iload_n dX8_has_0 rfl ?_
  refine x_iload_n dX8_has_1 rfl ?_
  refine x_ishr dX8_has_2 ?_
  refine x_iconst (v := nI 1) rfl dX8_has_3 ?_
  refine x_iand dX8_has_4 ?_
  refine x_iconst (v := nI 1) rfl dX8_has_5 ?_
  refine x_icmp_ne (tgt := 13) dX8_has_6 (by decide) (fun c6 => ?_) (fun c6 => ?_)
  · try (exfalso; first | (simp (disch := omega) only [Int32.le_iff_toInt_le, Int32.lt_iff_toInt_lt, ← Int32.toInt_inj, nI_toInt, Int32.toInt_zero, m1_toInt, Int64.le_iff_toInt_le, Int64.lt_iff_toInt_lt, ← Int64.toInt_inj, pk_lT, i64_toInt, Int64.toInt_zero] at c6 <;> omega) | omega)
    all_goals
      skip
      refine x_iconst (v := nI 0) rfl dX8_has_13 ?_
      refine x_iret hr rfl dX8_has_14 (by omega) (by omega) (hQ _ _ ?_)
      exact ⟨by rw [show hs x k = false from decide_eq_false c6]; rfl, rfl⟩
  · try (exfalso; first | (simp (disch := omega) only [Int32.le_iff_toInt_le, Int32.lt_iff_toInt_lt, ← Int32.toInt_inj, nI_toInt, Int32.toInt_zero, m1_toInt, Int64.le_iff_toInt_le, Int64.lt_iff_toInt_lt, ← Int64.toInt_inj, pk_lT, i64_toInt, Int64.toInt_zero] at c6 <;> omega) | omega)
    all_goals
      skip
      refine x_iconst (v := nI 1) rfl dX8_has_9 ?_
      refine x_goto (tgt := 14) dX8_has_10 (by decide) ?_
      refine x_iret hr rfl dX8_has_14 (by omega) (by omega) (hQ _ _ ?_)
      exact ⟨by rw [show hs x k = true from decide_eq_true c6]; rfl, rfl⟩
set_option maxHeartbeats 4000000 in
theorem m_sizeOf {w : xW} {h : xH} (x : Int32) : CT w yX8_sizeOf cX8_sizeOf 3 (some (.int)) [] false (1) 0 0 [.int x] (h) (xret (some (.int (nI (szF x 9)))) (h)) := by
  refine CT.of (ini := false) (by decide +kernel) q2085 q164 (Nat.le_of_ble_eq_true rfl) (by decide) ?_
  intro Γ hw ho hL hr hh hini hal hd hmc hms hQ
  subst hw
  show AW Γ cX8_sizeOf 0 0 0 [some (.int x), none, none] [] (h)
  refine x_iconst (v := nI 0) rfl dX8_sizeOf_0 ?_
  refine x_ist1 hL (by decide) rfl dX8_sizeOf_1 ?_
  refine x_iconst (v := nI 0) rfl dX8_sizeOf_2 ?_
  refine x_ist2 hL (by decide) rfl dX8_sizeOf_3 ?_
  refine x_for (n := 9) (fun i => [some (.int x), some (.int (nI (szF x i))), some (.int (nI i))]) (fun i => []) (fun i => h) ?_ (fun i hi ihi => ?_)
  · skip
    refine x_iload_n dX8_sizeOf_4 rfl ?_
    refine x_bipush (v := nI 9) rfl dX8_sizeOf_5 ?_
    refine x_icmp_ge (tgt := 32) dX8_sizeOf_7 (by decide) (fun c7 => ?_) (fun c7 => ?_)
    · skip
      refine x_iload_n dX8_sizeOf_32 rfl ?_
      refine x_iret hr rfl dX8_sizeOf_33 (by omega) (by omega) (hQ _ _ ?_)
      exact ⟨by first | rfl | (simp [c7]; done), rfl⟩
    · exfalso; first | (simp (disch := omega) only [Int32.le_iff_toInt_le, Int32.lt_iff_toInt_lt, ← Int32.toInt_inj, nI_toInt, Int32.toInt_zero, m1_toInt, Int64.le_iff_toInt_le, Int64.lt_iff_toInt_lt, ← Int64.toInt_inj, pk_lT, i64_toInt, Int64.toInt_zero] at c7 <;> omega) | omega
  · skip
    refine x_iload_n dX8_sizeOf_4 rfl ?_
    refine x_bipush (v := nI 9) rfl dX8_sizeOf_5 ?_
    refine x_icmp_ge (tgt := 32) dX8_sizeOf_7 (by decide) (fun c7 => ?_) (fun c7 => ?_)
    · exfalso; first | (simp (disch := omega) only [Int32.le_iff_toInt_le, Int32.lt_iff_toInt_lt, ← Int32.toInt_inj, nI_toInt, Int32.toInt_zero, m1_toInt, Int64.le_iff_toInt_le, Int64.lt_iff_toInt_lt, ← Int64.toInt_inj, pk_lT, i64_toInt, Int64.toInt_zero] at c7 <;> omega) | omega
    · skip
      refine x_iload_n dX8_sizeOf_10 rfl ?_
      refine x_iload_n dX8_sizeOf_11 rfl ?_
      refine x_iload_n dX8_sizeOf_12 rfl ?_
      refine x_callS2 lk_X8_109 (m_has _ _) ho dX8_sizeOf_13 (Nat.le_of_ble_eq_true rfl) (by omega) (by decide) (by omega) (by omega) ?_
      refine x_ifb_eq (tgt := 23) dX8_sizeOf_16 (by decide) (fun c16 => ?_) (fun c16 => ?_)
      · try (exfalso; first | (simp (disch := omega) only [Int32.le_iff_toInt_le, Int32.lt_iff_toInt_lt, ← Int32.toInt_inj, nI_toInt, Int32.toInt_zero, m1_toInt, Int64.le_iff_toInt_le, Int64.lt_iff_toInt_lt, ← Int64.toInt_inj, pk_lT, i64_toInt, Int64.toInt_zero] at c7 c16 <;> omega) | omega)
        all_goals
          skip
          refine x_iconst (v := nI 0) rfl dX8_sizeOf_23 ?_
          refine x_iaddN dX8_sizeOf_24 ?_
          refine x_ist1 hL (by decide) rfl dX8_sizeOf_25 ?_
          refine x_inc2 hL (by decide) rfl dX8_sizeOf_26 (nI_1 _) ?_
          refine x_goto (tgt := 4) dX8_sizeOf_29 (by decide) ?_
          refine x_eq ?_ ?_ ?_ (ihi)
          · simp [szF, c7, c16]
          · rfl
          · rfl
      · try (exfalso; first | (simp (disch := omega) only [Int32.le_iff_toInt_le, Int32.lt_iff_toInt_lt, ← Int32.toInt_inj, nI_toInt, Int32.toInt_zero, m1_toInt, Int64.le_iff_toInt_le, Int64.lt_iff_toInt_lt, ← Int64.toInt_inj, pk_lT, i64_toInt, Int64.toInt_zero] at c7 c16 <;> omega) | omega)
        all_goals
          skip
          refine x_iconst (v := nI 1) rfl dX8_sizeOf_19 ?_
          refine x_goto (tgt := 24) dX8_sizeOf_20 (by decide) ?_
          refine x_iaddN dX8_sizeOf_24 ?_
          refine x_ist1 hL (by decide) rfl dX8_sizeOf_25 ?_
          refine x_inc2 hL (by decide) rfl dX8_sizeOf_26 (nI_1 _) ?_
          refine x_goto (tgt := 4) dX8_sizeOf_29 (by decide) ?_
          refine x_eq ?_ ?_ ?_ (ihi)
          · simp [szF, c7, c16]
          · rfl
          · rfl
set_option maxHeartbeats 4000000 in
theorem m_cut {w : xW} {h : xH} (so : Int32) (v : Int64) : CT w yX8_cut cX8_cut 3 (some (.long)) [] false (0) 0 0 [.int so, .long v] (h) (xret (some (.long (cutS so v))) (h)) := by
  refine CT.of (ini := false) (by decide +kernel) q1670 q164 (Nat.le_of_ble_eq_true rfl) (by decide) ?_
  intro Γ hw ho hL hr hh hini hal hd hmc hms hQ
  subst hw
  show AW Γ cX8_cut 0 0 0 [some (.int so), some (.long v), none] [] (h)
  refine x_iload_n dX8_cut_0 rfl ?_
  refine x_if_ne (tgt := 11) dX8_cut_1 (by decide) (fun c1 => ?_) (fun c1 => ?_)
  · try (exfalso; first | (simp (disch := omega) only [Int32.le_iff_toInt_le, Int32.lt_iff_toInt_lt, ← Int32.toInt_inj, nI_toInt, Int32.toInt_zero, m1_toInt, Int64.le_iff_toInt_le, Int64.lt_iff_toInt_lt, ← Int64.toInt_inj, pk_lT, i64_toInt, Int64.toInt_zero] at c1 <;> omega) | omega)
    all_goals
      skip
      refine x_iload_n dX8_cut_11 rfl ?_
      refine x_iconst (v := nI 1) rfl dX8_cut_12 ?_
      refine x_icmp_ne (tgt := 23) dX8_cut_13 (by decide) (fun c13 => ?_) (fun c13 => ?_)
      · try (exfalso; first | (simp (disch := omega) only [Int32.le_iff_toInt_le, Int32.lt_iff_toInt_lt, ← Int32.toInt_inj, nI_toInt, Int32.toInt_zero, m1_toInt, Int64.le_iff_toInt_le, Int64.lt_iff_toInt_lt, ← Int64.toInt_inj, pk_lT, i64_toInt, Int64.toInt_zero] at c1 c13 <;> omega) | omega)
        all_goals
          skip
          refine x_iload_n dX8_cut_23 rfl ?_
          refine x_iconst (v := nI 2) rfl dX8_cut_24 ?_
          refine x_icmp_ne (tgt := 34) dX8_cut_25 (by decide) (fun c25 => ?_) (fun c25 => ?_)
          · try (exfalso; first | (simp (disch := omega) only [Int32.le_iff_toInt_le, Int32.lt_iff_toInt_lt, ← Int32.toInt_inj, nI_toInt, Int32.toInt_zero, m1_toInt, Int64.le_iff_toInt_le, Int64.lt_iff_toInt_lt, ← Int64.toInt_inj, pk_lT, i64_toInt, Int64.toInt_zero] at c1 c13 c25 <;> omega) | omega)
            all_goals
              skip
              refine x_lload_n dX8_cut_34 rfl ?_
              refine x_lret hr dX8_cut_35 (by omega) (by omega) (hQ _ _ ?_)
              exact ⟨by rw [cutS, if_neg c1, if_neg c13, if_neg c25], rfl⟩
          · try (exfalso; first | (simp (disch := omega) only [Int32.le_iff_toInt_le, Int32.lt_iff_toInt_lt, ← Int32.toInt_inj, nI_toInt, Int32.toInt_zero, m1_toInt, Int64.le_iff_toInt_le, Int64.lt_iff_toInt_lt, ← Int64.toInt_inj, pk_lT, i64_toInt, Int64.toInt_zero] at c1 c13 c25 <;> omega) | omega)
            all_goals
              skip
              refine x_lload_n dX8_cut_28 rfl ?_
              refine x_l2i dX8_cut_29 ?_
              refine x_i2l dX8_cut_30 ?_
              refine x_goto (tgt := 35) dX8_cut_31 (by decide) ?_
              refine x_lret hr dX8_cut_35 (by omega) (by omega) (hQ _ _ ?_)
              exact ⟨by rw [cutS, if_neg c1, if_neg c13, if_pos c25], rfl⟩
      · try (exfalso; first | (simp (disch := omega) only [Int32.le_iff_toInt_le, Int32.lt_iff_toInt_lt, ← Int32.toInt_inj, nI_toInt, Int32.toInt_zero, m1_toInt, Int64.le_iff_toInt_le, Int64.lt_iff_toInt_lt, ← Int64.toInt_inj, pk_lT, i64_toInt, Int64.toInt_zero] at c1 c13 <;> omega) | omega)
        all_goals
          skip
          refine x_lload_n dX8_cut_16 rfl ?_
          refine x_l2i dX8_cut_17 ?_
          refine x_i2s dX8_cut_18 ?_
          refine x_i2l dX8_cut_19 ?_
          refine x_goto (tgt := 35) dX8_cut_20 (by decide) ?_
          refine x_lret hr dX8_cut_35 (by omega) (by omega) (hQ _ _ ?_)
          exact ⟨by rw [cutS, if_neg c1, if_pos c13], rfl⟩
  · try (exfalso; first | (simp (disch := omega) only [Int32.le_iff_toInt_le, Int32.lt_iff_toInt_lt, ← Int32.toInt_inj, nI_toInt, Int32.toInt_zero, m1_toInt, Int64.le_iff_toInt_le, Int64.lt_iff_toInt_lt, ← Int64.toInt_inj, pk_lT, i64_toInt, Int64.toInt_zero] at c1 <;> omega) | omega)
    all_goals
      skip
      refine x_lload_n dX8_cut_4 rfl ?_
      refine x_l2i dX8_cut_5 ?_
      refine x_i2b dX8_cut_6 ?_
      refine x_i2l dX8_cut_7 ?_
      refine x_goto (tgt := 35) dX8_cut_8 (by decide) ?_
      refine x_lret hr dX8_cut_35 (by omega) (by omega) (hQ _ _ ?_)
      exact ⟨by rw [cutS, if_pos c1], rfl⟩
set_option maxHeartbeats 4000000 in
theorem m_status {w : xW} {M : mS} {R : xH}  : CT w yX8_status cX8_status 1 (some (.int)) [] false (0) 0 0 [.ref 32] (hM M R) (xret (some (.int (M.1 0))) (hM (mI M 1 (nI 0)) R)) := by
  refine CT.of (ini := false) (by decide +kernel) q1639 q164 (Nat.le_of_ble_eq_true rfl) (by decide) ?_
  intro Γ hw ho hL hr hh hini hal hd hmc hms hQ
  subst hw
  show AW Γ cX8_status 0 0 0 [some (.ref 32)] [] (hM M R)
  refine x_aload_n dX8_status_0 rfl ?_
  refine x_iconst (v := nI 0) rfl dX8_status_1 ?_
  refine m_puti (k := 1) (pf_X8_70 (ini := false)) ho hini dX8_status_2 rfl rfl (by decide) (ms_1 _ _) ?_
  refine x_aload_n dX8_status_5 rfl ?_
  refine x_getf gf_X8_73 ho dX8_status_6 rfl rfl ?_
  refine x_iret hr rfl dX8_status_9 (by omega) (by omega) (hQ _ _ ?_)
  exact ⟨by first | rfl | (simp []; done), rfl⟩
set_option maxHeartbeats 4000000 in
theorem m_top {w : xW} {M : mS} {R : xH}  : CT w yX8_top cX8_top 1 (some (.long)) [] false (0) 0 0 [.ref 32] (hM M R) (xret (some (.long (M.2.1 2))) (hM (mI M 1 (nI 0)) R)) := by
  refine CT.of (ini := false) (by decide +kernel) q1643 q164 (Nat.le_of_ble_eq_true rfl) (by decide) ?_
  intro Γ hw ho hL hr hh hini hal hd hmc hms hQ
  subst hw
  show AW Γ cX8_top 0 0 0 [some (.ref 32)] [] (hM M R)
  refine x_aload_n dX8_top_0 rfl ?_
  refine x_iconst (v := nI 0) rfl dX8_top_1 ?_
  refine m_puti (k := 1) (pf_X8_70 (ini := false)) ho hini dX8_top_2 rfl rfl (by decide) (ms_1 _ _) ?_
  refine x_aload_n dX8_top_5 rfl ?_
  refine x_getf gf_X8_76 ho dX8_top_6 rfl rfl ?_
  refine x_lret hr dX8_top_9 (by omega) (by omega) (hQ _ _ ?_)
  exact ⟨by first | rfl | (simp []; done), rfl⟩
set_option maxHeartbeats 4000000 in
theorem m_bottom {w : xW} {M : mS} {R : xH}  : CT w yX8_bottom cX8_bottom 1 (some (.long)) [] false (0) 0 0 [.ref 32] (hM M R) (xret (some (.long (M.2.1 3))) (hM (mI M 1 (nI 0)) R)) := by
  refine CT.of (ini := false) (by decide +kernel) q1647 q164 (Nat.le_of_ble_eq_true rfl) (by decide) ?_
  intro Γ hw ho hL hr hh hini hal hd hmc hms hQ
  subst hw
  show AW Γ cX8_bottom 0 0 0 [some (.ref 32)] [] (hM M R)
  refine x_aload_n dX8_bottom_0 rfl ?_
  refine x_iconst (v := nI 0) rfl dX8_bottom_1 ?_
  refine m_puti (k := 1) (pf_X8_70 (ini := false)) ho hini dX8_bottom_2 rfl rfl (by decide) (ms_1 _ _) ?_
  refine x_aload_n dX8_bottom_5 rfl ?_
  refine x_getf gf_X8_7 ho dX8_bottom_6 rfl rfl ?_
  refine x_lret hr dX8_bottom_9 (by omega) (by omega) (hQ _ _ ?_)
  exact ⟨by first | rfl | (simp []; done), rfl⟩
set_option maxHeartbeats 4000000 in
theorem m_refuse {w : xW} {M : mS} {R : xH} (y : Int32) : CT w yX8_refuse cX8_refuse 2 (some (.int)) [] false (0) 0 0 [.ref 32, .int y] (hM M R) (xret (some (.int (-1))) (hM (mI M 0 y) R)) := by
  refine CT.of (ini := false) (by decide +kernel) q1901 q164 (Nat.le_of_ble_eq_true rfl) (by decide) ?_
  intro Γ hw ho hL hr hh hini hal hd hmc hms hQ
  subst hw
  show AW Γ cX8_refuse 0 0 0 [some (.ref 32), some (.int y)] [] (hM M R)
  refine x_aload_n dX8_refuse_0 rfl ?_
  refine x_iload_n dX8_refuse_1 rfl ?_
  refine m_puti (k := 0) (pf_X8_73 (ini := false)) ho hini dX8_refuse_2 rfl rfl (by decide) (ms_0 _ _) ?_
  refine x_iconst (v := (-1)) rfl dX8_refuse_5 ?_
  refine x_iret hr rfl dX8_refuse_6 (by omega) (by omega) (hQ _ _ ?_)
  exact ⟨by first | rfl | (simp []; done), rfl⟩
set_option maxHeartbeats 4000000 in
theorem m_no {w : xW} {M : mS} {R : xH} (y : Int32) : CT w yX8_no cX8_no 2 (some (.boolean)) [] false (0) 0 0 [.ref 32, .int y] (hM M R) (xret (some (.int (nI 0))) (hM (mI M 0 y) R)) := by
  refine CT.of (ini := false) (by decide +kernel) q1655 q164 (Nat.le_of_ble_eq_true rfl) (by decide) ?_
  intro Γ hw ho hL hr hh hini hal hd hmc hms hQ
  subst hw
  show AW Γ cX8_no 0 0 0 [some (.ref 32), some (.int y)] [] (hM M R)
  refine x_aload_n dX8_no_0 rfl ?_
  refine x_iload_n dX8_no_1 rfl ?_
  refine m_puti (k := 0) (pf_X8_73 (ini := false)) ho hini dX8_no_2 rfl rfl (by decide) (ms_0 _ _) ?_
  refine x_iconst (v := nI 0) rfl dX8_no_5 ?_
  refine x_iret hr rfl dX8_no_6 (by omega) (by omega) (hQ _ _ ?_)
  exact ⟨by first | rfl | (simp []; done), rfl⟩
set_option maxHeartbeats 4000000 in
theorem m_isTray {w : xW} {M : mS} {R : xH} (t : Int32) : CT w yX8_isTray cX8_isTray 2 (some (.boolean)) [] false (1) 0 0 [.ref 32, .int t] (hM M R) (xret (some (.int (xb (ix t 4).isSome))) (hM M R)) := by
  refine CT.of (ini := false) (by decide +kernel) q1962 q164 (Nat.le_of_ble_eq_true rfl) (by decide) ?_
  intro Γ hw ho hL hr hh hini hal hd hmc hms hQ
  subst hw
  show AW Γ cX8_isTray 0 0 0 [some (.ref 32), some (.int t)] [] (hM M R)
  refine x_iload_n dX8_isTray_0 rfl ?_
  refine x_i2l dX8_isTray_1 ?_
  refine x_lconst (v := lN 0) rfl dX8_isTray_2 ?_
  refine x_ldc2 (v := lN 3) ho q1963 dX8_isTray_3 ?_
  refine x_callS3 lk_X8_105 (m_isIn _ _ _) ho dX8_isTray_6 (Nat.le_of_ble_eq_true rfl) (by omega) (by decide) (by omega) (by omega) ?_
  refine x_iret hr (xb_n _) dX8_isTray_9 (by omega) (by omega) (hQ _ _ ?_)
  exact ⟨by rw [inS_ix (by decide)], rfl⟩
set_option maxHeartbeats 4000000 in
theorem m_trayed {w : xW} {M : mS} {R : xH} (tr : Int32) (hT : wT (M.2.2.1 2)) : CT w yX8_trayed cX8_trayed 2 (some (.int)) [] false (0) 0 0 [.ref 32, .int tr] (hM M R) (xret (some (.int (nI (trayedS (M.2.2.1 2) tr)))) (hM M R)) := by
  cases hx : ix tr 4
  · have hx2 := ix_none hx
    refine CT.of (ini := false) (by decide +kernel) q1667 q164 (Nat.le_of_ble_eq_true rfl) (by decide) ?_
    intro Γ hw ho hL hr hh hini hal hd hmc hms hQ
    subst hw
    show AW Γ cX8_trayed 0 0 0 [some (.ref 32), some (.int tr)] [] (hM M R)
    refine x_iload_n dX8_trayed_0 rfl ?_
    refine x_if_lt (tgt := 9) dX8_trayed_1 (by decide) (fun c1 => ?_) (fun c1 => ?_)
    · try (exfalso; first | (simp (disch := omega) only [Int32.le_iff_toInt_le, Int32.lt_iff_toInt_lt, ← Int32.toInt_inj, nI_toInt, Int32.toInt_zero, m1_toInt, Int64.le_iff_toInt_le, Int64.lt_iff_toInt_lt, ← Int64.toInt_inj, pk_lT, i64_toInt, Int64.toInt_zero] at c1 <;> omega) | omega)
      all_goals
        skip
        refine x_iconst (v := nI 1) rfl dX8_trayed_9 ?_
        refine x_goto (tgt := 27) dX8_trayed_10 (by decide) ?_
        refine x_iret hr rfl dX8_trayed_27 (by omega) (by omega) (hQ _ _ ?_)
        exact ⟨by simp [trayedS, hx, c1], rfl⟩
    · try (exfalso; first | (simp (disch := omega) only [Int32.le_iff_toInt_le, Int32.lt_iff_toInt_lt, ← Int32.toInt_inj, nI_toInt, Int32.toInt_zero, m1_toInt, Int64.le_iff_toInt_le, Int64.lt_iff_toInt_lt, ← Int64.toInt_inj, pk_lT, i64_toInt, Int64.toInt_zero] at c1 <;> omega) | omega)
      all_goals
        skip
        refine x_iload_n dX8_trayed_4 rfl ?_
        refine x_iconst (v := nI 4) rfl dX8_trayed_5 ?_
        refine x_icmp_lt (tgt := 13) dX8_trayed_6 (by decide) (fun c6 => ?_) (fun c6 => ?_)
        · try (exfalso; first | (simp (disch := omega) only [Int32.le_iff_toInt_le, Int32.lt_iff_toInt_lt, ← Int32.toInt_inj, nI_toInt, Int32.toInt_zero, m1_toInt, Int64.le_iff_toInt_le, Int64.lt_iff_toInt_lt, ← Int64.toInt_inj, pk_lT, i64_toInt, Int64.toInt_zero] at c1 c6 <;> omega) | omega)
          all_goals
            skip
            refine x_aload_n dX8_trayed_13 rfl ?_
            refine x_getf gf_X8_17 ho dX8_trayed_14 rfl rfl ?_
            refine x_iload_n dX8_trayed_17 rfl ?_
            refine x_iald dX8_trayed_18 rfl (by first | rfl | exact nI_add _ _ | (simp only [nI_add, pk_mul]; rfl)) (by omega) (by decide) ?_
            refine x_if_ge (tgt := 26) dX8_trayed_19 (by decide) (fun c19 => ?_) (fun c19 => ?_)
            · try (exfalso; first | (simp (disch := omega) only [Int32.le_iff_toInt_le, Int32.lt_iff_toInt_lt, ← Int32.toInt_inj, nI_toInt, Int32.toInt_zero, m1_toInt, Int64.le_iff_toInt_le, Int64.lt_iff_toInt_lt, ← Int64.toInt_inj, pk_lT, i64_toInt, Int64.toInt_zero] at c1 c6 c19 <;> omega) | omega)
              all_goals
                skip
                refine x_iconst (v := nI 0) rfl dX8_trayed_26 ?_
                refine x_iret hr rfl dX8_trayed_27 (by omega) (by omega) (hQ _ _ ?_)
                exact ⟨by simp [trayedS, hx, c1, c6, c19], rfl⟩
            · try (exfalso; first | (simp (disch := omega) only [Int32.le_iff_toInt_le, Int32.lt_iff_toInt_lt, ← Int32.toInt_inj, nI_toInt, Int32.toInt_zero, m1_toInt, Int64.le_iff_toInt_le, Int64.lt_iff_toInt_lt, ← Int64.toInt_inj, pk_lT, i64_toInt, Int64.toInt_zero] at c1 c6 c19 <;> omega) | omega)
              all_goals
                skip
                refine x_iconst (v := nI 3) rfl dX8_trayed_22 ?_
                refine x_goto (tgt := 27) dX8_trayed_23 (by decide) ?_
                refine x_iret hr rfl dX8_trayed_27 (by omega) (by omega) (hQ _ _ ?_)
                exact ⟨by simp [trayedS, hx, c1, c6, c19], rfl⟩
        · try (exfalso; first | (simp (disch := omega) only [Int32.le_iff_toInt_le, Int32.lt_iff_toInt_lt, ← Int32.toInt_inj, nI_toInt, Int32.toInt_zero, m1_toInt, Int64.le_iff_toInt_le, Int64.lt_iff_toInt_lt, ← Int64.toInt_inj, pk_lT, i64_toInt, Int64.toInt_zero] at c1 c6 <;> omega) | omega)
          all_goals
            skip
            refine x_iconst (v := nI 1) rfl dX8_trayed_9 ?_
            refine x_goto (tgt := 27) dX8_trayed_10 (by decide) ?_
            refine x_iret hr rfl dX8_trayed_27 (by omega) (by omega) (hQ _ _ ?_)
            exact ⟨by simp [trayedS, hx, c1, c6], rfl⟩
  · rename_i t
    obtain ⟨rfl, ht⟩ := ix_some hx (by decide)
    refine CT.of (ini := false) (by decide +kernel) q1667 q164 (Nat.le_of_ble_eq_true rfl) (by decide) ?_
    intro Γ hw ho hL hr hh hini hal hd hmc hms hQ
    subst hw
    show AW Γ cX8_trayed 0 0 0 [some (.ref 32), some (.int (nI t))] [] (hM M R)
    refine x_iload_n dX8_trayed_0 rfl ?_
    refine x_if_lt (tgt := 9) dX8_trayed_1 (by decide) (fun c1 => ?_) (fun c1 => ?_)
    · try (exfalso; first | (simp (disch := omega) only [Int32.le_iff_toInt_le, Int32.lt_iff_toInt_lt, ← Int32.toInt_inj, nI_toInt, Int32.toInt_zero, m1_toInt, Int64.le_iff_toInt_le, Int64.lt_iff_toInt_lt, ← Int64.toInt_inj, pk_lT, i64_toInt, Int64.toInt_zero] at c1 <;> omega) | omega)
      all_goals
        skip
        refine x_iconst (v := nI 1) rfl dX8_trayed_9 ?_
        refine x_goto (tgt := 27) dX8_trayed_10 (by decide) ?_
        refine x_iret hr rfl dX8_trayed_27 (by omega) (by omega) (hQ _ _ ?_)
        exact ⟨by simp [trayedS, hx, c1], rfl⟩
    · try (exfalso; first | (simp (disch := omega) only [Int32.le_iff_toInt_le, Int32.lt_iff_toInt_lt, ← Int32.toInt_inj, nI_toInt, Int32.toInt_zero, m1_toInt, Int64.le_iff_toInt_le, Int64.lt_iff_toInt_lt, ← Int64.toInt_inj, pk_lT, i64_toInt, Int64.toInt_zero] at c1 <;> omega) | omega)
      all_goals
        skip
        refine x_iload_n dX8_trayed_4 rfl ?_
        refine x_iconst (v := nI 4) rfl dX8_trayed_5 ?_
        refine x_icmp_lt (tgt := 13) dX8_trayed_6 (by decide) (fun c6 => ?_) (fun c6 => ?_)
        · try (exfalso; first | (simp (disch := omega) only [Int32.le_iff_toInt_le, Int32.lt_iff_toInt_lt, ← Int32.toInt_inj, nI_toInt, Int32.toInt_zero, m1_toInt, Int64.le_iff_toInt_le, Int64.lt_iff_toInt_lt, ← Int64.toInt_inj, pk_lT, i64_toInt, Int64.toInt_zero] at c1 c6 <;> omega) | omega)
          all_goals
            skip
            refine x_aload_n dX8_trayed_13 rfl ?_
            refine x_getf gf_X8_17 ho dX8_trayed_14 rfl rfl ?_
            refine x_iload_n dX8_trayed_17 rfl ?_
            refine x_iald dX8_trayed_18 rfl (by first | rfl | exact nI_add _ _ | (simp only [nI_add, pk_mul]; rfl)) (by omega) (by decide) ?_
            refine x_if_ge (tgt := 26) dX8_trayed_19 (by decide) (fun c19 => ?_) (fun c19 => ?_)
            · try (exfalso; first | (simp (disch := omega) only [Int32.le_iff_toInt_le, Int32.lt_iff_toInt_lt, ← Int32.toInt_inj, nI_toInt, Int32.toInt_zero, m1_toInt, Int64.le_iff_toInt_le, Int64.lt_iff_toInt_lt, ← Int64.toInt_inj, pk_lT, i64_toInt, Int64.toInt_zero] at c1 c6 c19 <;> omega) | omega)
              all_goals
                skip
                refine x_iconst (v := nI 0) rfl dX8_trayed_26 ?_
                refine x_iret hr rfl dX8_trayed_27 (by omega) (by omega) (hQ _ _ ?_)
                exact ⟨by simp [trayedS, hx, c1, c6, c19], rfl⟩
            · try (exfalso; first | (simp (disch := omega) only [Int32.le_iff_toInt_le, Int32.lt_iff_toInt_lt, ← Int32.toInt_inj, nI_toInt, Int32.toInt_zero, m1_toInt, Int64.le_iff_toInt_le, Int64.lt_iff_toInt_lt, ← Int64.toInt_inj, pk_lT, i64_toInt, Int64.toInt_zero] at c1 c6 c19 <;> omega) | omega)
              all_goals
                skip
                refine x_iconst (v := nI 3) rfl dX8_trayed_22 ?_
                refine x_goto (tgt := 27) dX8_trayed_23 (by decide) ?_
                refine x_iret hr rfl dX8_trayed_27 (by omega) (by omega) (hQ _ _ ?_)
                exact ⟨by simp [trayedS, hx, c1, c6, c19], rfl⟩
        · try (exfalso; first | (simp (disch := omega) only [Int32.le_iff_toInt_le, Int32.lt_iff_toInt_lt, ← Int32.toInt_inj, nI_toInt, Int32.toInt_zero, m1_toInt, Int64.le_iff_toInt_le, Int64.lt_iff_toInt_lt, ← Int64.toInt_inj, pk_lT, i64_toInt, Int64.toInt_zero] at c1 c6 <;> omega) | omega)
          all_goals
            skip
            refine x_iconst (v := nI 1) rfl dX8_trayed_9 ?_
            refine x_goto (tgt := 27) dX8_trayed_10 (by decide) ?_
            refine x_iret hr rfl dX8_trayed_27 (by omega) (by omega) (hQ _ _ ?_)
            exact ⟨by simp [trayedS, hx, c1, c6], rfl⟩
set_option maxHeartbeats 4000000 in
theorem m_placed {w : xW} {M : mS} {R : xH} (tr k : Int32) (hT : wT (M.2.2.1 2)) : CT w yX8_placed cX8_placed 4 (some (.int)) [] false (1) 0 0 [.ref 32, .int tr, .int k] (hM M R) (xret (some (.int (nI (placedS (M.2.2.1 2) tr k)))) (hM M R)) := by
  rcases ix_by tr (n := 4) (by decide) (fun t => 0 ≤ M.2.2.1 2 t) with ⟨hx, hx2⟩ | ⟨t, ht, rfl, hx, hz⟩ | ⟨t, ht, rfl, hx, hz⟩
  · skip
    refine CT.of (ini := false) (by decide +kernel) q1663 q164 (Nat.le_of_ble_eq_true rfl) (by decide) ?_
    intro Γ hw ho hL hr hh hini hal hd hmc hms hQ
    subst hw
    show AW Γ cX8_placed 0 0 0 [some (.ref 32), some (.int tr), some (.int k), none] [] (hM M R)
    refine x_aload_n dX8_placed_0 rfl ?_
    refine x_iload_n dX8_placed_1 rfl ?_
    refine x_callV1 lk_X8_89 (m_trayed _ hT) ho dX8_placed_2 rfl (Nat.le_of_ble_eq_true rfl) (by omega) (by decide) (by omega) (by omega) ?_
    refine x_ival (y := nI 1) (by simp [trayedS, hx]) ?_
    refine x_ist3 hL (by decide) rfl dX8_placed_5 ?_
    refine x_iload_n dX8_placed_6 rfl ?_
    refine x_if_le (tgt := 14) dX8_placed_7 (by decide) (fun c7 => ?_) (fun c7 => ?_)
    · try (exfalso; first | (simp (disch := omega) only [Int32.le_iff_toInt_le, Int32.lt_iff_toInt_lt, ← Int32.toInt_inj, nI_toInt, Int32.toInt_zero, m1_toInt, Int64.le_iff_toInt_le, Int64.lt_iff_toInt_lt, ← Int64.toInt_inj, pk_lT, i64_toInt, Int64.toInt_zero] at c7 <;> omega) | omega)
      all_goals
        skip
        refine x_iload_n dX8_placed_14 rfl ?_
        refine x_if_lt (tgt := 28) dX8_placed_15 (by decide) (fun c15 => ?_) (fun c15 => ?_)
        · try (exfalso; first | (simp (disch := omega) only [Int32.le_iff_toInt_le, Int32.lt_iff_toInt_lt, ← Int32.toInt_inj, nI_toInt, Int32.toInt_zero, m1_toInt, Int64.le_iff_toInt_le, Int64.lt_iff_toInt_lt, ← Int64.toInt_inj, pk_lT, i64_toInt, Int64.toInt_zero] at c7 c15 <;> omega) | omega)
          all_goals
            skip
            refine x_iconst (v := nI 4) rfl dX8_placed_28 ?_
            refine x_goto (tgt := 33) dX8_placed_29 (by decide) ?_
            refine x_iret hr rfl dX8_placed_33 (by omega) (by omega) (hQ _ _ ?_)
            exact ⟨by simp [placedS, hx], rfl⟩
        · try (exfalso; first | (simp (disch := omega) only [Int32.le_iff_toInt_le, Int32.lt_iff_toInt_lt, ← Int32.toInt_inj, nI_toInt, Int32.toInt_zero, m1_toInt, Int64.le_iff_toInt_le, Int64.lt_iff_toInt_lt, ← Int64.toInt_inj, pk_lT, i64_toInt, Int64.toInt_zero] at c7 c15 <;> omega) | omega)
          all_goals
            skip
            refine x_iload_n dX8_placed_18 rfl ?_
            refine x_aload_n dX8_placed_19 rfl ?_
            refine x_getf gf_X8_17 ho dX8_placed_20 rfl rfl ?_
            refine x_iload_n dX8_placed_23 rfl ?_
            refine x_iald dX8_placed_24 rfl (by first | rfl | exact nI_add _ _ | (simp only [nI_add, pk_mul]; rfl)) (by omega) (by decide) ?_
            refine x_icmp_lt (tgt := 32) dX8_placed_25 (by decide) (fun c25 => ?_) (fun c25 => ?_)
            · try (exfalso; first | (simp (disch := omega) only [Int32.le_iff_toInt_le, Int32.lt_iff_toInt_lt, ← Int32.toInt_inj, nI_toInt, Int32.toInt_zero, m1_toInt, Int64.le_iff_toInt_le, Int64.lt_iff_toInt_lt, ← Int64.toInt_inj, pk_lT, i64_toInt, Int64.toInt_zero] at c7 c15 c25 <;> omega) | omega)
              all_goals
                skip
                refine x_iconst (v := nI 0) rfl dX8_placed_32 ?_
                refine x_iret hr rfl dX8_placed_33 (by omega) (by omega) (hQ _ _ ?_)
                exact ⟨by simp [placedS, hx], rfl⟩
            · try (exfalso; first | (simp (disch := omega) only [Int32.le_iff_toInt_le, Int32.lt_iff_toInt_lt, ← Int32.toInt_inj, nI_toInt, Int32.toInt_zero, m1_toInt, Int64.le_iff_toInt_le, Int64.lt_iff_toInt_lt, ← Int64.toInt_inj, pk_lT, i64_toInt, Int64.toInt_zero] at c7 c15 c25 <;> omega) | omega)
              all_goals
                skip
                refine x_iconst (v := nI 4) rfl dX8_placed_28 ?_
                refine x_goto (tgt := 33) dX8_placed_29 (by decide) ?_
                refine x_iret hr rfl dX8_placed_33 (by omega) (by omega) (hQ _ _ ?_)
                exact ⟨by simp [placedS, hx], rfl⟩
    · try (exfalso; first | (simp (disch := omega) only [Int32.le_iff_toInt_le, Int32.lt_iff_toInt_lt, ← Int32.toInt_inj, nI_toInt, Int32.toInt_zero, m1_toInt, Int64.le_iff_toInt_le, Int64.lt_iff_toInt_lt, ← Int64.toInt_inj, pk_lT, i64_toInt, Int64.toInt_zero] at c7 <;> omega) | omega)
      all_goals
        skip
        refine x_iload_n dX8_placed_10 rfl ?_
        refine x_goto (tgt := 33) dX8_placed_11 (by decide) ?_
        refine x_iret hr rfl dX8_placed_33 (by omega) (by omega) (hQ _ _ ?_)
        exact ⟨by simp [placedS, hx], rfl⟩
  · skip
    refine CT.of (ini := false) (by decide +kernel) q1663 q164 (Nat.le_of_ble_eq_true rfl) (by decide) ?_
    intro Γ hw ho hL hr hh hini hal hd hmc hms hQ
    subst hw
    show AW Γ cX8_placed 0 0 0 [some (.ref 32), some (.int (nI t)), some (.int k), none] [] (hM M R)
    refine x_aload_n dX8_placed_0 rfl ?_
    refine x_iload_n dX8_placed_1 rfl ?_
    refine x_callV1 lk_X8_89 (m_trayed _ hT) ho dX8_placed_2 rfl (Nat.le_of_ble_eq_true rfl) (by omega) (by decide) (by omega) (by omega) ?_
    refine x_ival (y := nI 0) (by simp [trayedS, hx, hz]) ?_
    refine x_ist3 hL (by decide) rfl dX8_placed_5 ?_
    refine x_iload_n dX8_placed_6 rfl ?_
    refine x_if_le (tgt := 14) dX8_placed_7 (by decide) (fun c7 => ?_) (fun c7 => ?_)
    · try (exfalso; first | (simp (disch := omega) only [Int32.le_iff_toInt_le, Int32.lt_iff_toInt_lt, ← Int32.toInt_inj, nI_toInt, Int32.toInt_zero, m1_toInt, Int64.le_iff_toInt_le, Int64.lt_iff_toInt_lt, ← Int64.toInt_inj, pk_lT, i64_toInt, Int64.toInt_zero] at c7 <;> omega) | omega)
      all_goals
        skip
        refine x_iload_n dX8_placed_14 rfl ?_
        refine x_if_lt (tgt := 28) dX8_placed_15 (by decide) (fun c15 => ?_) (fun c15 => ?_)
        · try (exfalso; first | (simp (disch := omega) only [Int32.le_iff_toInt_le, Int32.lt_iff_toInt_lt, ← Int32.toInt_inj, nI_toInt, Int32.toInt_zero, m1_toInt, Int64.le_iff_toInt_le, Int64.lt_iff_toInt_lt, ← Int64.toInt_inj, pk_lT, i64_toInt, Int64.toInt_zero] at c7 c15 <;> omega) | omega)
          all_goals
            skip
            refine x_iconst (v := nI 4) rfl dX8_placed_28 ?_
            refine x_goto (tgt := 33) dX8_placed_29 (by decide) ?_
            refine x_iret hr rfl dX8_placed_33 (by omega) (by omega) (hQ _ _ ?_)
            exact ⟨by simp [placedS, hx, hz, c7, c15], rfl⟩
        · try (exfalso; first | (simp (disch := omega) only [Int32.le_iff_toInt_le, Int32.lt_iff_toInt_lt, ← Int32.toInt_inj, nI_toInt, Int32.toInt_zero, m1_toInt, Int64.le_iff_toInt_le, Int64.lt_iff_toInt_lt, ← Int64.toInt_inj, pk_lT, i64_toInt, Int64.toInt_zero] at c7 c15 <;> omega) | omega)
          all_goals
            skip
            refine x_iload_n dX8_placed_18 rfl ?_
            refine x_aload_n dX8_placed_19 rfl ?_
            refine x_getf gf_X8_17 ho dX8_placed_20 rfl rfl ?_
            refine x_iload_n dX8_placed_23 rfl ?_
            refine x_iald dX8_placed_24 rfl (by first | rfl | exact nI_add _ _ | (simp only [nI_add, pk_mul]; rfl)) (by omega) (by decide) ?_
            refine x_icmp_lt (tgt := 32) dX8_placed_25 (by decide) (fun c25 => ?_) (fun c25 => ?_)
            · try (exfalso; first | (simp (disch := omega) only [Int32.le_iff_toInt_le, Int32.lt_iff_toInt_lt, ← Int32.toInt_inj, nI_toInt, Int32.toInt_zero, m1_toInt, Int64.le_iff_toInt_le, Int64.lt_iff_toInt_lt, ← Int64.toInt_inj, pk_lT, i64_toInt, Int64.toInt_zero] at c7 c15 c25 <;> omega) | omega)
              all_goals
                skip
                refine x_iconst (v := nI 0) rfl dX8_placed_32 ?_
                refine x_iret hr rfl dX8_placed_33 (by omega) (by omega) (hQ _ _ ?_)
                exact ⟨by simp [placedS, hx, hz, c7, c15, c25], rfl⟩
            · try (exfalso; first | (simp (disch := omega) only [Int32.le_iff_toInt_le, Int32.lt_iff_toInt_lt, ← Int32.toInt_inj, nI_toInt, Int32.toInt_zero, m1_toInt, Int64.le_iff_toInt_le, Int64.lt_iff_toInt_lt, ← Int64.toInt_inj, pk_lT, i64_toInt, Int64.toInt_zero] at c7 c15 c25 <;> omega) | omega)
              all_goals
                skip
                refine x_iconst (v := nI 4) rfl dX8_placed_28 ?_
                refine x_goto (tgt := 33) dX8_placed_29 (by decide) ?_
                refine x_iret hr rfl dX8_placed_33 (by omega) (by omega) (hQ _ _ ?_)
                exact ⟨by simp [placedS, hx, hz, c7, c15, c25], rfl⟩
    · try (exfalso; first | (simp (disch := omega) only [Int32.le_iff_toInt_le, Int32.lt_iff_toInt_lt, ← Int32.toInt_inj, nI_toInt, Int32.toInt_zero, m1_toInt, Int64.le_iff_toInt_le, Int64.lt_iff_toInt_lt, ← Int64.toInt_inj, pk_lT, i64_toInt, Int64.toInt_zero] at c7 <;> omega) | omega)
      all_goals
        skip
        refine x_iload_n dX8_placed_10 rfl ?_
        refine x_goto (tgt := 33) dX8_placed_11 (by decide) ?_
        refine x_iret hr rfl dX8_placed_33 (by omega) (by omega) (hQ _ _ ?_)
        exact ⟨by simp [placedS, hx, hz, c7], rfl⟩
  · skip
    refine CT.of (ini := false) (by decide +kernel) q1663 q164 (Nat.le_of_ble_eq_true rfl) (by decide) ?_
    intro Γ hw ho hL hr hh hini hal hd hmc hms hQ
    subst hw
    show AW Γ cX8_placed 0 0 0 [some (.ref 32), some (.int (nI t)), some (.int k), none] [] (hM M R)
    refine x_aload_n dX8_placed_0 rfl ?_
    refine x_iload_n dX8_placed_1 rfl ?_
    refine x_callV1 lk_X8_89 (m_trayed _ hT) ho dX8_placed_2 rfl (Nat.le_of_ble_eq_true rfl) (by omega) (by decide) (by omega) (by omega) ?_
    refine x_ival (y := nI 3) (by simp [trayedS, hx, hz]) ?_
    refine x_ist3 hL (by decide) rfl dX8_placed_5 ?_
    refine x_iload_n dX8_placed_6 rfl ?_
    refine x_if_le (tgt := 14) dX8_placed_7 (by decide) (fun c7 => ?_) (fun c7 => ?_)
    · try (exfalso; first | (simp (disch := omega) only [Int32.le_iff_toInt_le, Int32.lt_iff_toInt_lt, ← Int32.toInt_inj, nI_toInt, Int32.toInt_zero, m1_toInt, Int64.le_iff_toInt_le, Int64.lt_iff_toInt_lt, ← Int64.toInt_inj, pk_lT, i64_toInt, Int64.toInt_zero] at c7 <;> omega) | omega)
      all_goals
        skip
        refine x_iload_n dX8_placed_14 rfl ?_
        refine x_if_lt (tgt := 28) dX8_placed_15 (by decide) (fun c15 => ?_) (fun c15 => ?_)
        · try (exfalso; first | (simp (disch := omega) only [Int32.le_iff_toInt_le, Int32.lt_iff_toInt_lt, ← Int32.toInt_inj, nI_toInt, Int32.toInt_zero, m1_toInt, Int64.le_iff_toInt_le, Int64.lt_iff_toInt_lt, ← Int64.toInt_inj, pk_lT, i64_toInt, Int64.toInt_zero] at c7 c15 <;> omega) | omega)
          all_goals
            skip
            refine x_iconst (v := nI 4) rfl dX8_placed_28 ?_
            refine x_goto (tgt := 33) dX8_placed_29 (by decide) ?_
            refine x_iret hr rfl dX8_placed_33 (by omega) (by omega) (hQ _ _ ?_)
            exact ⟨by simp [placedS, hx, hz], rfl⟩
        · try (exfalso; first | (simp (disch := omega) only [Int32.le_iff_toInt_le, Int32.lt_iff_toInt_lt, ← Int32.toInt_inj, nI_toInt, Int32.toInt_zero, m1_toInt, Int64.le_iff_toInt_le, Int64.lt_iff_toInt_lt, ← Int64.toInt_inj, pk_lT, i64_toInt, Int64.toInt_zero] at c7 c15 <;> omega) | omega)
          all_goals
            skip
            refine x_iload_n dX8_placed_18 rfl ?_
            refine x_aload_n dX8_placed_19 rfl ?_
            refine x_getf gf_X8_17 ho dX8_placed_20 rfl rfl ?_
            refine x_iload_n dX8_placed_23 rfl ?_
            refine x_iald dX8_placed_24 rfl (by first | rfl | exact nI_add _ _ | (simp only [nI_add, pk_mul]; rfl)) (by omega) (by decide) ?_
            refine x_icmp_lt (tgt := 32) dX8_placed_25 (by decide) (fun c25 => ?_) (fun c25 => ?_)
            · try (exfalso; first | (simp (disch := omega) only [Int32.le_iff_toInt_le, Int32.lt_iff_toInt_lt, ← Int32.toInt_inj, nI_toInt, Int32.toInt_zero, m1_toInt, Int64.le_iff_toInt_le, Int64.lt_iff_toInt_lt, ← Int64.toInt_inj, pk_lT, i64_toInt, Int64.toInt_zero] at c7 c15 c25 <;> omega) | omega)
              all_goals
                skip
                refine x_iconst (v := nI 0) rfl dX8_placed_32 ?_
                refine x_iret hr rfl dX8_placed_33 (by omega) (by omega) (hQ _ _ ?_)
                exact ⟨by simp [placedS, hx, hz], rfl⟩
            · try (exfalso; first | (simp (disch := omega) only [Int32.le_iff_toInt_le, Int32.lt_iff_toInt_lt, ← Int32.toInt_inj, nI_toInt, Int32.toInt_zero, m1_toInt, Int64.le_iff_toInt_le, Int64.lt_iff_toInt_lt, ← Int64.toInt_inj, pk_lT, i64_toInt, Int64.toInt_zero] at c7 c15 c25 <;> omega) | omega)
              all_goals
                skip
                refine x_iconst (v := nI 4) rfl dX8_placed_28 ?_
                refine x_goto (tgt := 33) dX8_placed_29 (by decide) ?_
                refine x_iret hr rfl dX8_placed_33 (by omega) (by omega) (hQ _ _ ?_)
                exact ⟨by simp [placedS, hx, hz], rfl⟩
    · try (exfalso; first | (simp (disch := omega) only [Int32.le_iff_toInt_le, Int32.lt_iff_toInt_lt, ← Int32.toInt_inj, nI_toInt, Int32.toInt_zero, m1_toInt, Int64.le_iff_toInt_le, Int64.lt_iff_toInt_lt, ← Int64.toInt_inj, pk_lT, i64_toInt, Int64.toInt_zero] at c7 <;> omega) | omega)
      all_goals
        skip
        refine x_iload_n dX8_placed_10 rfl ?_
        refine x_goto (tgt := 33) dX8_placed_11 (by decide) ?_
        refine x_iret hr rfl dX8_placed_33 (by omega) (by omega) (hQ _ _ ?_)
        exact ⟨by simp [placedS, hx, hz], rfl⟩
set_option maxHeartbeats 4000000 in
theorem m_numberOf {w : xW} {M : mS} {R : xH} (t k : Nat) (ht : t < 4) (hk : k < 60) : CT w yX8_numberOf cX8_numberOf 3 (some (.long)) [] false (0) 0 0 [.ref 32, .int (nI t), .int (nI k)] (hM M R) (xret (some (.long (M.2.2.2 3 (60 * t + k)))) (hM M R)) := by
  refine CT.of (ini := false) (by decide +kernel) q2143 q164 (Nat.le_of_ble_eq_true rfl) (by decide) ?_
  intro Γ hw ho hL hr hh hini hal hd hmc hms hQ
  subst hw
  show AW Γ cX8_numberOf 0 0 0 [some (.ref 32), some (.int (nI t)), some (.int (nI k))] [] (hM M R)
  refine x_aload_n dX8_numberOf_0 rfl ?_
  refine x_getf gf_X8_20 ho dX8_numberOf_1 rfl rfl ?_
  refine x_bipush (v := nI 60) rfl dX8_numberOf_4 ?_
  refine x_iload_n dX8_numberOf_6 rfl ?_
  refine x_imulN dX8_numberOf_7 ?_
  refine x_iload_n dX8_numberOf_8 rfl ?_
  refine x_iaddN dX8_numberOf_9 ?_
  refine x_lald dX8_numberOf_10 rfl (by first | rfl | exact nI_add _ _ | (simp only [nI_add, pk_mul]; rfl)) (by omega) (by decide) ?_
  refine x_lret hr dX8_numberOf_11 (by omega) (by omega) (hQ _ _ ?_)
  exact ⟨by first | rfl | (simp []; done), rfl⟩
set_option maxHeartbeats 4000000 in
theorem m_write {w : xW} {M : mS} {R : xH} (tr k : Int32) (v : Int64) (hT : wT (M.2.2.1 2)) : CT w yX8_write cX8_write 5 (some (.boolean)) [] false (2) 0 0 [.ref 32, .int tr, .int k, .long v] (hM M R) (xret (some (.int (xb (decide (placedS (M.2.2.1 2) tr k = 0))))) (hM (wrM M tr k v) R)) := by
  by_cases hp : placedS (M.2.2.1 2) tr k = 0
  · obtain ⟨t, j, n, ht, rfl, rfl, en, hj, hn⟩ := placedS_0 hp hT
    refine CT.of (ini := false) (by decide +kernel) q1659 q164 (Nat.le_of_ble_eq_true rfl) (by decide) ?_
    intro Γ hw ho hL hr hh hini hal hd hmc hms hQ
    subst hw
    show AW Γ cX8_write 0 0 0 [some (.ref 32), some (.int (nI t)), some (.int (nI j)), some (.long v), none] [] (hM M R)
    refine x_aload_n dX8_write_0 rfl ?_
    refine x_iconst (v := nI 0) rfl dX8_write_1 ?_
    refine m_puti (k := 1) (pf_X8_70 (ini := false)) ho hini dX8_write_2 rfl rfl (by decide) (ms_1 _ _) ?_
    refine x_aload_n dX8_write_5 rfl ?_
    refine x_aload_n dX8_write_6 rfl ?_
    refine x_iload_n dX8_write_7 rfl ?_
    refine x_iload_n dX8_write_8 rfl ?_
    refine x_callV2 lk_X8_93 (m_placed _ _ hT) ho dX8_write_9 rfl (Nat.le_of_ble_eq_true rfl) (by omega) (by decide) (by omega) (by omega) ?_
    refine x_ival (y := nI 0) (by rw [hp]) ?_
    refine m_puti (k := 0) (pf_X8_73 (ini := false)) ho hini dX8_write_12 rfl rfl (by decide) (ms_0 _ _) ?_
    refine x_aload_n dX8_write_15 rfl ?_
    refine x_getf gf_X8_73 ho dX8_write_16 rfl rfl ?_
    refine x_ival (y := nI 0) rfl ?_
    refine x_if_le (tgt := 24) dX8_write_19 (by decide) (fun c19 => ?_) (fun c19 => ?_)
    · try (exfalso; first | (simp (disch := omega) only [Int32.le_iff_toInt_le, Int32.lt_iff_toInt_lt, ← Int32.toInt_inj, nI_toInt, Int32.toInt_zero, m1_toInt, Int64.le_iff_toInt_le, Int64.lt_iff_toInt_lt, ← Int64.toInt_inj, pk_lT, i64_toInt, Int64.toInt_zero] at c19 <;> omega) | omega)
      all_goals
        skip
        refine x_aload_n dX8_write_24 rfl ?_
        refine x_getf gf_X8_20 ho dX8_write_25 rfl rfl ?_
        refine x_bipush (v := nI 60) rfl dX8_write_28 ?_
        refine x_iload_n dX8_write_30 rfl ?_
        refine x_imulN dX8_write_31 ?_
        refine x_iload_n dX8_write_32 rfl ?_
        refine x_iaddN dX8_write_33 ?_
        refine x_aload_n dX8_write_34 rfl ?_
        refine x_getf gf_X8_13 ho dX8_write_35 rfl rfl ?_
        refine x_iload_n dX8_write_38 rfl ?_
        refine x_iald dX8_write_39 rfl (by first | rfl | exact nI_add _ _ | (simp only [nI_add, pk_mul]; rfl)) (by omega) (by decide) ?_
        refine x_lload_n dX8_write_40 rfl ?_
        refine x_callS2 lk_X8_97 (m_cut _ _) ho dX8_write_41 (Nat.le_of_ble_eq_true rfl) (by omega) (by decide) (by omega) (by omega) ?_
        refine m_last (r := 3) dX8_write_44 (by decide) (by decide) (fun _ => rfl) (by first | rfl | exact nI_add _ _ | (simp only [nI_add, pk_mul]; rfl)) (by omega) (by decide) ?_
        refine x_iconst (v := nI 1) rfl dX8_write_45 ?_
        refine x_iret hr rfl dX8_write_46 (by omega) (by omega) (hQ _ _ ?_)
        exact ⟨by rw [hp]; rfl, by rw [wrM, if_pos hp, cl_nI (by omega), cl_nI (by omega)]⟩
    · try (exfalso; first | (simp (disch := omega) only [Int32.le_iff_toInt_le, Int32.lt_iff_toInt_lt, ← Int32.toInt_inj, nI_toInt, Int32.toInt_zero, m1_toInt, Int64.le_iff_toInt_le, Int64.lt_iff_toInt_lt, ← Int64.toInt_inj, pk_lT, i64_toInt, Int64.toInt_zero] at c19 <;> omega) | omega)
      all_goals
        skip
        refine x_iconst (v := nI 0) rfl dX8_write_22 ?_
        refine x_iret hr rfl dX8_write_23 (by omega) (by omega) (hQ _ _ ?_)
        exact ⟨by rw [hp]; rfl, by rw [wrM, if_pos hp, cl_nI (by omega), cl_nI (by omega)]⟩
  · have hp2 := placedS_le (tm := M.2.2.1 2) (tr := tr) (k := k)
    refine CT.of (ini := false) (by decide +kernel) q1659 q164 (Nat.le_of_ble_eq_true rfl) (by decide) ?_
    intro Γ hw ho hL hr hh hini hal hd hmc hms hQ
    subst hw
    show AW Γ cX8_write 0 0 0 [some (.ref 32), some (.int tr), some (.int k), some (.long v), none] [] (hM M R)
    refine x_aload_n dX8_write_0 rfl ?_
    refine x_iconst (v := nI 0) rfl dX8_write_1 ?_
    refine m_puti (k := 1) (pf_X8_70 (ini := false)) ho hini dX8_write_2 rfl rfl (by decide) (ms_1 _ _) ?_
    refine x_aload_n dX8_write_5 rfl ?_
    refine x_aload_n dX8_write_6 rfl ?_
    refine x_iload_n dX8_write_7 rfl ?_
    refine x_iload_n dX8_write_8 rfl ?_
    refine x_callV2 lk_X8_93 (m_placed _ _ hT) ho dX8_write_9 rfl (Nat.le_of_ble_eq_true rfl) (by omega) (by decide) (by omega) (by omega) ?_
    refine m_puti (k := 0) (pf_X8_73 (ini := false)) ho hini dX8_write_12 rfl rfl (by decide) (ms_0 _ _) ?_
    refine x_aload_n dX8_write_15 rfl ?_
    refine x_getf gf_X8_73 ho dX8_write_16 rfl rfl ?_
    refine x_ival (y := nI (placedS (M.2.2.1 2) tr k)) rfl ?_
    refine x_if_le (tgt := 24) dX8_write_19 (by decide) (fun c19 => ?_) (fun c19 => ?_)
    · try (exfalso; first | (simp (disch := omega) only [Int32.le_iff_toInt_le, Int32.lt_iff_toInt_lt, ← Int32.toInt_inj, nI_toInt, Int32.toInt_zero, m1_toInt, Int64.le_iff_toInt_le, Int64.lt_iff_toInt_lt, ← Int64.toInt_inj, pk_lT, i64_toInt, Int64.toInt_zero] at c19 <;> omega) | omega)
      all_goals
        skip
        refine x_aload_n dX8_write_24 rfl ?_
        refine x_getf gf_X8_20 ho dX8_write_25 rfl rfl ?_
        refine x_bipush (v := nI 60) rfl dX8_write_28 ?_
        refine x_iload_n dX8_write_30 rfl ?_
        refine x_imul dX8_write_31 ?_
        refine x_iload_n dX8_write_32 rfl ?_
        refine x_iadd dX8_write_33 ?_
        refine x_aload_n dX8_write_34 rfl ?_
        refine x_getf gf_X8_13 ho dX8_write_35 rfl rfl ?_
        refine x_iload_n dX8_write_38 rfl ?_
        refine x_iald dX8_write_39 rfl (by first | rfl | exact nI_add _ _ | (simp only [nI_add, pk_mul]; rfl)) (by omega) (by decide) ?_
        refine x_lload_n dX8_write_40 rfl ?_
        refine x_callS2 lk_X8_97 (m_cut _ _) ho dX8_write_41 (Nat.le_of_ble_eq_true rfl) (by omega) (by decide) (by omega) (by omega) ?_
        refine m_last (r := 3) dX8_write_44 (by decide) (by decide) (fun _ => rfl) (by first | rfl | exact nI_add _ _ | (simp only [nI_add, pk_mul]; rfl)) (by omega) (by decide) ?_
        refine x_iconst (v := nI 1) rfl dX8_write_45 ?_
        refine x_iret hr rfl dX8_write_46 (by omega) (by omega) (hQ _ _ ?_)
        exact ⟨by rw [decide_eq_false hp]; rfl, by rw [wrM, if_neg hp]⟩
    · try (exfalso; first | (simp (disch := omega) only [Int32.le_iff_toInt_le, Int32.lt_iff_toInt_lt, ← Int32.toInt_inj, nI_toInt, Int32.toInt_zero, m1_toInt, Int64.le_iff_toInt_le, Int64.lt_iff_toInt_lt, ← Int64.toInt_inj, pk_lT, i64_toInt, Int64.toInt_zero] at c19 <;> omega) | omega)
      all_goals
        skip
        refine x_iconst (v := nI 0) rfl dX8_write_22 ?_
        refine x_iret hr rfl dX8_write_23 (by omega) (by omega) (hQ _ _ ?_)
        exact ⟨by rw [decide_eq_false hp]; rfl, by rw [wrM, if_neg hp]⟩
set_option maxHeartbeats 4000000 in
theorem m_read {w : xW} {M : mS} {R : xH} (tr k : Int32) (hT : wT (M.2.2.1 2)) : CT w yX8_read cX8_read 3 (some (.long)) [] false (2) 0 0 [.ref 32, .int tr, .int k] (hM M R) (xret (some (.long (if placedS (M.2.2.1 2) tr k = 0 then M.2.2.2 3 (60 * cl tr + cl k) else -1))) (hM (mI (mI M 1 (nI 0)) 0 (nI (placedS (M.2.2.1 2) tr k))) R)) := by
  by_cases hp : placedS (M.2.2.1 2) tr k = 0
  · obtain ⟨t, j, n, ht, rfl, rfl, en, hj, hn⟩ := placedS_0 hp hT
    refine CT.of (ini := false) (by decide +kernel) q1674 q164 (Nat.le_of_ble_eq_true rfl) (by decide) ?_
    intro Γ hw ho hL hr hh hini hal hd hmc hms hQ
    subst hw
    show AW Γ cX8_read 0 0 0 [some (.ref 32), some (.int (nI t)), some (.int (nI j))] [] (hM M R)
    refine x_aload_n dX8_read_0 rfl ?_
    refine x_iconst (v := nI 0) rfl dX8_read_1 ?_
    refine m_puti (k := 1) (pf_X8_70 (ini := false)) ho hini dX8_read_2 rfl rfl (by decide) (ms_1 _ _) ?_
    refine x_aload_n dX8_read_5 rfl ?_
    refine x_aload_n dX8_read_6 rfl ?_
    refine x_iload_n dX8_read_7 rfl ?_
    refine x_iload_n dX8_read_8 rfl ?_
    refine x_callV2 lk_X8_93 (m_placed _ _ hT) ho dX8_read_9 rfl (Nat.le_of_ble_eq_true rfl) (by omega) (by decide) (by omega) (by omega) ?_
    refine x_ival (y := nI 0) (by rw [hp]) ?_
    refine m_puti (k := 0) (pf_X8_73 (ini := false)) ho hini dX8_read_12 rfl rfl (by decide) (ms_0 _ _) ?_
    refine x_aload_n dX8_read_15 rfl ?_
    refine x_getf gf_X8_73 ho dX8_read_16 rfl rfl ?_
    refine x_ival (y := nI 0) rfl ?_
    refine x_if_le (tgt := 28) dX8_read_19 (by decide) (fun c19 => ?_) (fun c19 => ?_)
    · try (exfalso; first | (simp (disch := omega) only [Int32.le_iff_toInt_le, Int32.lt_iff_toInt_lt, ← Int32.toInt_inj, nI_toInt, Int32.toInt_zero, m1_toInt, Int64.le_iff_toInt_le, Int64.lt_iff_toInt_lt, ← Int64.toInt_inj, pk_lT, i64_toInt, Int64.toInt_zero] at c19 <;> omega) | omega)
      all_goals
        skip
        refine x_aload_n dX8_read_28 rfl ?_
        refine x_getf gf_X8_20 ho dX8_read_29 rfl rfl ?_
        refine x_bipush (v := nI 60) rfl dX8_read_32 ?_
        refine x_iload_n dX8_read_34 rfl ?_
        refine x_imulN dX8_read_35 ?_
        refine x_iload_n dX8_read_36 rfl ?_
        refine x_iaddN dX8_read_37 ?_
        refine x_lald dX8_read_38 rfl (by first | rfl | exact nI_add _ _ | (simp only [nI_add, pk_mul]; rfl)) (by omega) (by decide) ?_
        refine x_lret hr dX8_read_39 (by omega) (by omega) (hQ _ _ ?_)
        exact ⟨by rw [if_pos hp, cl_nI (by omega), cl_nI (by omega)], by rw [hp]⟩
    · try (exfalso; first | (simp (disch := omega) only [Int32.le_iff_toInt_le, Int32.lt_iff_toInt_lt, ← Int32.toInt_inj, nI_toInt, Int32.toInt_zero, m1_toInt, Int64.le_iff_toInt_le, Int64.lt_iff_toInt_lt, ← Int64.toInt_inj, pk_lT, i64_toInt, Int64.toInt_zero] at c19 <;> omega) | omega)
      all_goals
        skip
        refine x_ldc2 ho q1675 dX8_read_22 ?_
        refine x_goto (tgt := 39) dX8_read_25 (by decide) ?_
        refine x_lret hr dX8_read_39 (by omega) (by omega) (hQ _ _ ?_)
        exact ⟨by rw [if_pos hp, cl_nI (by omega), cl_nI (by omega)], by rw [hp]⟩
  · have hp2 := placedS_le (tm := M.2.2.1 2) (tr := tr) (k := k)
    refine CT.of (ini := false) (by decide +kernel) q1674 q164 (Nat.le_of_ble_eq_true rfl) (by decide) ?_
    intro Γ hw ho hL hr hh hini hal hd hmc hms hQ
    subst hw
    show AW Γ cX8_read 0 0 0 [some (.ref 32), some (.int tr), some (.int k)] [] (hM M R)
    refine x_aload_n dX8_read_0 rfl ?_
    refine x_iconst (v := nI 0) rfl dX8_read_1 ?_
    refine m_puti (k := 1) (pf_X8_70 (ini := false)) ho hini dX8_read_2 rfl rfl (by decide) (ms_1 _ _) ?_
    refine x_aload_n dX8_read_5 rfl ?_
    refine x_aload_n dX8_read_6 rfl ?_
    refine x_iload_n dX8_read_7 rfl ?_
    refine x_iload_n dX8_read_8 rfl ?_
    refine x_callV2 lk_X8_93 (m_placed _ _ hT) ho dX8_read_9 rfl (Nat.le_of_ble_eq_true rfl) (by omega) (by decide) (by omega) (by omega) ?_
    refine m_puti (k := 0) (pf_X8_73 (ini := false)) ho hini dX8_read_12 rfl rfl (by decide) (ms_0 _ _) ?_
    refine x_aload_n dX8_read_15 rfl ?_
    refine x_getf gf_X8_73 ho dX8_read_16 rfl rfl ?_
    refine x_ival (y := nI (placedS (M.2.2.1 2) tr k)) rfl ?_
    refine x_if_le (tgt := 28) dX8_read_19 (by decide) (fun c19 => ?_) (fun c19 => ?_)
    · try (exfalso; first | (simp (disch := omega) only [Int32.le_iff_toInt_le, Int32.lt_iff_toInt_lt, ← Int32.toInt_inj, nI_toInt, Int32.toInt_zero, m1_toInt, Int64.le_iff_toInt_le, Int64.lt_iff_toInt_lt, ← Int64.toInt_inj, pk_lT, i64_toInt, Int64.toInt_zero] at c19 <;> omega) | omega)
      all_goals
        skip
        refine x_aload_n dX8_read_28 rfl ?_
        refine x_getf gf_X8_20 ho dX8_read_29 rfl rfl ?_
        refine x_bipush (v := nI 60) rfl dX8_read_32 ?_
        refine x_iload_n dX8_read_34 rfl ?_
        refine x_imul dX8_read_35 ?_
        refine x_iload_n dX8_read_36 rfl ?_
        refine x_iadd dX8_read_37 ?_
        refine x_lald dX8_read_38 rfl (by first | rfl | exact nI_add _ _ | (simp only [nI_add, pk_mul]; rfl)) (by omega) (by decide) ?_
        refine x_lret hr dX8_read_39 (by omega) (by omega) (hQ _ _ ?_)
        exact ⟨by rw [if_neg hp], rfl⟩
    · try (exfalso; first | (simp (disch := omega) only [Int32.le_iff_toInt_le, Int32.lt_iff_toInt_lt, ← Int32.toInt_inj, nI_toInt, Int32.toInt_zero, m1_toInt, Int64.le_iff_toInt_le, Int64.lt_iff_toInt_lt, ← Int64.toInt_inj, pk_lT, i64_toInt, Int64.toInt_zero] at c19 <;> omega) | omega)
      all_goals
        skip
        refine x_ldc2 ho q1675 dX8_read_22 ?_
        refine x_goto (tgt := 39) dX8_read_25 (by decide) ?_
        refine x_lret hr dX8_read_39 (by omega) (by omega) (hQ _ _ ?_)
        exact ⟨by rw [if_neg hp], rfl⟩
set_option maxHeartbeats 4000000 in
theorem m_tray {w : xW} {M : mS} {R : xH} (tr so mn : Int32) : CT w yX8_tray cX8_tray 5 (some (.boolean)) [] false (1) 0 0 [.ref 32, .int tr, .int so, .int mn] (hM M R) (xret (some (.int (xb (decide (spTray tr so mn = 0))))) (hM (trM M tr so mn) R)) := by
  by_cases hp : spTray tr so mn = 0
  · obtain ⟨t, s, n, ht, hs0, hn, rfl, rfl, rfl⟩ := spTray_0 hp
    refine CT.of (ini := false) (by decide +kernel) q1651 q164 (Nat.le_of_ble_eq_true rfl) (by decide) ?_
    intro Γ hw ho hL hr hh hini hal hd hmc hms hQ
    subst hw
    show AW Γ cX8_tray 0 0 0 [some (.ref 32), some (.int (nI t)), some (.int (nI s)), some (.int (nI n)), none] [] (hM M R)
    refine x_aload_n dX8_tray_0 rfl ?_
    refine x_iconst (v := nI 0) rfl dX8_tray_1 ?_
    refine m_puti (k := 1) (pf_X8_70 (ini := false)) ho hini dX8_tray_2 rfl rfl (by decide) (ms_1 _ _) ?_
    refine x_aload_n dX8_tray_5 rfl ?_
    refine x_iconst (v := nI 0) rfl dX8_tray_6 ?_
    refine m_puti (k := 0) (pf_X8_73 (ini := false)) ho hini dX8_tray_7 rfl rfl (by decide) (ms_0 _ _) ?_
    refine x_iload_n dX8_tray_10 rfl ?_
    refine x_if_lt (tgt := 28) dX8_tray_11 (by decide) (fun c11 => ?_) (fun c11 => ?_)
    · try (exfalso; first | (simp (disch := omega) only [Int32.le_iff_toInt_le, Int32.lt_iff_toInt_lt, ← Int32.toInt_inj, nI_toInt, Int32.toInt_zero, m1_toInt, Int64.le_iff_toInt_le, Int64.lt_iff_toInt_lt, ← Int64.toInt_inj, pk_lT, i64_toInt, Int64.toInt_zero] at c11 <;> omega) | omega)
      all_goals
        skip
        refine x_aload_n dX8_tray_28 rfl ?_
        refine x_iconst (v := nI 1) rfl dX8_tray_29 ?_
        refine x_callV1 lk_X8_85 (m_no _) ho dX8_tray_30 rfl (Nat.le_of_ble_eq_true rfl) (by omega) (by decide) (by omega) (by omega) ?_
        refine x_iret hr rfl dX8_tray_33 (by omega) (by omega) (hQ _ _ ?_)
        exact ⟨by rw [hp]; rfl, by rw [trM, if_pos hp, cl_nI (by omega), cl_nI (by omega)]⟩
    · try (exfalso; first | (simp (disch := omega) only [Int32.le_iff_toInt_le, Int32.lt_iff_toInt_lt, ← Int32.toInt_inj, nI_toInt, Int32.toInt_zero, m1_toInt, Int64.le_iff_toInt_le, Int64.lt_iff_toInt_lt, ← Int64.toInt_inj, pk_lT, i64_toInt, Int64.toInt_zero] at c11 <;> omega) | omega)
      all_goals
        skip
        refine x_iload_n dX8_tray_14 rfl ?_
        refine x_iconst (v := nI 4) rfl dX8_tray_15 ?_
        refine x_icmp_ge (tgt := 28) dX8_tray_16 (by decide) (fun c16 => ?_) (fun c16 => ?_)
        · try (exfalso; first | (simp (disch := omega) only [Int32.le_iff_toInt_le, Int32.lt_iff_toInt_lt, ← Int32.toInt_inj, nI_toInt, Int32.toInt_zero, m1_toInt, Int64.le_iff_toInt_le, Int64.lt_iff_toInt_lt, ← Int64.toInt_inj, pk_lT, i64_toInt, Int64.toInt_zero] at c11 c16 <;> omega) | omega)
          all_goals
            skip
            refine x_aload_n dX8_tray_28 rfl ?_
            refine x_iconst (v := nI 1) rfl dX8_tray_29 ?_
            refine x_callV1 lk_X8_85 (m_no _) ho dX8_tray_30 rfl (Nat.le_of_ble_eq_true rfl) (by omega) (by decide) (by omega) (by omega) ?_
            refine x_iret hr rfl dX8_tray_33 (by omega) (by omega) (hQ _ _ ?_)
            exact ⟨by rw [hp]; rfl, by rw [trM, if_pos hp, cl_nI (by omega), cl_nI (by omega)]⟩
        · try (exfalso; first | (simp (disch := omega) only [Int32.le_iff_toInt_le, Int32.lt_iff_toInt_lt, ← Int32.toInt_inj, nI_toInt, Int32.toInt_zero, m1_toInt, Int64.le_iff_toInt_le, Int64.lt_iff_toInt_lt, ← Int64.toInt_inj, pk_lT, i64_toInt, Int64.toInt_zero] at c11 c16 <;> omega) | omega)
          all_goals
            skip
            refine x_iload_n dX8_tray_19 rfl ?_
            refine x_if_lt (tgt := 28) dX8_tray_20 (by decide) (fun c20 => ?_) (fun c20 => ?_)
            · try (exfalso; first | (simp (disch := omega) only [Int32.le_iff_toInt_le, Int32.lt_iff_toInt_lt, ← Int32.toInt_inj, nI_toInt, Int32.toInt_zero, m1_toInt, Int64.le_iff_toInt_le, Int64.lt_iff_toInt_lt, ← Int64.toInt_inj, pk_lT, i64_toInt, Int64.toInt_zero] at c11 c16 c20 <;> omega) | omega)
              all_goals
                skip
                refine x_aload_n dX8_tray_28 rfl ?_
                refine x_iconst (v := nI 1) rfl dX8_tray_29 ?_
                refine x_callV1 lk_X8_85 (m_no _) ho dX8_tray_30 rfl (Nat.le_of_ble_eq_true rfl) (by omega) (by decide) (by omega) (by omega) ?_
                refine x_iret hr rfl dX8_tray_33 (by omega) (by omega) (hQ _ _ ?_)
                exact ⟨by rw [hp]; rfl, by rw [trM, if_pos hp, cl_nI (by omega), cl_nI (by omega)]⟩
            · try (exfalso; first | (simp (disch := omega) only [Int32.le_iff_toInt_le, Int32.lt_iff_toInt_lt, ← Int32.toInt_inj, nI_toInt, Int32.toInt_zero, m1_toInt, Int64.le_iff_toInt_le, Int64.lt_iff_toInt_lt, ← Int64.toInt_inj, pk_lT, i64_toInt, Int64.toInt_zero] at c11 c16 c20 <;> omega) | omega)
              all_goals
                skip
                refine x_iload_n dX8_tray_23 rfl ?_
                refine x_iconst (v := nI 3) rfl dX8_tray_24 ?_
                refine x_icmp_le (tgt := 34) dX8_tray_25 (by decide) (fun c25 => ?_) (fun c25 => ?_)
                · try (exfalso; first | (simp (disch := omega) only [Int32.le_iff_toInt_le, Int32.lt_iff_toInt_lt, ← Int32.toInt_inj, nI_toInt, Int32.toInt_zero, m1_toInt, Int64.le_iff_toInt_le, Int64.lt_iff_toInt_lt, ← Int64.toInt_inj, pk_lT, i64_toInt, Int64.toInt_zero] at c11 c16 c20 c25 <;> omega) | omega)
                  all_goals
                    skip
                    refine x_iload_n dX8_tray_34 rfl ?_
                    refine x_bipush (v := nI 60) rfl dX8_tray_35 ?_
                    refine x_icmp_le (tgt := 46) dX8_tray_37 (by decide) (fun c37 => ?_) (fun c37 => ?_)
                    · try (exfalso; first | (simp (disch := omega) only [Int32.le_iff_toInt_le, Int32.lt_iff_toInt_lt, ← Int32.toInt_inj, nI_toInt, Int32.toInt_zero, m1_toInt, Int64.le_iff_toInt_le, Int64.lt_iff_toInt_lt, ← Int64.toInt_inj, pk_lT, i64_toInt, Int64.toInt_zero] at c11 c16 c20 c25 c37 <;> omega) | omega)
                      all_goals
                        skip
                        refine x_iload_n dX8_tray_46 rfl ?_
                        refine x_if_ge (tgt := 57) dX8_tray_47 (by decide) (fun c47 => ?_) (fun c47 => ?_)
                        · try (exfalso; first | (simp (disch := omega) only [Int32.le_iff_toInt_le, Int32.lt_iff_toInt_lt, ← Int32.toInt_inj, nI_toInt, Int32.toInt_zero, m1_toInt, Int64.le_iff_toInt_le, Int64.lt_iff_toInt_lt, ← Int64.toInt_inj, pk_lT, i64_toInt, Int64.toInt_zero] at c11 c16 c20 c25 c37 c47 <;> omega) | omega)
                          all_goals
                            skip
                            refine x_aload_n dX8_tray_57 rfl ?_
                            refine x_getf gf_X8_13 ho dX8_tray_58 rfl rfl ?_
                            refine x_iload_n dX8_tray_61 rfl ?_
                            refine x_iload_n dX8_tray_62 rfl ?_
                            refine m_iast (r := 1) dX8_tray_63 (by decide) (by decide) (fun _ => rfl) (by first | rfl | exact nI_add _ _ | (simp only [nI_add, pk_mul]; rfl)) (by omega) (by decide) ?_
                            refine x_aload_n dX8_tray_64 rfl ?_
                            refine x_getf gf_X8_17 ho dX8_tray_65 rfl rfl ?_
                            refine x_iload_n dX8_tray_68 rfl ?_
                            refine x_iload_n dX8_tray_69 rfl ?_
                            refine m_iast (r := 2) dX8_tray_70 (by decide) (by decide) (fun _ => rfl) (by first | rfl | exact nI_add _ _ | (simp only [nI_add, pk_mul]; rfl)) (by omega) (by decide) ?_
                            refine x_iconst (v := nI 0) rfl dX8_tray_71 ?_
                            refine x_ist4 hL (by decide) rfl dX8_tray_72 ?_
                            refine x_eq (h' := hM (mSB (mA (mA (mI (mI M 1 (nI 0)) 0 (nI 0)) 1 t (nI s)) 2 t (nI n)) 3 (fil (M.2.2.2 3) (60 * t) 0 (lN 0))) R) rfl rfl (by rw [fil_0]; exact congrArg (hM · R) mSB_id.symm) ?_
                            refine x_for (n := n) (fun i => [some (.ref 32), some (.int (nI t)), some (.int (nI s)), some (.int (nI n)), some (.int (nI i))]) (fun i => []) (fun i => hM (mSB (mA (mA (mI (mI M 1 (nI 0)) 0 (nI 0)) 1 t (nI s)) 2 t (nI n)) 3 (fil (M.2.2.2 3) (60 * t) i (lN 0))) R) ?_ (fun i hi ihi => ?_)
                            · skip
                              refine x_iload dX8_tray_74 rfl ?_
                              refine x_iload_n dX8_tray_76 rfl ?_
                              refine x_icmp_ge (tgt := 99) dX8_tray_77 (by decide) (fun c77 => ?_) (fun c77 => ?_)
                              · skip
                                refine x_iconst (v := nI 1) rfl dX8_tray_99 ?_
                                refine x_iret hr rfl dX8_tray_100 (by omega) (by omega) (hQ _ _ ?_)
                                exact ⟨by rw [hp]; rfl, by rw [trM, if_pos hp, cl_nI (by omega), cl_nI (by omega)]⟩
                              · exfalso; first | (simp (disch := omega) only [Int32.le_iff_toInt_le, Int32.lt_iff_toInt_lt, ← Int32.toInt_inj, nI_toInt, Int32.toInt_zero, m1_toInt, Int64.le_iff_toInt_le, Int64.lt_iff_toInt_lt, ← Int64.toInt_inj, pk_lT, i64_toInt, Int64.toInt_zero] at c11 c16 c20 c25 c37 c47 c77 <;> omega) | omega
                            · skip
                              refine x_iload dX8_tray_74 rfl ?_
                              refine x_iload_n dX8_tray_76 rfl ?_
                              refine x_icmp_ge (tgt := 99) dX8_tray_77 (by decide) (fun c77 => ?_) (fun c77 => ?_)
                              · exfalso; first | (simp (disch := omega) only [Int32.le_iff_toInt_le, Int32.lt_iff_toInt_lt, ← Int32.toInt_inj, nI_toInt, Int32.toInt_zero, m1_toInt, Int64.le_iff_toInt_le, Int64.lt_iff_toInt_lt, ← Int64.toInt_inj, pk_lT, i64_toInt, Int64.toInt_zero] at c11 c16 c20 c25 c37 c47 c77 <;> omega) | omega
                              · skip
                                refine x_aload_n dX8_tray_80 rfl ?_
                                refine x_getf gf_X8_20 ho dX8_tray_81 rfl rfl ?_
                                refine x_bipush (v := nI 60) rfl dX8_tray_84 ?_
                                refine x_iload_n dX8_tray_86 rfl ?_
                                refine x_imulN dX8_tray_87 ?_
                                refine x_iload dX8_tray_88 rfl ?_
                                refine x_iaddN dX8_tray_90 ?_
                                refine x_lconst (v := lN 0) rfl dX8_tray_91 ?_
                                refine m_last (r := 3) dX8_tray_92 (by decide) (by decide) (fun _ => rfl) (by first | rfl | exact nI_add _ _ | (simp only [nI_add, pk_mul]; rfl)) (by omega) (by decide) ?_
                                refine x_inc4 hL (by decide) rfl dX8_tray_93 (nI_1 _) ?_
                                refine x_goto (tgt := 74) dX8_tray_96 (by decide) ?_
                                refine x_eq ?_ ?_ ?_ (ihi)
                                · first | rfl | (simp [c11, c16, c20, c25, c37, c47, c77]; done)
                                · rfl
                                · rw [mB_SB, filL_s]
                        · try (exfalso; first | (simp (disch := omega) only [Int32.le_iff_toInt_le, Int32.lt_iff_toInt_lt, ← Int32.toInt_inj, nI_toInt, Int32.toInt_zero, m1_toInt, Int64.le_iff_toInt_le, Int64.lt_iff_toInt_lt, ← Int64.toInt_inj, pk_lT, i64_toInt, Int64.toInt_zero] at c11 c16 c20 c25 c37 c47 <;> omega) | omega)
                          all_goals
                            skip
                            refine x_aload_n dX8_tray_50 rfl ?_
                            refine x_bipush (v := nI 6) rfl dX8_tray_51 ?_
                            refine x_callV1 lk_X8_85 (m_no _) ho dX8_tray_53 rfl (Nat.le_of_ble_eq_true rfl) (by omega) (by decide) (by omega) (by omega) ?_
                            refine x_iret hr rfl dX8_tray_56 (by omega) (by omega) (hQ _ _ ?_)
                            exact ⟨by rw [hp]; rfl, by rw [trM, if_pos hp, cl_nI (by omega), cl_nI (by omega)]⟩
                    · try (exfalso; first | (simp (disch := omega) only [Int32.le_iff_toInt_le, Int32.lt_iff_toInt_lt, ← Int32.toInt_inj, nI_toInt, Int32.toInt_zero, m1_toInt, Int64.le_iff_toInt_le, Int64.lt_iff_toInt_lt, ← Int64.toInt_inj, pk_lT, i64_toInt, Int64.toInt_zero] at c11 c16 c20 c25 c37 <;> omega) | omega)
                      all_goals
                        skip
                        refine x_aload_n dX8_tray_40 rfl ?_
                        refine x_iconst (v := nI 5) rfl dX8_tray_41 ?_
                        refine x_callV1 lk_X8_85 (m_no _) ho dX8_tray_42 rfl (Nat.le_of_ble_eq_true rfl) (by omega) (by decide) (by omega) (by omega) ?_
                        refine x_iret hr rfl dX8_tray_45 (by omega) (by omega) (hQ _ _ ?_)
                        exact ⟨by rw [hp]; rfl, by rw [trM, if_pos hp, cl_nI (by omega), cl_nI (by omega)]⟩
                · try (exfalso; first | (simp (disch := omega) only [Int32.le_iff_toInt_le, Int32.lt_iff_toInt_lt, ← Int32.toInt_inj, nI_toInt, Int32.toInt_zero, m1_toInt, Int64.le_iff_toInt_le, Int64.lt_iff_toInt_lt, ← Int64.toInt_inj, pk_lT, i64_toInt, Int64.toInt_zero] at c11 c16 c20 c25 <;> omega) | omega)
                  all_goals
                    skip
                    refine x_aload_n dX8_tray_28 rfl ?_
                    refine x_iconst (v := nI 1) rfl dX8_tray_29 ?_
                    refine x_callV1 lk_X8_85 (m_no _) ho dX8_tray_30 rfl (Nat.le_of_ble_eq_true rfl) (by omega) (by decide) (by omega) (by omega) ?_
                    refine x_iret hr rfl dX8_tray_33 (by omega) (by omega) (hQ _ _ ?_)
                    exact ⟨by rw [hp]; rfl, by rw [trM, if_pos hp, cl_nI (by omega), cl_nI (by omega)]⟩
  · skip
    refine CT.of (ini := false) (by decide +kernel) q1651 q164 (Nat.le_of_ble_eq_true rfl) (by decide) ?_
    intro Γ hw ho hL hr hh hini hal hd hmc hms hQ
    subst hw
    show AW Γ cX8_tray 0 0 0 [some (.ref 32), some (.int tr), some (.int so), some (.int mn), none] [] (hM M R)
    refine x_aload_n dX8_tray_0 rfl ?_
    refine x_iconst (v := nI 0) rfl dX8_tray_1 ?_
    refine m_puti (k := 1) (pf_X8_70 (ini := false)) ho hini dX8_tray_2 rfl rfl (by decide) (ms_1 _ _) ?_
    refine x_aload_n dX8_tray_5 rfl ?_
    refine x_iconst (v := nI 0) rfl dX8_tray_6 ?_
    refine m_puti (k := 0) (pf_X8_73 (ini := false)) ho hini dX8_tray_7 rfl rfl (by decide) (ms_0 _ _) ?_
    refine x_iload_n dX8_tray_10 rfl ?_
    refine x_if_lt (tgt := 28) dX8_tray_11 (by decide) (fun c11 => ?_) (fun c11 => ?_)
    · skip
      skip
      refine x_aload_n dX8_tray_28 rfl ?_
      refine x_iconst (v := nI 1) rfl dX8_tray_29 ?_
      refine x_callV1 lk_X8_85 (m_no _) ho dX8_tray_30 rfl (Nat.le_of_ble_eq_true rfl) (by omega) (by decide) (by omega) (by omega) ?_
      refine x_iret hr rfl dX8_tray_33 (by omega) (by omega) (hQ _ _ ?_)
      exact ⟨by rw [decide_eq_false hp]; rfl, by rw [trM, if_neg hp]; simp [spTray, mI_mI, c11]⟩
    · skip
      skip
      refine x_iload_n dX8_tray_14 rfl ?_
      refine x_iconst (v := nI 4) rfl dX8_tray_15 ?_
      refine x_icmp_ge (tgt := 28) dX8_tray_16 (by decide) (fun c16 => ?_) (fun c16 => ?_)
      · skip
        skip
        refine x_aload_n dX8_tray_28 rfl ?_
        refine x_iconst (v := nI 1) rfl dX8_tray_29 ?_
        refine x_callV1 lk_X8_85 (m_no _) ho dX8_tray_30 rfl (Nat.le_of_ble_eq_true rfl) (by omega) (by decide) (by omega) (by omega) ?_
        refine x_iret hr rfl dX8_tray_33 (by omega) (by omega) (hQ _ _ ?_)
        exact ⟨by rw [decide_eq_false hp]; rfl, by rw [trM, if_neg hp]; simp [spTray, mI_mI, c11, c16]⟩
      · skip
        skip
        refine x_iload_n dX8_tray_19 rfl ?_
        refine x_if_lt (tgt := 28) dX8_tray_20 (by decide) (fun c20 => ?_) (fun c20 => ?_)
        · skip
          skip
          refine x_aload_n dX8_tray_28 rfl ?_
          refine x_iconst (v := nI 1) rfl dX8_tray_29 ?_
          refine x_callV1 lk_X8_85 (m_no _) ho dX8_tray_30 rfl (Nat.le_of_ble_eq_true rfl) (by omega) (by decide) (by omega) (by omega) ?_
          refine x_iret hr rfl dX8_tray_33 (by omega) (by omega) (hQ _ _ ?_)
          exact ⟨by rw [decide_eq_false hp]; rfl, by rw [trM, if_neg hp]; simp [spTray, mI_mI, c11, c16, c20]⟩
        · skip
          skip
          refine x_iload_n dX8_tray_23 rfl ?_
          refine x_iconst (v := nI 3) rfl dX8_tray_24 ?_
          refine x_icmp_le (tgt := 34) dX8_tray_25 (by decide) (fun c25 => ?_) (fun c25 => ?_)
          · skip
            skip
            refine x_iload_n dX8_tray_34 rfl ?_
            refine x_bipush (v := nI 60) rfl dX8_tray_35 ?_
            refine x_icmp_le (tgt := 46) dX8_tray_37 (by decide) (fun c37 => ?_) (fun c37 => ?_)
            · skip
              skip
              refine x_iload_n dX8_tray_46 rfl ?_
              refine x_if_ge (tgt := 57) dX8_tray_47 (by decide) (fun c47 => ?_) (fun c47 => ?_)
              · skip
                skip
                exact absurd (by rw [spTray, if_neg c11, if_neg c16, if_neg c20, if_neg (Int32.not_lt.mpr c25), if_neg (Int32.not_lt.mpr c37), if_neg (Int32.not_lt.mpr c47)]) hp
              · skip
                skip
                refine x_aload_n dX8_tray_50 rfl ?_
                refine x_bipush (v := nI 6) rfl dX8_tray_51 ?_
                refine x_callV1 lk_X8_85 (m_no _) ho dX8_tray_53 rfl (Nat.le_of_ble_eq_true rfl) (by omega) (by decide) (by omega) (by omega) ?_
                refine x_iret hr rfl dX8_tray_56 (by omega) (by omega) (hQ _ _ ?_)
                exact ⟨by rw [decide_eq_false hp]; rfl, by rw [trM, if_neg hp]; simp [spTray, mI_mI, c11, c16, c20, Int32.not_lt.mpr c25, Int32.not_lt.mpr c37, Int32.not_le.mp c47]⟩
            · skip
              skip
              refine x_aload_n dX8_tray_40 rfl ?_
              refine x_iconst (v := nI 5) rfl dX8_tray_41 ?_
              refine x_callV1 lk_X8_85 (m_no _) ho dX8_tray_42 rfl (Nat.le_of_ble_eq_true rfl) (by omega) (by decide) (by omega) (by omega) ?_
              refine x_iret hr rfl dX8_tray_45 (by omega) (by omega) (hQ _ _ ?_)
              exact ⟨by rw [decide_eq_false hp]; rfl, by rw [trM, if_neg hp]; simp [spTray, mI_mI, c11, c16, c20, Int32.not_lt.mpr c25, Int32.not_le.mp c37]⟩
          · skip
            skip
            refine x_aload_n dX8_tray_28 rfl ?_
            refine x_iconst (v := nI 1) rfl dX8_tray_29 ?_
            refine x_callV1 lk_X8_85 (m_no _) ho dX8_tray_30 rfl (Nat.le_of_ble_eq_true rfl) (by omega) (by decide) (by omega) (by omega) ?_
            refine x_iret hr rfl dX8_tray_33 (by omega) (by omega) (hQ _ _ ?_)
            exact ⟨by rw [decide_eq_false hp]; rfl, by rw [trM, if_neg hp]; simp [spTray, mI_mI, c11, c16, c20, Int32.not_le.mp c25]⟩
