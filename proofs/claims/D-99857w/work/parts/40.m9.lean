/-! ===== the model: rounds ===== -/
set_option maxRecDepth 100000
set_option maxHeartbeats 800000 in
theorem m_goesRound {w : xW} {M : mS} {R : xH} {tm pm tn G : Nat} (hF : wF (M.2.2.1 5) tm pm tn G) (t f n : Nat) (se : Int32) (s : gst) (ht : t < 9) (hn : n + f = 7) (h1n : 1 ≤ n) (hsz : szF se 7 = n) (hrow : ∃ p, p < 7 ∧ s.2.2 (n - 1) = nI p) (hbl : s.1 ≤ 7) : CT w yX8_goesRound cX8_goesRound 6 none [] false (4 + f) 0 0 [.ref 32, .int (nI t), .int (nI n), .int se] (hM (grM M s) R) (xret none (hM (grM M (goR (M.2.2.1 5) pm t f n se s)) R)) := by
  induction f generalizing n se s
  · obtain ⟨p, hp7, ep⟩ := hrow
    have hand : ∀ q, q < 7 → hs (nxS (M.2.2.1 5) pm t p &&& (se ^^^ (-1))) (nI q) = (hs (nxS (M.2.2.1 5) pm t p) (nI q) && !hs se (nI q)) := fun q hq => by rw [hs_and (by omega), hs_not (by omega)]
    have hn7 : n = 7 := by omega
    have hfull : ∀ q, q < 7 → hs (nxS (M.2.2.1 5) pm t p &&& (se ^^^ (-1))) (nI q) = true → false = true := fun q hq e => by rw [hand q hq, szF_full (hsz.trans hn7) q hq, Bool.not_true, Bool.and_false] at e; exact e
    refine CT.of (ini := false) (by decide +kernel) q2062 q164 (Nat.le_of_ble_eq_true rfl) (by decide) ?_
    intro Γ hw ho hL hr hh hini hal hd hmc hms hQ
    subst hw
    show AW Γ cX8_goesRound 0 0 0 [some (.ref 32), some (.int (nI t)), some (.int (nI n)), some (.int se), none, none] [] (hM (grM M s) R)
    refine x_aload_n dX8_goesRound_0 rfl ?_
    refine x_iload_n dX8_goesRound_1 rfl ?_
    refine x_aload_n dX8_goesRound_2 rfl ?_
    refine x_getf gf_X8_47 ho dX8_goesRound_3 rfl rfl ?_
    refine x_iload_n dX8_goesRound_6 rfl ?_
    refine x_iconst (v := nI 1) rfl dX8_goesRound_7 ?_
    refine x_isubN (by omega) dX8_goesRound_8 ?_
    refine x_iald dX8_goesRound_9 rfl (by first | rfl | exact nI_add _ _ | (simp only [nI_add, pk_mul]; rfl)) (by omega) (by decide) ?_
    refine x_ival (y := nI p) ((congrFun (upA_s (f := upA M.2.2.1 10 s.2.1) (r := 9) (x := s.2.2)) _).trans ep) ?_
    refine x_callV2 lk_X8_357 (m_nextOf (M := grM M s) hF _ _ (by omega) (by omega)) ho dX8_goesRound_10 rfl (Nat.le_of_ble_eq_true rfl) (by omega) (by decide) (by omega) (by omega) ?_
    refine x_ival (y := nxS (M.2.2.1 5) pm t p) rfl ?_
    refine x_iload_n dX8_goesRound_13 rfl ?_
    refine x_iconst (v := (-1)) rfl dX8_goesRound_14 ?_
    refine x_ixor dX8_goesRound_15 ?_
    refine x_iand dX8_goesRound_16 ?_
    refine x_ist4 hL (by decide) rfl dX8_goesRound_17 ?_
    refine x_iload_n dX8_goesRound_19 rfl ?_
    refine x_aload_n dX8_goesRound_20 rfl ?_
    refine x_getf gf_X8_383 ho dX8_goesRound_21 rfl rfl ?_
    refine x_ival (y := nI s.1) rfl ?_
    refine x_icmp_le (tgt := 61) dX8_goesRound_24 (by decide) (fun c24 => ?_) (fun c24 => ?_)
    · skip
      skip
      refine x_eq (h' := hM (grM M (goU n s)) R) rfl rfl (by rw [goU, if_neg (show ¬ s.1 < n by have := (nI_leI (by omega) (by omega)).mp c24; omega)]) ?_
      refine x_iconst (v := nI 0) rfl dX8_goesRound_61 ?_
      refine x_ist5 hL (by decide) rfl dX8_goesRound_62 ?_
      refine x_for (n := 7) (fun q => [some (.ref 32), some (.int (nI t)), some (.int (nI n)), some (.int se), some (.int (nxS (M.2.2.1 5) pm t p &&& (se ^^^ (-1)))), some (.int (nI q))]) (fun q => []) (fun q => hM (grM M (goU n s)) R) ?_ (fun q hq ihq => ?_)
      · skip
        refine x_iload dX8_goesRound_64 rfl ?_
        refine x_bipush (v := nI 7) rfl dX8_goesRound_66 ?_
        refine x_icmp_ge (tgt := 112) dX8_goesRound_68 (by decide) (fun c68 => ?_) (fun c68 => ?_)
        · skip
          refine x_vret hr dX8_goesRound_112 (by omega) (by omega) (hQ _ _ ?_)
          try dsimp only [mI, mSA] at c24 c68
          exact ⟨rfl, by rw [goR]⟩
        · exfalso; first | (have := (nI_leI (by omega) (by omega)).mp c68; omega) | (exact c68 (nI_le (by omega) (by omega))) | (simp (disch := omega) [inS_ix, inS_N, ixL_N, ix_nI, hn] at c68 <;> omega) | (simp (disch := omega) only [h0, h1, h3, Int32.le_iff_toInt_le, Int32.lt_iff_toInt_lt, ← Int32.toInt_inj, nI_toInt, Int32.toInt_zero, m1_toInt, Int64.le_iff_toInt_le, Int64.lt_iff_toInt_lt, ← Int64.toInt_inj, pk_lT, i64_toInt, Int64.toInt_zero, eq_self, not_true_eq_false, not_false_eq_true] at c24 c68 <;> omega) | omega
      · skip
        refine x_iload dX8_goesRound_64 rfl ?_
        refine x_bipush (v := nI 7) rfl dX8_goesRound_66 ?_
        refine x_icmp_ge (tgt := 112) dX8_goesRound_68 (by decide) (fun c68 => ?_) (fun c68 => ?_)
        · exfalso; first | (have := (nI_leI (by omega) (by omega)).mp c68; omega) | (exact c68 (nI_le (by omega) (by omega))) | (simp (disch := omega) [inS_ix, inS_N, ixL_N, ix_nI, hn] at c68 <;> omega) | (simp (disch := omega) only [h0, h1, h3, Int32.le_iff_toInt_le, Int32.lt_iff_toInt_lt, ← Int32.toInt_inj, nI_toInt, Int32.toInt_zero, m1_toInt, Int64.le_iff_toInt_le, Int64.lt_iff_toInt_lt, ← Int64.toInt_inj, pk_lT, i64_toInt, Int64.toInt_zero, eq_self, not_true_eq_false, not_false_eq_true] at c24 c68 <;> omega) | omega
        · skip
          refine x_iload dX8_goesRound_71 rfl ?_
          refine x_iload dX8_goesRound_73 rfl ?_
          refine x_callS2 lk_X8_109 (m_has _ _) ho dX8_goesRound_75 (Nat.le_of_ble_eq_true rfl) (by omega) (by decide) (by omega) (by omega) ?_
          refine x_ifb_ne (tgt := 84) dX8_goesRound_78 (by decide) (fun c78 => ?_) (fun c78 => ?_)
          · try (exfalso; first | (exact absurd (hfull q (by omega) c78) (by decide)) | (simp (disch := omega) [inS_ix, inS_N, ixL_N, ix_nI, hn] at c78 <;> omega) | (simp (disch := omega) only [h0, h1, h3, Int32.le_iff_toInt_le, Int32.lt_iff_toInt_lt, ← Int32.toInt_inj, nI_toInt, Int32.toInt_zero, m1_toInt, Int64.le_iff_toInt_le, Int64.lt_iff_toInt_lt, ← Int64.toInt_inj, pk_lT, i64_toInt, Int64.toInt_zero, eq_self, not_true_eq_false, not_false_eq_true] at c24 c68 c78 <;> omega) | omega)
            all_goals
              skip
              exact absurd (hfull q (by omega) c78) (by decide)
          · try (exfalso; first | (exact absurd (hfull q (by omega) c78) (by decide)) | (simp (disch := omega) [inS_ix, inS_N, ixL_N, ix_nI, hn] at c78 <;> omega) | (simp (disch := omega) only [h0, h1, h3, Int32.le_iff_toInt_le, Int32.lt_iff_toInt_lt, ← Int32.toInt_inj, nI_toInt, Int32.toInt_zero, m1_toInt, Int64.le_iff_toInt_le, Int64.lt_iff_toInt_lt, ← Int64.toInt_inj, pk_lT, i64_toInt, Int64.toInt_zero, eq_self, not_true_eq_false, not_false_eq_true] at c24 c68 c78 <;> omega) | omega)
            all_goals
              skip
              refine x_goto (tgt := 106) dX8_goesRound_81 (by decide) ?_
              refine x_inc5 hL (by decide) rfl dX8_goesRound_106 (nI_1 _) ?_
              refine x_goto (tgt := 64) dX8_goesRound_109 (by decide) ?_
              refine x_eq ?_ ?_ ?_ (ihq)
              · first | rfl | (simp [c24, c68, c78]; done)
              · rfl
              · rfl
    · skip
      skip
      have hlt : s.1 < n := Nat.lt_of_not_le fun q => c24 (nI_le q (by omega))
      refine x_aload_n dX8_goesRound_27 rfl ?_
      refine x_iload_n dX8_goesRound_28 rfl ?_
      refine m_puti (k := 29) (pf_X8_383 (ini := false)) ho hini dX8_goesRound_29 rfl rfl (by decide) (ms_29 _ _) ?_
      refine x_iconst (v := nI 0) rfl dX8_goesRound_32 ?_
      refine x_ist5 hL (by decide) rfl dX8_goesRound_33 ?_
      refine x_eq (h' := hM (grM M (n, lay s.2.1 0 0 s.2.2, s.2.2)) R) rfl rfl (by rw [grM_29, lay_0]) ?_
      refine x_for (n := n) (fun i => [some (.ref 32), some (.int (nI t)), some (.int (nI n)), some (.int se), some (.int (nxS (M.2.2.1 5) pm t p &&& (se ^^^ (-1)))), some (.int (nI i))]) (fun i => []) (fun i => hM (grM M (n, lay s.2.1 0 i s.2.2, s.2.2)) R) ?_ (fun i hi ihi => ?_)
      · skip
        refine x_iload dX8_goesRound_35 rfl ?_
        refine x_iload_n dX8_goesRound_37 rfl ?_
        refine x_icmp_ge (tgt := 61) dX8_goesRound_38 (by decide) (fun c38 => ?_) (fun c38 => ?_)
        · skip
          refine x_eq (h' := hM (grM M (goU n s)) R) rfl rfl (by rw [goU, if_pos hlt]) ?_
          refine x_iconst (v := nI 0) rfl dX8_goesRound_61 ?_
          refine x_ist5 hL (by decide) rfl dX8_goesRound_62 ?_
          refine x_for (n := 7) (fun q => [some (.ref 32), some (.int (nI t)), some (.int (nI n)), some (.int se), some (.int (nxS (M.2.2.1 5) pm t p &&& (se ^^^ (-1)))), some (.int (nI q))]) (fun q => []) (fun q => hM (grM M (goU n s)) R) ?_ (fun q hq ihq => ?_)
          · skip
            refine x_iload dX8_goesRound_64 rfl ?_
            refine x_bipush (v := nI 7) rfl dX8_goesRound_66 ?_
            refine x_icmp_ge (tgt := 112) dX8_goesRound_68 (by decide) (fun c68 => ?_) (fun c68 => ?_)
            · skip
              refine x_vret hr dX8_goesRound_112 (by omega) (by omega) (hQ _ _ ?_)
              try dsimp only [mI, mSA] at c24 c38 c68
              exact ⟨rfl, by rw [goR]⟩
            · exfalso; first | (have := (nI_leI (by omega) (by omega)).mp c68; omega) | (exact c68 (nI_le (by omega) (by omega))) | (simp (disch := omega) [inS_ix, inS_N, ixL_N, ix_nI, hn] at c68 <;> omega) | (simp (disch := omega) only [h0, h1, h3, Int32.le_iff_toInt_le, Int32.lt_iff_toInt_lt, ← Int32.toInt_inj, nI_toInt, Int32.toInt_zero, m1_toInt, Int64.le_iff_toInt_le, Int64.lt_iff_toInt_lt, ← Int64.toInt_inj, pk_lT, i64_toInt, Int64.toInt_zero, eq_self, not_true_eq_false, not_false_eq_true] at c24 c38 c68 <;> omega) | omega
          · skip
            refine x_iload dX8_goesRound_64 rfl ?_
            refine x_bipush (v := nI 7) rfl dX8_goesRound_66 ?_
            refine x_icmp_ge (tgt := 112) dX8_goesRound_68 (by decide) (fun c68 => ?_) (fun c68 => ?_)
            · exfalso; first | (have := (nI_leI (by omega) (by omega)).mp c68; omega) | (exact c68 (nI_le (by omega) (by omega))) | (simp (disch := omega) [inS_ix, inS_N, ixL_N, ix_nI, hn] at c68 <;> omega) | (simp (disch := omega) only [h0, h1, h3, Int32.le_iff_toInt_le, Int32.lt_iff_toInt_lt, ← Int32.toInt_inj, nI_toInt, Int32.toInt_zero, m1_toInt, Int64.le_iff_toInt_le, Int64.lt_iff_toInt_lt, ← Int64.toInt_inj, pk_lT, i64_toInt, Int64.toInt_zero, eq_self, not_true_eq_false, not_false_eq_true] at c24 c38 c68 <;> omega) | omega
            · skip
              refine x_iload dX8_goesRound_71 rfl ?_
              refine x_iload dX8_goesRound_73 rfl ?_
              refine x_callS2 lk_X8_109 (m_has _ _) ho dX8_goesRound_75 (Nat.le_of_ble_eq_true rfl) (by omega) (by decide) (by omega) (by omega) ?_
              refine x_ifb_ne (tgt := 84) dX8_goesRound_78 (by decide) (fun c78 => ?_) (fun c78 => ?_)
              · try (exfalso; first | (exact absurd (hfull q (by omega) c78) (by decide)) | (simp (disch := omega) [inS_ix, inS_N, ixL_N, ix_nI, hn] at c78 <;> omega) | (simp (disch := omega) only [h0, h1, h3, Int32.le_iff_toInt_le, Int32.lt_iff_toInt_lt, ← Int32.toInt_inj, nI_toInt, Int32.toInt_zero, m1_toInt, Int64.le_iff_toInt_le, Int64.lt_iff_toInt_lt, ← Int64.toInt_inj, pk_lT, i64_toInt, Int64.toInt_zero, eq_self, not_true_eq_false, not_false_eq_true] at c24 c38 c68 c78 <;> omega) | omega)
                all_goals
                  skip
                  exact absurd (hfull q (by omega) c78) (by decide)
              · try (exfalso; first | (exact absurd (hfull q (by omega) c78) (by decide)) | (simp (disch := omega) [inS_ix, inS_N, ixL_N, ix_nI, hn] at c78 <;> omega) | (simp (disch := omega) only [h0, h1, h3, Int32.le_iff_toInt_le, Int32.lt_iff_toInt_lt, ← Int32.toInt_inj, nI_toInt, Int32.toInt_zero, m1_toInt, Int64.le_iff_toInt_le, Int64.lt_iff_toInt_lt, ← Int64.toInt_inj, pk_lT, i64_toInt, Int64.toInt_zero, eq_self, not_true_eq_false, not_false_eq_true] at c24 c38 c68 c78 <;> omega) | omega)
                all_goals
                  skip
                  refine x_goto (tgt := 106) dX8_goesRound_81 (by decide) ?_
                  refine x_inc5 hL (by decide) rfl dX8_goesRound_106 (nI_1 _) ?_
                  refine x_goto (tgt := 64) dX8_goesRound_109 (by decide) ?_
                  refine x_eq ?_ ?_ ?_ (ihq)
                  · first | rfl | (simp [c24, c38, c68, c78]; done)
                  · rfl
                  · rfl
        · exfalso; first | (have := (nI_leI (by omega) (by omega)).mp c38; omega) | (exact c38 (nI_le (by omega) (by omega))) | (simp (disch := omega) [inS_ix, inS_N, ixL_N, ix_nI, hn] at c38 <;> omega) | (simp (disch := omega) only [h0, h1, h3, Int32.le_iff_toInt_le, Int32.lt_iff_toInt_lt, ← Int32.toInt_inj, nI_toInt, Int32.toInt_zero, m1_toInt, Int64.le_iff_toInt_le, Int64.lt_iff_toInt_lt, ← Int64.toInt_inj, pk_lT, i64_toInt, Int64.toInt_zero, eq_self, not_true_eq_false, not_false_eq_true] at c24 c38 <;> omega) | omega
      · skip
        refine x_iload dX8_goesRound_35 rfl ?_
        refine x_iload_n dX8_goesRound_37 rfl ?_
        refine x_icmp_ge (tgt := 61) dX8_goesRound_38 (by decide) (fun c38 => ?_) (fun c38 => ?_)
        · exfalso; first | (have := (nI_leI (by omega) (by omega)).mp c38; omega) | (exact c38 (nI_le (by omega) (by omega))) | (simp (disch := omega) [inS_ix, inS_N, ixL_N, ix_nI, hn] at c38 <;> omega) | (simp (disch := omega) only [h0, h1, h3, Int32.le_iff_toInt_le, Int32.lt_iff_toInt_lt, ← Int32.toInt_inj, nI_toInt, Int32.toInt_zero, m1_toInt, Int64.le_iff_toInt_le, Int64.lt_iff_toInt_lt, ← Int64.toInt_inj, pk_lT, i64_toInt, Int64.toInt_zero, eq_self, not_true_eq_false, not_false_eq_true] at c24 c38 <;> omega) | omega
        · skip
          refine x_aload_n dX8_goesRound_41 rfl ?_
          refine x_getf gf_X8_50 ho dX8_goesRound_42 rfl rfl ?_
          refine x_iload dX8_goesRound_45 rfl ?_
          refine x_aload_n dX8_goesRound_47 rfl ?_
          refine x_getf gf_X8_47 ho dX8_goesRound_48 rfl rfl ?_
          refine x_iload dX8_goesRound_51 rfl ?_
          refine x_iald dX8_goesRound_53 rfl (by first | rfl | exact nI_add _ _ | (simp only [nI_add, pk_mul]; rfl)) (by omega) (by decide) ?_
          refine x_ival (y := s.2.2 i) rfl ?_
          refine m_iast (r := 10) dX8_goesRound_54 (by decide) (by decide) (fun _ => rfl) (by first | rfl | exact nI_add _ _ | (simp only [nI_add, pk_mul]; rfl)) (by omega) (by decide) ?_
          refine x_inc5 hL (by decide) rfl dX8_goesRound_55 (nI_1 _) ?_
          refine x_goto (tgt := 35) dX8_goesRound_58 (by decide) ?_
          refine x_eq ?_ ?_ ?_ (ihi)
          · first | rfl | (simp [c24, c38]; done)
          · rfl
          · rw [grM_10]; exact congrArg (fun g => hM (grM M (n, g, s.2.2)) R) (layI_0 rfl)
  · rename_i f ih
    obtain ⟨p, hp7, ep⟩ := hrow
    have hand : ∀ q, q < 7 → hs (nxS (M.2.2.1 5) pm t p &&& (se ^^^ (-1))) (nI q) = (hs (nxS (M.2.2.1 5) pm t p) (nI q) && !hs se (nI q)) := fun q hq => by rw [hs_and (by omega), hs_not (by omega)]
    have hz2 : ∀ q, q < 7 → hs (nxS (M.2.2.1 5) pm t p &&& (se ^^^ (-1))) (nI q) = true → szF (se ||| bi q) 7 = n + 1 := fun q hq e => by
      rw [hand q hq] at e
      have e2 : hs se (nI q) = false := by have := (Bool.and_eq_true_iff.mp e).2; revert this; cases hs se (nI q) <;> simp
      rw [szF_add e2 (by omega) 7 (by omega), hsz, if_pos hq]
    have hb2 : ∀ q, q < 7 → (itN (fun q (X : gst) => if hs (nxS (M.2.2.1 5) pm t p &&& (se ^^^ (-1))) (nI q) = true then goR (M.2.2.1 5) pm t f (n + 1) (se ||| bi q) (X.1, X.2.1, upd X.2.2 n (nI q)) else X) q (goU n s)).1 ≤ 7 := fun q _ => itN_inv (fun _ (X : gst) => X.1 ≤ 7) (goU_bl hbl (by omega)) q (fun q X hq hX => by
      split
      · exact goR_bl (by omega) hX
      · exact hX)
    refine CT.of (ini := false) (by decide +kernel) q2062 q164 (Nat.le_of_ble_eq_true rfl) (by decide) ?_
    intro Γ hw ho hL hr hh hini hal hd hmc hms hQ
    subst hw
    show AW Γ cX8_goesRound 0 0 0 [some (.ref 32), some (.int (nI t)), some (.int (nI n)), some (.int se), none, none] [] (hM (grM M s) R)
    refine x_aload_n dX8_goesRound_0 rfl ?_
    refine x_iload_n dX8_goesRound_1 rfl ?_
    refine x_aload_n dX8_goesRound_2 rfl ?_
    refine x_getf gf_X8_47 ho dX8_goesRound_3 rfl rfl ?_
    refine x_iload_n dX8_goesRound_6 rfl ?_
    refine x_iconst (v := nI 1) rfl dX8_goesRound_7 ?_
    refine x_isubN (by omega) dX8_goesRound_8 ?_
    refine x_iald dX8_goesRound_9 rfl (by first | rfl | exact nI_add _ _ | (simp only [nI_add, pk_mul]; rfl)) (by omega) (by decide) ?_
    refine x_ival (y := nI p) ((congrFun (upA_s (f := upA M.2.2.1 10 s.2.1) (r := 9) (x := s.2.2)) _).trans ep) ?_
    refine x_callV2 lk_X8_357 (m_nextOf (M := grM M s) hF _ _ (by omega) (by omega)) ho dX8_goesRound_10 rfl (Nat.le_of_ble_eq_true rfl) (by omega) (by decide) (by omega) (by omega) ?_
    refine x_ival (y := nxS (M.2.2.1 5) pm t p) rfl ?_
    refine x_iload_n dX8_goesRound_13 rfl ?_
    refine x_iconst (v := (-1)) rfl dX8_goesRound_14 ?_
    refine x_ixor dX8_goesRound_15 ?_
    refine x_iand dX8_goesRound_16 ?_
    refine x_ist4 hL (by decide) rfl dX8_goesRound_17 ?_
    refine x_iload_n dX8_goesRound_19 rfl ?_
    refine x_aload_n dX8_goesRound_20 rfl ?_
    refine x_getf gf_X8_383 ho dX8_goesRound_21 rfl rfl ?_
    refine x_ival (y := nI s.1) rfl ?_
    refine x_icmp_le (tgt := 61) dX8_goesRound_24 (by decide) (fun c24 => ?_) (fun c24 => ?_)
    · skip
      skip
      refine x_eq (h' := hM (grM M (goU n s)) R) rfl rfl (by rw [goU, if_neg (show ¬ s.1 < n by have := (nI_leI (by omega) (by omega)).mp c24; omega)]) ?_
      refine x_iconst (v := nI 0) rfl dX8_goesRound_61 ?_
      refine x_ist5 hL (by decide) rfl dX8_goesRound_62 ?_
      refine x_for (n := 7) (fun q => [some (.ref 32), some (.int (nI t)), some (.int (nI n)), some (.int se), some (.int (nxS (M.2.2.1 5) pm t p &&& (se ^^^ (-1)))), some (.int (nI q))]) (fun q => []) (fun q => hM (grM M (itN (fun q (X : gst) => if hs (nxS (M.2.2.1 5) pm t p &&& (se ^^^ (-1))) (nI q) = true then goR (M.2.2.1 5) pm t f (n + 1) (se ||| bi q) (X.1, X.2.1, upd X.2.2 n (nI q)) else X) q (goU n s))) R) ?_ (fun q hq ihq => ?_)
      · skip
        refine x_iload dX8_goesRound_64 rfl ?_
        refine x_bipush (v := nI 7) rfl dX8_goesRound_66 ?_
        refine x_icmp_ge (tgt := 112) dX8_goesRound_68 (by decide) (fun c68 => ?_) (fun c68 => ?_)
        · skip
          refine x_vret hr dX8_goesRound_112 (by omega) (by omega) (hQ _ _ ?_)
          try dsimp only [mI, mSA] at c24 c68
          exact ⟨rfl, by rw [goR, ep, cl_nI (by omega)]⟩
        · exfalso; first | (have := (nI_leI (by omega) (by omega)).mp c68; omega) | (exact c68 (nI_le (by omega) (by omega))) | (simp (disch := omega) [inS_ix, inS_N, ixL_N, ix_nI, hn] at c68 <;> omega) | (simp (disch := omega) only [h0, h1, h3, Int32.le_iff_toInt_le, Int32.lt_iff_toInt_lt, ← Int32.toInt_inj, nI_toInt, Int32.toInt_zero, m1_toInt, Int64.le_iff_toInt_le, Int64.lt_iff_toInt_lt, ← Int64.toInt_inj, pk_lT, i64_toInt, Int64.toInt_zero, eq_self, not_true_eq_false, not_false_eq_true] at c24 c68 <;> omega) | omega
      · skip
        refine x_iload dX8_goesRound_64 rfl ?_
        refine x_bipush (v := nI 7) rfl dX8_goesRound_66 ?_
        refine x_icmp_ge (tgt := 112) dX8_goesRound_68 (by decide) (fun c68 => ?_) (fun c68 => ?_)
        · exfalso; first | (have := (nI_leI (by omega) (by omega)).mp c68; omega) | (exact c68 (nI_le (by omega) (by omega))) | (simp (disch := omega) [inS_ix, inS_N, ixL_N, ix_nI, hn] at c68 <;> omega) | (simp (disch := omega) only [h0, h1, h3, Int32.le_iff_toInt_le, Int32.lt_iff_toInt_lt, ← Int32.toInt_inj, nI_toInt, Int32.toInt_zero, m1_toInt, Int64.le_iff_toInt_le, Int64.lt_iff_toInt_lt, ← Int64.toInt_inj, pk_lT, i64_toInt, Int64.toInt_zero, eq_self, not_true_eq_false, not_false_eq_true] at c24 c68 <;> omega) | omega
        · skip
          refine x_iload dX8_goesRound_71 rfl ?_
          refine x_iload dX8_goesRound_73 rfl ?_
          refine x_callS2 lk_X8_109 (m_has _ _) ho dX8_goesRound_75 (Nat.le_of_ble_eq_true rfl) (by omega) (by decide) (by omega) (by omega) ?_
          refine x_ifb_ne (tgt := 84) dX8_goesRound_78 (by decide) (fun c78 => ?_) (fun c78 => ?_)
          · try (exfalso; first | (simp (disch := omega) [inS_ix, inS_N, ixL_N, ix_nI, hn] at c78 <;> omega) | (simp (disch := omega) only [h0, h1, h3, Int32.le_iff_toInt_le, Int32.lt_iff_toInt_lt, ← Int32.toInt_inj, nI_toInt, Int32.toInt_zero, m1_toInt, Int64.le_iff_toInt_le, Int64.lt_iff_toInt_lt, ← Int64.toInt_inj, pk_lT, i64_toInt, Int64.toInt_zero, eq_self, not_true_eq_false, not_false_eq_true] at c24 c68 c78 <;> omega) | omega)
            all_goals
              skip
              refine x_aload_n dX8_goesRound_84 rfl ?_
              refine x_getf gf_X8_47 ho dX8_goesRound_85 rfl rfl ?_
              refine x_iload_n dX8_goesRound_88 rfl ?_
              refine x_iload dX8_goesRound_89 rfl ?_
              refine m_iast (r := 9) dX8_goesRound_91 (by decide) (by decide) (fun _ => rfl) (by first | rfl | exact nI_add _ _ | (simp only [nI_add, pk_mul]; rfl)) (by omega) (by decide) ?_
              refine x_eq (h' := hM (grM M ((itN (fun q (X : gst) => if hs (nxS (M.2.2.1 5) pm t p &&& (se ^^^ (-1))) (nI q) = true then goR (M.2.2.1 5) pm t f (n + 1) (se ||| bi q) (X.1, X.2.1, upd X.2.2 n (nI q)) else X) q (goU n s)).1, (itN (fun q (X : gst) => if hs (nxS (M.2.2.1 5) pm t p &&& (se ^^^ (-1))) (nI q) = true then goR (M.2.2.1 5) pm t f (n + 1) (se ||| bi q) (X.1, X.2.1, upd X.2.2 n (nI q)) else X) q (goU n s)).2.1, upd (itN (fun q (X : gst) => if hs (nxS (M.2.2.1 5) pm t p &&& (se ^^^ (-1))) (nI q) = true then goR (M.2.2.1 5) pm t f (n + 1) (se ||| bi q) (X.1, X.2.1, upd X.2.2 n (nI q)) else X) q (goU n s)).2.2 n (nI q))) R) rfl rfl (by rw [grM_9]) ?_
              refine x_aload_n dX8_goesRound_92 rfl ?_
              refine x_iload_n dX8_goesRound_93 rfl ?_
              refine x_iload_n dX8_goesRound_94 rfl ?_
              refine x_iconst (v := nI 1) rfl dX8_goesRound_95 ?_
              refine x_iaddN dX8_goesRound_96 ?_
              refine x_iload_n dX8_goesRound_97 rfl ?_
              refine x_iconst (v := nI 1) rfl dX8_goesRound_98 ?_
              refine x_iload dX8_goesRound_99 rfl ?_
              refine x_ishl dX8_goesRound_101 ?_
              refine x_ior dX8_goesRound_102 ?_
              refine x_callV3 lk_X8_386 (ih (n + 1) (se ||| bi q) ((itN (fun q (X : gst) => if hs (nxS (M.2.2.1 5) pm t p &&& (se ^^^ (-1))) (nI q) = true then goR (M.2.2.1 5) pm t f (n + 1) (se ||| bi q) (X.1, X.2.1, upd X.2.2 n (nI q)) else X) q (goU n s)).1, (itN (fun q (X : gst) => if hs (nxS (M.2.2.1 5) pm t p &&& (se ^^^ (-1))) (nI q) = true then goR (M.2.2.1 5) pm t f (n + 1) (se ||| bi q) (X.1, X.2.1, upd X.2.2 n (nI q)) else X) q (goU n s)).2.1, upd (itN (fun q (X : gst) => if hs (nxS (M.2.2.1 5) pm t p &&& (se ^^^ (-1))) (nI q) = true then goR (M.2.2.1 5) pm t f (n + 1) (se ||| bi q) (X.1, X.2.1, upd X.2.2 n (nI q)) else X) q (goU n s)).2.2 n (nI q)) (by omega) (by omega) (hz2 q (by omega) c78) ⟨q, by omega, upd_s⟩ (hb2 q (by omega))) ho dX8_goesRound_103 rfl (Nat.le_of_ble_eq_true rfl) (by omega) (by decide) (by omega) (by omega) ?_
              refine x_inc5 hL (by decide) rfl dX8_goesRound_106 (nI_1 _) ?_
              refine x_goto (tgt := 64) dX8_goesRound_109 (by decide) ?_
              refine x_eq ?_ ?_ ?_ (ihq)
              · first | rfl | (simp [c24, c68, c78]; done)
              · rfl
              · first | (simp [itN, c78]; done) | (rw [itN, if_neg (by rw [c78]; decide)]; done) | (rw [itN, if_pos c78]; done)
          · try (exfalso; first | (simp (disch := omega) [inS_ix, inS_N, ixL_N, ix_nI, hn] at c78 <;> omega) | (simp (disch := omega) only [h0, h1, h3, Int32.le_iff_toInt_le, Int32.lt_iff_toInt_lt, ← Int32.toInt_inj, nI_toInt, Int32.toInt_zero, m1_toInt, Int64.le_iff_toInt_le, Int64.lt_iff_toInt_lt, ← Int64.toInt_inj, pk_lT, i64_toInt, Int64.toInt_zero, eq_self, not_true_eq_false, not_false_eq_true] at c24 c68 c78 <;> omega) | omega)
            all_goals
              skip
              refine x_goto (tgt := 106) dX8_goesRound_81 (by decide) ?_
              refine x_inc5 hL (by decide) rfl dX8_goesRound_106 (nI_1 _) ?_
              refine x_goto (tgt := 64) dX8_goesRound_109 (by decide) ?_
              refine x_eq ?_ ?_ ?_ (ihq)
              · first | rfl | (simp [c24, c68, c78]; done)
              · rfl
              · first | (simp [itN, c78]; done) | (rw [itN, if_neg (by rw [c78]; decide)]; done) | (rw [itN, if_pos c78]; done)
    · skip
      skip
      have hlt : s.1 < n := Nat.lt_of_not_le fun q => c24 (nI_le q (by omega))
      refine x_aload_n dX8_goesRound_27 rfl ?_
      refine x_iload_n dX8_goesRound_28 rfl ?_
      refine m_puti (k := 29) (pf_X8_383 (ini := false)) ho hini dX8_goesRound_29 rfl rfl (by decide) (ms_29 _ _) ?_
      refine x_iconst (v := nI 0) rfl dX8_goesRound_32 ?_
      refine x_ist5 hL (by decide) rfl dX8_goesRound_33 ?_
      refine x_eq (h' := hM (grM M (n, lay s.2.1 0 0 s.2.2, s.2.2)) R) rfl rfl (by rw [grM_29, lay_0]) ?_
      refine x_for (n := n) (fun i => [some (.ref 32), some (.int (nI t)), some (.int (nI n)), some (.int se), some (.int (nxS (M.2.2.1 5) pm t p &&& (se ^^^ (-1)))), some (.int (nI i))]) (fun i => []) (fun i => hM (grM M (n, lay s.2.1 0 i s.2.2, s.2.2)) R) ?_ (fun i hi ihi => ?_)
      · skip
        refine x_iload dX8_goesRound_35 rfl ?_
        refine x_iload_n dX8_goesRound_37 rfl ?_
        refine x_icmp_ge (tgt := 61) dX8_goesRound_38 (by decide) (fun c38 => ?_) (fun c38 => ?_)
        · skip
          refine x_eq (h' := hM (grM M (goU n s)) R) rfl rfl (by rw [goU, if_pos hlt]) ?_
          refine x_iconst (v := nI 0) rfl dX8_goesRound_61 ?_
          refine x_ist5 hL (by decide) rfl dX8_goesRound_62 ?_
          refine x_for (n := 7) (fun q => [some (.ref 32), some (.int (nI t)), some (.int (nI n)), some (.int se), some (.int (nxS (M.2.2.1 5) pm t p &&& (se ^^^ (-1)))), some (.int (nI q))]) (fun q => []) (fun q => hM (grM M (itN (fun q (X : gst) => if hs (nxS (M.2.2.1 5) pm t p &&& (se ^^^ (-1))) (nI q) = true then goR (M.2.2.1 5) pm t f (n + 1) (se ||| bi q) (X.1, X.2.1, upd X.2.2 n (nI q)) else X) q (goU n s))) R) ?_ (fun q hq ihq => ?_)
          · skip
            refine x_iload dX8_goesRound_64 rfl ?_
            refine x_bipush (v := nI 7) rfl dX8_goesRound_66 ?_
            refine x_icmp_ge (tgt := 112) dX8_goesRound_68 (by decide) (fun c68 => ?_) (fun c68 => ?_)
            · skip
              refine x_vret hr dX8_goesRound_112 (by omega) (by omega) (hQ _ _ ?_)
              try dsimp only [mI, mSA] at c24 c38 c68
              exact ⟨rfl, by rw [goR, ep, cl_nI (by omega)]⟩
            · exfalso; first | (have := (nI_leI (by omega) (by omega)).mp c68; omega) | (exact c68 (nI_le (by omega) (by omega))) | (simp (disch := omega) [inS_ix, inS_N, ixL_N, ix_nI, hn] at c68 <;> omega) | (simp (disch := omega) only [h0, h1, h3, Int32.le_iff_toInt_le, Int32.lt_iff_toInt_lt, ← Int32.toInt_inj, nI_toInt, Int32.toInt_zero, m1_toInt, Int64.le_iff_toInt_le, Int64.lt_iff_toInt_lt, ← Int64.toInt_inj, pk_lT, i64_toInt, Int64.toInt_zero, eq_self, not_true_eq_false, not_false_eq_true] at c24 c38 c68 <;> omega) | omega
          · skip
            refine x_iload dX8_goesRound_64 rfl ?_
            refine x_bipush (v := nI 7) rfl dX8_goesRound_66 ?_
            refine x_icmp_ge (tgt := 112) dX8_goesRound_68 (by decide) (fun c68 => ?_) (fun c68 => ?_)
            · exfalso; first | (have := (nI_leI (by omega) (by omega)).mp c68; omega) | (exact c68 (nI_le (by omega) (by omega))) | (simp (disch := omega) [inS_ix, inS_N, ixL_N, ix_nI, hn] at c68 <;> omega) | (simp (disch := omega) only [h0, h1, h3, Int32.le_iff_toInt_le, Int32.lt_iff_toInt_lt, ← Int32.toInt_inj, nI_toInt, Int32.toInt_zero, m1_toInt, Int64.le_iff_toInt_le, Int64.lt_iff_toInt_lt, ← Int64.toInt_inj, pk_lT, i64_toInt, Int64.toInt_zero, eq_self, not_true_eq_false, not_false_eq_true] at c24 c38 c68 <;> omega) | omega
            · skip
              refine x_iload dX8_goesRound_71 rfl ?_
              refine x_iload dX8_goesRound_73 rfl ?_
              refine x_callS2 lk_X8_109 (m_has _ _) ho dX8_goesRound_75 (Nat.le_of_ble_eq_true rfl) (by omega) (by decide) (by omega) (by omega) ?_
              refine x_ifb_ne (tgt := 84) dX8_goesRound_78 (by decide) (fun c78 => ?_) (fun c78 => ?_)
              · try (exfalso; first | (simp (disch := omega) [inS_ix, inS_N, ixL_N, ix_nI, hn] at c78 <;> omega) | (simp (disch := omega) only [h0, h1, h3, Int32.le_iff_toInt_le, Int32.lt_iff_toInt_lt, ← Int32.toInt_inj, nI_toInt, Int32.toInt_zero, m1_toInt, Int64.le_iff_toInt_le, Int64.lt_iff_toInt_lt, ← Int64.toInt_inj, pk_lT, i64_toInt, Int64.toInt_zero, eq_self, not_true_eq_false, not_false_eq_true] at c24 c38 c68 c78 <;> omega) | omega)
                all_goals
                  skip
                  refine x_aload_n dX8_goesRound_84 rfl ?_
                  refine x_getf gf_X8_47 ho dX8_goesRound_85 rfl rfl ?_
                  refine x_iload_n dX8_goesRound_88 rfl ?_
                  refine x_iload dX8_goesRound_89 rfl ?_
                  refine m_iast (r := 9) dX8_goesRound_91 (by decide) (by decide) (fun _ => rfl) (by first | rfl | exact nI_add _ _ | (simp only [nI_add, pk_mul]; rfl)) (by omega) (by decide) ?_
                  refine x_eq (h' := hM (grM M ((itN (fun q (X : gst) => if hs (nxS (M.2.2.1 5) pm t p &&& (se ^^^ (-1))) (nI q) = true then goR (M.2.2.1 5) pm t f (n + 1) (se ||| bi q) (X.1, X.2.1, upd X.2.2 n (nI q)) else X) q (goU n s)).1, (itN (fun q (X : gst) => if hs (nxS (M.2.2.1 5) pm t p &&& (se ^^^ (-1))) (nI q) = true then goR (M.2.2.1 5) pm t f (n + 1) (se ||| bi q) (X.1, X.2.1, upd X.2.2 n (nI q)) else X) q (goU n s)).2.1, upd (itN (fun q (X : gst) => if hs (nxS (M.2.2.1 5) pm t p &&& (se ^^^ (-1))) (nI q) = true then goR (M.2.2.1 5) pm t f (n + 1) (se ||| bi q) (X.1, X.2.1, upd X.2.2 n (nI q)) else X) q (goU n s)).2.2 n (nI q))) R) rfl rfl (by rw [grM_9]) ?_
                  refine x_aload_n dX8_goesRound_92 rfl ?_
                  refine x_iload_n dX8_goesRound_93 rfl ?_
                  refine x_iload_n dX8_goesRound_94 rfl ?_
                  refine x_iconst (v := nI 1) rfl dX8_goesRound_95 ?_
                  refine x_iaddN dX8_goesRound_96 ?_
                  refine x_iload_n dX8_goesRound_97 rfl ?_
                  refine x_iconst (v := nI 1) rfl dX8_goesRound_98 ?_
                  refine x_iload dX8_goesRound_99 rfl ?_
                  refine x_ishl dX8_goesRound_101 ?_
                  refine x_ior dX8_goesRound_102 ?_
                  refine x_callV3 lk_X8_386 (ih (n + 1) (se ||| bi q) ((itN (fun q (X : gst) => if hs (nxS (M.2.2.1 5) pm t p &&& (se ^^^ (-1))) (nI q) = true then goR (M.2.2.1 5) pm t f (n + 1) (se ||| bi q) (X.1, X.2.1, upd X.2.2 n (nI q)) else X) q (goU n s)).1, (itN (fun q (X : gst) => if hs (nxS (M.2.2.1 5) pm t p &&& (se ^^^ (-1))) (nI q) = true then goR (M.2.2.1 5) pm t f (n + 1) (se ||| bi q) (X.1, X.2.1, upd X.2.2 n (nI q)) else X) q (goU n s)).2.1, upd (itN (fun q (X : gst) => if hs (nxS (M.2.2.1 5) pm t p &&& (se ^^^ (-1))) (nI q) = true then goR (M.2.2.1 5) pm t f (n + 1) (se ||| bi q) (X.1, X.2.1, upd X.2.2 n (nI q)) else X) q (goU n s)).2.2 n (nI q)) (by omega) (by omega) (hz2 q (by omega) c78) ⟨q, by omega, upd_s⟩ (hb2 q (by omega))) ho dX8_goesRound_103 rfl (Nat.le_of_ble_eq_true rfl) (by omega) (by decide) (by omega) (by omega) ?_
                  refine x_inc5 hL (by decide) rfl dX8_goesRound_106 (nI_1 _) ?_
                  refine x_goto (tgt := 64) dX8_goesRound_109 (by decide) ?_
                  refine x_eq ?_ ?_ ?_ (ihq)
                  · first | rfl | (simp [c24, c38, c68, c78]; done)
                  · rfl
                  · first | (simp [itN, c78]; done) | (rw [itN, if_neg (by rw [c78]; decide)]; done) | (rw [itN, if_pos c78]; done)
              · try (exfalso; first | (simp (disch := omega) [inS_ix, inS_N, ixL_N, ix_nI, hn] at c78 <;> omega) | (simp (disch := omega) only [h0, h1, h3, Int32.le_iff_toInt_le, Int32.lt_iff_toInt_lt, ← Int32.toInt_inj, nI_toInt, Int32.toInt_zero, m1_toInt, Int64.le_iff_toInt_le, Int64.lt_iff_toInt_lt, ← Int64.toInt_inj, pk_lT, i64_toInt, Int64.toInt_zero, eq_self, not_true_eq_false, not_false_eq_true] at c24 c38 c68 c78 <;> omega) | omega)
                all_goals
                  skip
                  refine x_goto (tgt := 106) dX8_goesRound_81 (by decide) ?_
                  refine x_inc5 hL (by decide) rfl dX8_goesRound_106 (nI_1 _) ?_
                  refine x_goto (tgt := 64) dX8_goesRound_109 (by decide) ?_
                  refine x_eq ?_ ?_ ?_ (ihq)
                  · first | rfl | (simp [c24, c38, c68, c78]; done)
                  · rfl
                  · first | (simp [itN, c78]; done) | (rw [itN, if_neg (by rw [c78]; decide)]; done) | (rw [itN, if_pos c78]; done)
        · exfalso; first | (have := (nI_leI (by omega) (by omega)).mp c38; omega) | (exact c38 (nI_le (by omega) (by omega))) | (simp (disch := omega) [inS_ix, inS_N, ixL_N, ix_nI, hn] at c38 <;> omega) | (simp (disch := omega) only [h0, h1, h3, Int32.le_iff_toInt_le, Int32.lt_iff_toInt_lt, ← Int32.toInt_inj, nI_toInt, Int32.toInt_zero, m1_toInt, Int64.le_iff_toInt_le, Int64.lt_iff_toInt_lt, ← Int64.toInt_inj, pk_lT, i64_toInt, Int64.toInt_zero, eq_self, not_true_eq_false, not_false_eq_true] at c24 c38 <;> omega) | omega
      · skip
        refine x_iload dX8_goesRound_35 rfl ?_
        refine x_iload_n dX8_goesRound_37 rfl ?_
        refine x_icmp_ge (tgt := 61) dX8_goesRound_38 (by decide) (fun c38 => ?_) (fun c38 => ?_)
        · exfalso; first | (have := (nI_leI (by omega) (by omega)).mp c38; omega) | (exact c38 (nI_le (by omega) (by omega))) | (simp (disch := omega) [inS_ix, inS_N, ixL_N, ix_nI, hn] at c38 <;> omega) | (simp (disch := omega) only [h0, h1, h3, Int32.le_iff_toInt_le, Int32.lt_iff_toInt_lt, ← Int32.toInt_inj, nI_toInt, Int32.toInt_zero, m1_toInt, Int64.le_iff_toInt_le, Int64.lt_iff_toInt_lt, ← Int64.toInt_inj, pk_lT, i64_toInt, Int64.toInt_zero, eq_self, not_true_eq_false, not_false_eq_true] at c24 c38 <;> omega) | omega
        · skip
          refine x_aload_n dX8_goesRound_41 rfl ?_
          refine x_getf gf_X8_50 ho dX8_goesRound_42 rfl rfl ?_
          refine x_iload dX8_goesRound_45 rfl ?_
          refine x_aload_n dX8_goesRound_47 rfl ?_
          refine x_getf gf_X8_47 ho dX8_goesRound_48 rfl rfl ?_
          refine x_iload dX8_goesRound_51 rfl ?_
          refine x_iald dX8_goesRound_53 rfl (by first | rfl | exact nI_add _ _ | (simp only [nI_add, pk_mul]; rfl)) (by omega) (by decide) ?_
          refine x_ival (y := s.2.2 i) rfl ?_
          refine m_iast (r := 10) dX8_goesRound_54 (by decide) (by decide) (fun _ => rfl) (by first | rfl | exact nI_add _ _ | (simp only [nI_add, pk_mul]; rfl)) (by omega) (by decide) ?_
          refine x_inc5 hL (by decide) rfl dX8_goesRound_55 (nI_1 _) ?_
          refine x_goto (tgt := 35) dX8_goesRound_58 (by decide) ?_
          refine x_eq ?_ ?_ ?_ (ihi)
          · first | rfl | (simp [c24, c38]; done)
          · rfl
          · rw [grM_10]; exact congrArg (fun g => hM (grM M (n, g, s.2.2)) R) (layI_0 rfl)
