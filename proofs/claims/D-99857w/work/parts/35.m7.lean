/-! ===== the model: fractions, pour, rounds ===== -/
set_option maxRecDepth 100000
set_option maxHeartbeats 800000 in
theorem m_fraction {w : xW} {M : mS} {R : xH} (t b : Nat) (ht : t < 2 ^ 63) (hb : b < 2 ^ 63) (h0 : 0 < b) : CT w yX8_fraction cX8_fraction 11 (some (.boolean)) [] false (1) 0 0 [.ref 32, .long (lN t), .long (lN b)] (hM M R) (xret (some (.int (nI 1))) (hM (frM M t b) R)) := by
  refine CT.of (ini := false) (by decide +kernel) q2184 q164 (Nat.le_of_ble_eq_true rfl) (by decide) ?_
  intro Γ hw ho hL hr hh hini hal hd hmc hms hQ
  subst hw
  show AW Γ cX8_fraction 0 0 0 [some (.ref 32), some (.long (lN t)), none, some (.long (lN b)), none, none, none, none, none, none, none] [] (hM M R)
  refine x_lload_n dX8_fraction_0 rfl ?_
  refine x_mabsL ho q2185 q2186 q171 q2187 (Nat.le_of_ble_eq_true rfl) (by omega) (by omega) (by omega) dX8_fraction_1 ?_
  refine x_lval (absN ht) ?_
  refine x_lst5 hL (by decide) rfl dX8_fraction_4 ?_
  refine x_lload_n dX8_fraction_6 rfl ?_
  refine x_lst7 hL (by decide) rfl dX8_fraction_7 ?_
  refine x_wh (σ := Nat × Nat) (fun s => [some (.ref 32), some (.long (lN t)), none, some (.long (lN b)), none, some (.long (lN s.1)), none, some (.long (lN s.2)), none, none, none]) (fun s => []) (fun s => hM M R) (fun s => Nat.gcd s.1 s.2 = Nat.gcd t b ∧ s.1 < 2 ^ 63 ∧ s.2 < 2 ^ 63) (fun s => s.2) (t, b) ⟨rfl, ht, hb⟩ (fun s hPs ihs => ?_)
  obtain ⟨hg, hs1, hs2⟩ := hPs
  have hPs : Nat.gcd s.1 s.2 = Nat.gcd t b ∧ s.1 < 2 ^ 63 ∧ s.2 < 2 ^ 63 := ⟨hg, hs1, hs2⟩
  refine x_lload dX8_fraction_9 rfl ?_
  refine x_lconst (v := lN 0) rfl dX8_fraction_11 ?_
  refine x_lcmp_eq (tgt := 34) dX8_fraction_12 dX8_fraction_13 (by decide) (fun c12 => ?_) (fun c12 => ?_)
  · skip
    skip
    have c12 : s.2 = 0 := (lN_eqI hs2 (by decide)).mp c12
    have hx : s.1 = Nat.gcd t b := by rw [← hg, c12, Nat.gcd_zero_right]
    have hp : 0 < Nat.gcd t b := Nat.gcd_pos_of_pos_right _ h0
    refine x_aload_n dX8_fraction_34 rfl ?_
    refine x_lload_n dX8_fraction_35 rfl ?_
    refine x_lload dX8_fraction_36 rfl ?_
    refine x_ldivN (by omega) (by omega) (by omega) dX8_fraction_38 ?_
    refine m_putl (k := 2) (pf_X8_76 (ini := false)) ho hini dX8_fraction_39 (by decide) (ms_2 _ _) ?_
    refine x_aload_n dX8_fraction_42 rfl ?_
    refine x_lload_n dX8_fraction_43 rfl ?_
    refine x_lload dX8_fraction_44 rfl ?_
    refine x_ldivN (by omega) (by omega) (by omega) dX8_fraction_46 ?_
    refine m_putl (k := 3) (pf_X8_7 (ini := false)) ho hini dX8_fraction_47 (by decide) (ms_3 _ _) ?_
    refine x_iconst (v := nI 1) rfl dX8_fraction_50 ?_
    refine x_iret hr rfl dX8_fraction_51 (by omega) (by omega) (hQ _ _ ?_)
    exact ⟨rfl, by rw [hx]⟩
  · skip
    skip
    have hz : 0 < s.2 := Nat.pos_of_ne_zero fun q => c12 (by rw [q])
    refine x_lload dX8_fraction_16 rfl ?_
    refine x_lload dX8_fraction_18 rfl ?_
    refine x_lremN (by omega) (by omega) (by omega) dX8_fraction_20 ?_
    refine x_lst9 hL (by decide) rfl dX8_fraction_21 ?_
    refine x_lload dX8_fraction_23 rfl ?_
    refine x_lst5 hL (by decide) rfl dX8_fraction_25 ?_
    refine x_lload dX8_fraction_27 rfl ?_
    refine x_lst7 hL (by decide) rfl dX8_fraction_29 ?_
    refine x_goto (tgt := 9) dX8_fraction_31 (by decide) ?_
    refine x_drop (k := 9) ?_
    refine x_drop (k := 10) ?_
    refine x_eq ?_ ?_ ?_ (ihs (s.2, s.1 % s.2) ?_ ?_)
    · rfl
    · rfl
    · rfl
    · exact ⟨(gcd_step _ _).trans hPs.1, hPs.2.2, Nat.lt_of_le_of_lt (Nat.mod_le _ _) hPs.2.1⟩
    · exact Nat.mod_lt _ hz
set_option maxHeartbeats 800000 in
theorem m_pour {w : xW} {M : mS} {R : xH} (tr i9 to j9 n9 : Int32) (hT : wT (M.2.2.1 2)) : CT w yX8_pour cX8_pour 9 (some (.boolean)) [] false (1) 0 0 [.ref 32, .int tr, .int i9, .int to, .int j9, .int n9] (hM M R) (xret (some (.int (xb (decide (spPour (M.2.2.1 2) (M.2.2.1 1) tr i9 to j9 n9 = 0))))) (hM (pouM M tr i9 to j9 n9) R)) := by
  rcases ix_or tr (n := 4) (by omega) with ⟨hx, hx2⟩ | ⟨a, ha, rfl, hx⟩
  rotate_left 1
  rcases ix_or to (n := 4) (by omega) with ⟨hy, hy2⟩ | ⟨b, hb, rfl, hy⟩
  rotate_left 1
  · skip
    refine CT.of (ini := false) (by decide +kernel) q1679 q164 (Nat.le_of_ble_eq_true rfl) (by decide) ?_
    intro Γ hw ho hL hr hh hini hal hd hmc hms hQ
    subst hw
    show AW Γ cX8_pour 0 0 0 [some (.ref 32), some (.int (nI a)), some (.int i9), some (.int (nI b)), some (.int j9), some (.int n9), none, none, none] [] (hM M R)
    refine x_aload_n dX8_pour_0 rfl ?_
    refine x_iconst (v := nI 0) rfl dX8_pour_1 ?_
    refine m_puti (k := 1) (pf_X8_70 (ini := false)) ho hini dX8_pour_2 rfl rfl (by decide) (ms_1 _ _) ?_
    refine x_aload_n dX8_pour_5 rfl ?_
    refine x_iconst (v := nI 0) rfl dX8_pour_6 ?_
    refine m_puti (k := 0) (pf_X8_73 (ini := false)) ho hini dX8_pour_7 rfl rfl (by decide) (ms_0 _ _) ?_
    refine x_iload_n dX8_pour_10 rfl ?_
    refine x_if_lt (tgt := 28) dX8_pour_11 (by decide) (fun c11 => ?_) (fun c11 => ?_)
    · try (exfalso; first | (simp (disch := omega) [inS_ix, inS_N, ixL_N, ix_nI, ha, hb] at c11 <;> omega) | (simp (disch := omega) only [Int32.le_iff_toInt_le, Int32.lt_iff_toInt_lt, ← Int32.toInt_inj, nI_toInt, Int32.toInt_zero, m1_toInt, Int64.le_iff_toInt_le, Int64.lt_iff_toInt_lt, ← Int64.toInt_inj, pk_lT, i64_toInt, Int64.toInt_zero, eq_self, not_true_eq_false, not_false_eq_true] at c11 <;> omega) | omega)
      all_goals
        skip
        refine x_aload_n dX8_pour_28 rfl ?_
        refine x_iconst (v := nI 1) rfl dX8_pour_29 ?_
        refine x_callV1 lk_X8_85 (m_no _) ho dX8_pour_30 rfl (Nat.le_of_ble_eq_true rfl) (by omega) (by decide) (by omega) (by omega) ?_
        refine x_iret hr rfl dX8_pour_33 (by omega) (by omega) (hQ _ _ ?_)
        try dsimp only [mI, mSA] at c11
        exact ⟨by simp [spPour, hx, hy, c11, xb], by simp [pouM, spPour, hx, hy, c11, mI_mI]⟩
    · try (exfalso; first | (simp (disch := omega) [inS_ix, inS_N, ixL_N, ix_nI, ha, hb] at c11 <;> omega) | (simp (disch := omega) only [Int32.le_iff_toInt_le, Int32.lt_iff_toInt_lt, ← Int32.toInt_inj, nI_toInt, Int32.toInt_zero, m1_toInt, Int64.le_iff_toInt_le, Int64.lt_iff_toInt_lt, ← Int64.toInt_inj, pk_lT, i64_toInt, Int64.toInt_zero, eq_self, not_true_eq_false, not_false_eq_true] at c11 <;> omega) | omega)
      all_goals
        skip
        refine x_iload_n dX8_pour_14 rfl ?_
        refine x_iconst (v := nI 4) rfl dX8_pour_15 ?_
        refine x_icmp_ge (tgt := 28) dX8_pour_16 (by decide) (fun c16 => ?_) (fun c16 => ?_)
        · try (exfalso; first | (simp (disch := omega) [inS_ix, inS_N, ixL_N, ix_nI, ha, hb] at c16 <;> omega) | (simp (disch := omega) only [Int32.le_iff_toInt_le, Int32.lt_iff_toInt_lt, ← Int32.toInt_inj, nI_toInt, Int32.toInt_zero, m1_toInt, Int64.le_iff_toInt_le, Int64.lt_iff_toInt_lt, ← Int64.toInt_inj, pk_lT, i64_toInt, Int64.toInt_zero, eq_self, not_true_eq_false, not_false_eq_true] at c11 c16 <;> omega) | omega)
          all_goals
            skip
            refine x_aload_n dX8_pour_28 rfl ?_
            refine x_iconst (v := nI 1) rfl dX8_pour_29 ?_
            refine x_callV1 lk_X8_85 (m_no _) ho dX8_pour_30 rfl (Nat.le_of_ble_eq_true rfl) (by omega) (by decide) (by omega) (by omega) ?_
            refine x_iret hr rfl dX8_pour_33 (by omega) (by omega) (hQ _ _ ?_)
            try dsimp only [mI, mSA] at c11 c16
            exact ⟨by simp [spPour, hx, hy, c11, c16, xb], by simp [pouM, spPour, hx, hy, c11, c16, mI_mI]⟩
        · try (exfalso; first | (simp (disch := omega) [inS_ix, inS_N, ixL_N, ix_nI, ha, hb] at c16 <;> omega) | (simp (disch := omega) only [Int32.le_iff_toInt_le, Int32.lt_iff_toInt_lt, ← Int32.toInt_inj, nI_toInt, Int32.toInt_zero, m1_toInt, Int64.le_iff_toInt_le, Int64.lt_iff_toInt_lt, ← Int64.toInt_inj, pk_lT, i64_toInt, Int64.toInt_zero, eq_self, not_true_eq_false, not_false_eq_true] at c11 c16 <;> omega) | omega)
          all_goals
            skip
            refine x_iload_n dX8_pour_19 rfl ?_
            refine x_if_lt (tgt := 28) dX8_pour_20 (by decide) (fun c20 => ?_) (fun c20 => ?_)
            · try (exfalso; first | (simp (disch := omega) [inS_ix, inS_N, ixL_N, ix_nI, ha, hb] at c20 <;> omega) | (simp (disch := omega) only [Int32.le_iff_toInt_le, Int32.lt_iff_toInt_lt, ← Int32.toInt_inj, nI_toInt, Int32.toInt_zero, m1_toInt, Int64.le_iff_toInt_le, Int64.lt_iff_toInt_lt, ← Int64.toInt_inj, pk_lT, i64_toInt, Int64.toInt_zero, eq_self, not_true_eq_false, not_false_eq_true] at c11 c16 c20 <;> omega) | omega)
              all_goals
                skip
                refine x_aload_n dX8_pour_28 rfl ?_
                refine x_iconst (v := nI 1) rfl dX8_pour_29 ?_
                refine x_callV1 lk_X8_85 (m_no _) ho dX8_pour_30 rfl (Nat.le_of_ble_eq_true rfl) (by omega) (by decide) (by omega) (by omega) ?_
                refine x_iret hr rfl dX8_pour_33 (by omega) (by omega) (hQ _ _ ?_)
                try dsimp only [mI, mSA] at c11 c16 c20
                exact ⟨by simp [spPour, hx, hy, c11, c16, c20, xb], by simp [pouM, spPour, hx, hy, c11, c16, c20, mI_mI]⟩
            · try (exfalso; first | (simp (disch := omega) [inS_ix, inS_N, ixL_N, ix_nI, ha, hb] at c20 <;> omega) | (simp (disch := omega) only [Int32.le_iff_toInt_le, Int32.lt_iff_toInt_lt, ← Int32.toInt_inj, nI_toInt, Int32.toInt_zero, m1_toInt, Int64.le_iff_toInt_le, Int64.lt_iff_toInt_lt, ← Int64.toInt_inj, pk_lT, i64_toInt, Int64.toInt_zero, eq_self, not_true_eq_false, not_false_eq_true] at c11 c16 c20 <;> omega) | omega)
              all_goals
                skip
                refine x_iload_n dX8_pour_23 rfl ?_
                refine x_iconst (v := nI 4) rfl dX8_pour_24 ?_
                refine x_icmp_lt (tgt := 34) dX8_pour_25 (by decide) (fun c25 => ?_) (fun c25 => ?_)
                · try (exfalso; first | (simp (disch := omega) [inS_ix, inS_N, ixL_N, ix_nI, ha, hb] at c25 <;> omega) | (simp (disch := omega) only [Int32.le_iff_toInt_le, Int32.lt_iff_toInt_lt, ← Int32.toInt_inj, nI_toInt, Int32.toInt_zero, m1_toInt, Int64.le_iff_toInt_le, Int64.lt_iff_toInt_lt, ← Int64.toInt_inj, pk_lT, i64_toInt, Int64.toInt_zero, eq_self, not_true_eq_false, not_false_eq_true] at c11 c16 c20 c25 <;> omega) | omega)
                  all_goals
                    skip
                    refine x_aload_n dX8_pour_34 rfl ?_
                    refine x_getf gf_X8_17 ho dX8_pour_35 rfl rfl ?_
                    refine x_iload_n dX8_pour_38 rfl ?_
                    refine x_iald dX8_pour_39 rfl (by first | rfl | exact nI_add _ _ | (simp only [nI_add, pk_mul]; rfl)) (by omega) (by decide) ?_
                    refine x_if_lt (tgt := 52) dX8_pour_40 (by decide) (fun c40 => ?_) (fun c40 => ?_)
                    · skip
                      skip
                      refine x_aload_n dX8_pour_52 rfl ?_
                      refine x_iconst (v := nI 3) rfl dX8_pour_53 ?_
                      refine x_callV1 lk_X8_85 (m_no _) ho dX8_pour_54 rfl (Nat.le_of_ble_eq_true rfl) (by omega) (by decide) (by omega) (by omega) ?_
                      refine x_iret hr rfl dX8_pour_57 (by omega) (by omega) (hQ _ _ ?_)
                      try dsimp only [mI, mSA] at c11 c16 c20 c25 c40
                      exact ⟨by simp [spPour, hx, hy, c11, c16, c20, c25, c40, xb], by simp [pouM, spPour, hx, hy, c11, c16, c20, c25, c40, mI_mI]⟩
                    · skip
                      skip
                      refine x_aload_n dX8_pour_43 rfl ?_
                      refine x_getf gf_X8_17 ho dX8_pour_44 rfl rfl ?_
                      refine x_iload_n dX8_pour_47 rfl ?_
                      refine x_iald dX8_pour_48 rfl (by first | rfl | exact nI_add _ _ | (simp only [nI_add, pk_mul]; rfl)) (by omega) (by decide) ?_
                      refine x_if_ge (tgt := 58) dX8_pour_49 (by decide) (fun c49 => ?_) (fun c49 => ?_)
                      · skip
                        skip
                        refine x_aload_n dX8_pour_58 rfl ?_
                        refine x_getf gf_X8_13 ho dX8_pour_59 rfl rfl ?_
                        refine x_iload_n dX8_pour_62 rfl ?_
                        refine x_iald dX8_pour_63 rfl (by first | rfl | exact nI_add _ _ | (simp only [nI_add, pk_mul]; rfl)) (by omega) (by decide) ?_
                        refine x_aload_n dX8_pour_64 rfl ?_
                        refine x_getf gf_X8_13 ho dX8_pour_65 rfl rfl ?_
                        refine x_iload_n dX8_pour_68 rfl ?_
                        refine x_iald dX8_pour_69 rfl (by first | rfl | exact nI_add _ _ | (simp only [nI_add, pk_mul]; rfl)) (by omega) (by decide) ?_
                        refine x_icmp_eq (tgt := 80) dX8_pour_70 (by decide) (fun c70 => ?_) (fun c70 => ?_)
                        · skip
                          skip
                          refine x_iload dX8_pour_80 rfl ?_
                          refine x_if_ge (tgt := 92) dX8_pour_82 (by decide) (fun c82 => ?_) (fun c82 => ?_)
                          · skip
                            skip
                            refine x_iload_n dX8_pour_92 rfl ?_
                            refine x_if_lt (tgt := 136) dX8_pour_93 (by decide) (fun c93 => ?_) (fun c93 => ?_)
                            · skip
                              skip
                              refine x_aload_n dX8_pour_136 rfl ?_
                              refine x_iconst (v := nI 4) rfl dX8_pour_137 ?_
                              refine x_callV1 lk_X8_85 (m_no _) ho dX8_pour_138 rfl (Nat.le_of_ble_eq_true rfl) (by omega) (by decide) (by omega) (by omega) ?_
                              refine x_iret hr rfl dX8_pour_141 (by omega) (by omega) (hQ _ _ ?_)
                              try dsimp only [mI, mSA] at c11 c16 c20 c25 c40 c49 c70 c82 c93
                              exact ⟨by simp [spPour, hx, hy, c11, c16, c20, c25, c40, c49, c70, c82, c93, xb], by simp [pouM, spPour, hx, hy, c11, c16, c20, c25, c40, c49, c70, c82, c93, mI_mI]⟩
                            · skip
                              skip
                              refine x_iload dX8_pour_96 rfl ?_
                              refine x_if_lt (tgt := 136) dX8_pour_98 (by decide) (fun c98 => ?_) (fun c98 => ?_)
                              · skip
                                skip
                                refine x_aload_n dX8_pour_136 rfl ?_
                                refine x_iconst (v := nI 4) rfl dX8_pour_137 ?_
                                refine x_callV1 lk_X8_85 (m_no _) ho dX8_pour_138 rfl (Nat.le_of_ble_eq_true rfl) (by omega) (by decide) (by omega) (by omega) ?_
                                refine x_iret hr rfl dX8_pour_141 (by omega) (by omega) (hQ _ _ ?_)
                                try dsimp only [mI, mSA] at c11 c16 c20 c25 c40 c49 c70 c82 c93 c98
                                exact ⟨by simp [spPour, hx, hy, c11, c16, c20, c25, c40, c49, c70, c82, c93, c98, xb], by simp [pouM, spPour, hx, hy, c11, c16, c20, c25, c40, c49, c70, c82, c93, c98, mI_mI]⟩
                              · skip
                                skip
                                refine x_iload_n dX8_pour_101 rfl ?_
                                refine x_i2l dX8_pour_102 ?_
                                refine x_iload dX8_pour_103 rfl ?_
                                refine x_i2l dX8_pour_105 ?_
                                refine x_ladd dX8_pour_106 ?_
                                refine x_aload_n dX8_pour_107 rfl ?_
                                refine x_getf gf_X8_17 ho dX8_pour_108 rfl rfl ?_
                                refine x_iload_n dX8_pour_111 rfl ?_
                                refine x_iald dX8_pour_112 rfl (by first | rfl | exact nI_add _ _ | (simp only [nI_add, pk_mul]; rfl)) (by omega) (by decide) ?_
                                refine x_i2l dX8_pour_113 ?_
                                refine x_lcmp_gt (tgt := 136) dX8_pour_114 dX8_pour_115 (by decide) (fun c114 => ?_) (fun c114 => ?_)
                                · skip
                                  skip
                                  refine x_aload_n dX8_pour_136 rfl ?_
                                  refine x_iconst (v := nI 4) rfl dX8_pour_137 ?_
                                  refine x_callV1 lk_X8_85 (m_no _) ho dX8_pour_138 rfl (Nat.le_of_ble_eq_true rfl) (by omega) (by decide) (by omega) (by omega) ?_
                                  refine x_iret hr rfl dX8_pour_141 (by omega) (by omega) (hQ _ _ ?_)
                                  try dsimp only [mI, mSA] at c11 c16 c20 c25 c40 c49 c70 c82 c93 c98 c114
                                  exact ⟨by simp [spPour, hx, hy, c11, c16, c20, c25, c40, c49, c70, c82, c93, c98, c114, xb], by simp [pouM, spPour, hx, hy, c11, c16, c20, c25, c40, c49, c70, c82, c93, c98, c114, mI_mI]⟩
                                · skip
                                  skip
                                  refine x_iload dX8_pour_118 rfl ?_
                                  refine x_i2l dX8_pour_120 ?_
                                  refine x_iload dX8_pour_121 rfl ?_
                                  refine x_i2l dX8_pour_123 ?_
                                  refine x_ladd dX8_pour_124 ?_
                                  refine x_aload_n dX8_pour_125 rfl ?_
                                  refine x_getf gf_X8_17 ho dX8_pour_126 rfl rfl ?_
                                  refine x_iload_n dX8_pour_129 rfl ?_
                                  refine x_iald dX8_pour_130 rfl (by first | rfl | exact nI_add _ _ | (simp only [nI_add, pk_mul]; rfl)) (by omega) (by decide) ?_
                                  refine x_i2l dX8_pour_131 ?_
                                  refine x_lcmp_le (tgt := 142) dX8_pour_132 dX8_pour_133 (by decide) (fun c132 => ?_) (fun c132 => ?_)
                                  · skip
                                    skip
                                    dsimp only [mI] at c40 c49 c70 c114 c132
                                    obtain ⟨na, hna, ea⟩ := wT_pos hT ha (Int32.not_lt.mp c40)
                                    obtain ⟨nb, hnb, eb⟩ := wT_pos hT hb c49
                                    obtain ⟨x, hx1, rfl⟩ := nI_of c93
                                    obtain ⟨y, hy1, rfl⟩ := nI_of c98
                                    obtain ⟨n, hn1, rfl⟩ := nI_of (Int32.not_lt.mpr c82)
                                    have hsp : spPour (M.2.2.1 2) (M.2.2.1 1) (nI a) (nI x) (nI b) (nI y) (nI n) = 0 := by simp [spPour, hx, hy, c40, c49, c70, c82, c93, c98, c114, c132]
                                    have b1 : x + n ≤ na := by rw [ea, nI_l (by omega), nI_l (by omega), nI_l (by omega), lN_add, lN_ltI (by omega) (by omega)] at c114; omega
                                    have b2 : y + n ≤ nb := by rw [eb, nI_l (by omega), nI_l (by omega), nI_l (by omega), lN_add, lN_leI (by omega) (by omega)] at c132; exact c132
                                    refine x_iload_n dX8_pour_142 rfl ?_
                                    refine x_iload dX8_pour_143 rfl ?_
                                    refine x_icmp_ge (tgt := 152) dX8_pour_145 (by decide) (fun c145 => ?_) (fun c145 => ?_)
                                    · skip
                                      skip
                                      have c145 : ¬ x < y := by have := (nI_leI (by omega) (by omega)).mp c145; omega
                                      refine x_iconst (v := nI 0) rfl dX8_pour_152 ?_
                                      refine x_ival (y := xb (decide (x < y))) (by simp [c145, xb]) ?_
                                      refine x_ist6 hL (by decide) rfl dX8_pour_153 ?_
                                      refine x_iconst (v := nI 0) rfl dX8_pour_155 ?_
                                      refine x_ist7 hL (by decide) rfl dX8_pour_156 ?_
                                      refine x_eq (h' := hM (mSB (mI (mI M 1 (nI 0)) 0 (nI 0)) 3 (pouF (M.2.2.2 3) (60 * a + x) (60 * b + y) n 0 (decide (x < y)))) R) rfl rfl (by rw [pouF_0]; exact congrArg (hM · R) mSB_id.symm) ?_
                                      refine x_for (n := n) (fun k => [some (.ref 32), some (.int (nI a)), some (.int (nI x)), some (.int (nI b)), some (.int (nI y)), some (.int (nI n)), some (.int (xb (decide (x < y)))), some (.int (nI k)), none]) (fun k => []) (fun k => hM (mSB (mI (mI M 1 (nI 0)) 0 (nI 0)) 3 (pouF (M.2.2.2 3) (60 * a + x) (60 * b + y) n k (decide (x < y)))) R) ?_ (fun k hk ihk => ?_)
                                      · skip
                                        refine x_iload dX8_pour_158 rfl ?_
                                        refine x_iload dX8_pour_160 rfl ?_
                                        refine x_icmp_ge (tgt := 219) dX8_pour_162 (by decide) (fun c162 => ?_) (fun c162 => ?_)
                                        · skip
                                          refine x_iconst (v := nI 1) rfl dX8_pour_219 ?_
                                          refine x_iret hr rfl dX8_pour_220 (by omega) (by omega) (hQ _ _ ?_)
                                          try dsimp only [mI, mSA] at c11 c16 c20 c25 c40 c49 c70 c82 c93 c98 c114 c132 c145 c162
                                          exact ⟨by rw [hsp]; rfl, by rw [pouM, if_pos hsp, pouF_n, cl_nI (by omega), cl_nI (by omega), cl_nI (by omega), cl_nI (by omega), cl_nI (by omega)]⟩
                                        · exfalso; first | (simp (disch := omega) [inS_ix, inS_N, ixL_N, ix_nI, ha, hb] at c162 <;> omega) | (simp (disch := omega) only [Int32.le_iff_toInt_le, Int32.lt_iff_toInt_lt, ← Int32.toInt_inj, nI_toInt, Int32.toInt_zero, m1_toInt, Int64.le_iff_toInt_le, Int64.lt_iff_toInt_lt, ← Int64.toInt_inj, pk_lT, i64_toInt, Int64.toInt_zero, eq_self, not_true_eq_false, not_false_eq_true] at c82 c93 c98 c114 c132 c145 c162 <;> omega) | omega
                                      · skip
                                        refine x_iload dX8_pour_158 rfl ?_
                                        refine x_iload dX8_pour_160 rfl ?_
                                        refine x_icmp_ge (tgt := 219) dX8_pour_162 (by decide) (fun c162 => ?_) (fun c162 => ?_)
                                        · exfalso; first | (simp (disch := omega) [inS_ix, inS_N, ixL_N, ix_nI, ha, hb] at c162 <;> omega) | (simp (disch := omega) only [Int32.le_iff_toInt_le, Int32.lt_iff_toInt_lt, ← Int32.toInt_inj, nI_toInt, Int32.toInt_zero, m1_toInt, Int64.le_iff_toInt_le, Int64.lt_iff_toInt_lt, ← Int64.toInt_inj, pk_lT, i64_toInt, Int64.toInt_zero, eq_self, not_true_eq_false, not_false_eq_true] at c82 c93 c98 c114 c132 c145 c162 <;> omega) | omega
                                        · skip
                                          refine x_iload dX8_pour_165 rfl ?_
                                          refine x_ifb_eq (tgt := 180) dX8_pour_167 (by decide) (fun c167 => ?_) (fun c167 => ?_)
                                          · skip
                                            skip
                                            refine x_iload dX8_pour_180 rfl ?_
                                            have hI : pouI n k (decide (x < y)) < n := by unfold pouI; split <;> omega
                                            refine x_ival (y := nI (pouI n k (decide (x < y)))) (by simp only [pouI, c167]; rfl) ?_
                                            refine x_ist8 hL (by decide) rfl dX8_pour_182 ?_
                                            refine x_aload_n dX8_pour_184 rfl ?_
                                            refine x_getf gf_X8_20 ho dX8_pour_185 rfl rfl ?_
                                            refine x_bipush (v := nI 60) rfl dX8_pour_188 ?_
                                            refine x_iload_n dX8_pour_190 rfl ?_
                                            refine x_imulN dX8_pour_191 ?_
                                            refine x_iload dX8_pour_192 rfl ?_
                                            refine x_iaddN dX8_pour_194 ?_
                                            refine x_iload dX8_pour_195 rfl ?_
                                            refine x_iaddN dX8_pour_197 ?_
                                            refine x_aload_n dX8_pour_198 rfl ?_
                                            refine x_getf gf_X8_20 ho dX8_pour_199 rfl rfl ?_
                                            refine x_bipush (v := nI 60) rfl dX8_pour_202 ?_
                                            refine x_iload_n dX8_pour_204 rfl ?_
                                            refine x_imulN dX8_pour_205 ?_
                                            refine x_iload_n dX8_pour_206 rfl ?_
                                            refine x_iaddN dX8_pour_207 ?_
                                            refine x_iload dX8_pour_208 rfl ?_
                                            refine x_iaddN dX8_pour_210 ?_
                                            refine x_lald dX8_pour_211 rfl (by first | rfl | exact nI_add _ _ | (simp only [nI_add, pk_mul]; rfl)) (by omega) (by decide) ?_
                                            refine m_last (r := 3) dX8_pour_212 (by decide) (by decide) (fun _ => rfl) (by first | rfl | exact nI_add _ _ | (simp only [nI_add, pk_mul]; rfl)) (by omega) (by decide) ?_
                                            refine x_inc7 hL (by decide) rfl dX8_pour_213 (nI_1 _) ?_
                                            refine x_goto (tgt := 158) dX8_pour_216 (by decide) ?_
                                            refine x_drop (k := 8) ?_
                                            refine x_eq ?_ ?_ ?_ (ihk)
                                            · first | rfl | (simp [c11, c16, c20, c25, c40, c49, c70, c82, c93, c98, c114, c132, c145, c162, c167]; done)
                                            · rfl
                                            · rw [mB_SB]; exact congrArg (fun f => hM (mSB (mI (mI M 1 (nI 0)) 0 (nI 0)) 3 f) R) ((congrArg (vp_updL (pouF (M.2.2.2 3) (60 * a + x) (60 * b + y) n k (decide (x < y))) (60 * b + y + pouI n k (decide (x < y)))) (congrFun (upA_s (f := M.2.2.2) (r := 3) (x := (pouF (M.2.2.2 3) (60 * a + x) (60 * b + y) n k (decide (x < y))))) (60 * a + x + pouI n k (decide (x < y))))).trans (pouF_s hk (by rw [c167]; simp at c167 ⊢; by_cases hab : a = b <;> omega)))
                                          · skip
                                            skip
                                            refine x_iload dX8_pour_170 rfl ?_
                                            refine x_iconst (v := nI 1) rfl dX8_pour_172 ?_
                                            refine x_isubN (by omega) dX8_pour_173 ?_
                                            refine x_iload dX8_pour_174 rfl ?_
                                            refine x_isubN (by omega) dX8_pour_176 ?_
                                            refine x_goto (tgt := 182) dX8_pour_177 (by decide) ?_
                                            have hI : pouI n k (decide (x < y)) < n := by unfold pouI; split <;> omega
                                            refine x_ival (y := nI (pouI n k (decide (x < y)))) (by simp only [pouI, c167]; rfl) ?_
                                            refine x_ist8 hL (by decide) rfl dX8_pour_182 ?_
                                            refine x_aload_n dX8_pour_184 rfl ?_
                                            refine x_getf gf_X8_20 ho dX8_pour_185 rfl rfl ?_
                                            refine x_bipush (v := nI 60) rfl dX8_pour_188 ?_
                                            refine x_iload_n dX8_pour_190 rfl ?_
                                            refine x_imulN dX8_pour_191 ?_
                                            refine x_iload dX8_pour_192 rfl ?_
                                            refine x_iaddN dX8_pour_194 ?_
                                            refine x_iload dX8_pour_195 rfl ?_
                                            refine x_iaddN dX8_pour_197 ?_
                                            refine x_aload_n dX8_pour_198 rfl ?_
                                            refine x_getf gf_X8_20 ho dX8_pour_199 rfl rfl ?_
                                            refine x_bipush (v := nI 60) rfl dX8_pour_202 ?_
                                            refine x_iload_n dX8_pour_204 rfl ?_
                                            refine x_imulN dX8_pour_205 ?_
                                            refine x_iload_n dX8_pour_206 rfl ?_
                                            refine x_iaddN dX8_pour_207 ?_
                                            refine x_iload dX8_pour_208 rfl ?_
                                            refine x_iaddN dX8_pour_210 ?_
                                            refine x_lald dX8_pour_211 rfl (by first | rfl | exact nI_add _ _ | (simp only [nI_add, pk_mul]; rfl)) (by omega) (by decide) ?_
                                            refine m_last (r := 3) dX8_pour_212 (by decide) (by decide) (fun _ => rfl) (by first | rfl | exact nI_add _ _ | (simp only [nI_add, pk_mul]; rfl)) (by omega) (by decide) ?_
                                            refine x_inc7 hL (by decide) rfl dX8_pour_213 (nI_1 _) ?_
                                            refine x_goto (tgt := 158) dX8_pour_216 (by decide) ?_
                                            refine x_drop (k := 8) ?_
                                            refine x_eq ?_ ?_ ?_ (ihk)
                                            · first | rfl | (simp [c11, c16, c20, c25, c40, c49, c70, c82, c93, c98, c114, c132, c145, c162, c167]; done)
                                            · rfl
                                            · rw [mB_SB]; exact congrArg (fun f => hM (mSB (mI (mI M 1 (nI 0)) 0 (nI 0)) 3 f) R) ((congrArg (vp_updL (pouF (M.2.2.2 3) (60 * a + x) (60 * b + y) n k (decide (x < y))) (60 * b + y + pouI n k (decide (x < y)))) (congrFun (upA_s (f := M.2.2.2) (r := 3) (x := (pouF (M.2.2.2 3) (60 * a + x) (60 * b + y) n k (decide (x < y))))) (60 * a + x + pouI n k (decide (x < y))))).trans (pouF_s hk (by rw [c167]; simp at c167 ⊢; by_cases hab : a = b <;> omega)))
                                    · skip
                                      skip
                                      have c145 : x < y := Nat.lt_of_not_le fun q => c145 (nI_le q (by omega))
                                      refine x_iconst (v := nI 1) rfl dX8_pour_148 ?_
                                      refine x_goto (tgt := 153) dX8_pour_149 (by decide) ?_
                                      refine x_ival (y := xb (decide (x < y))) (by simp [c145, xb]) ?_
                                      refine x_ist6 hL (by decide) rfl dX8_pour_153 ?_
                                      refine x_iconst (v := nI 0) rfl dX8_pour_155 ?_
                                      refine x_ist7 hL (by decide) rfl dX8_pour_156 ?_
                                      refine x_eq (h' := hM (mSB (mI (mI M 1 (nI 0)) 0 (nI 0)) 3 (pouF (M.2.2.2 3) (60 * a + x) (60 * b + y) n 0 (decide (x < y)))) R) rfl rfl (by rw [pouF_0]; exact congrArg (hM · R) mSB_id.symm) ?_
                                      refine x_for (n := n) (fun k => [some (.ref 32), some (.int (nI a)), some (.int (nI x)), some (.int (nI b)), some (.int (nI y)), some (.int (nI n)), some (.int (xb (decide (x < y)))), some (.int (nI k)), none]) (fun k => []) (fun k => hM (mSB (mI (mI M 1 (nI 0)) 0 (nI 0)) 3 (pouF (M.2.2.2 3) (60 * a + x) (60 * b + y) n k (decide (x < y)))) R) ?_ (fun k hk ihk => ?_)
                                      · skip
                                        refine x_iload dX8_pour_158 rfl ?_
                                        refine x_iload dX8_pour_160 rfl ?_
                                        refine x_icmp_ge (tgt := 219) dX8_pour_162 (by decide) (fun c162 => ?_) (fun c162 => ?_)
                                        · skip
                                          refine x_iconst (v := nI 1) rfl dX8_pour_219 ?_
                                          refine x_iret hr rfl dX8_pour_220 (by omega) (by omega) (hQ _ _ ?_)
                                          try dsimp only [mI, mSA] at c11 c16 c20 c25 c40 c49 c70 c82 c93 c98 c114 c132 c145 c162
                                          exact ⟨by rw [hsp]; rfl, by rw [pouM, if_pos hsp, pouF_n, cl_nI (by omega), cl_nI (by omega), cl_nI (by omega), cl_nI (by omega), cl_nI (by omega)]⟩
                                        · exfalso; first | (simp (disch := omega) [inS_ix, inS_N, ixL_N, ix_nI, ha, hb] at c162 <;> omega) | (simp (disch := omega) only [Int32.le_iff_toInt_le, Int32.lt_iff_toInt_lt, ← Int32.toInt_inj, nI_toInt, Int32.toInt_zero, m1_toInt, Int64.le_iff_toInt_le, Int64.lt_iff_toInt_lt, ← Int64.toInt_inj, pk_lT, i64_toInt, Int64.toInt_zero, eq_self, not_true_eq_false, not_false_eq_true] at c82 c93 c98 c114 c132 c145 c162 <;> omega) | omega
                                      · skip
                                        refine x_iload dX8_pour_158 rfl ?_
                                        refine x_iload dX8_pour_160 rfl ?_
                                        refine x_icmp_ge (tgt := 219) dX8_pour_162 (by decide) (fun c162 => ?_) (fun c162 => ?_)
                                        · exfalso; first | (simp (disch := omega) [inS_ix, inS_N, ixL_N, ix_nI, ha, hb] at c162 <;> omega) | (simp (disch := omega) only [Int32.le_iff_toInt_le, Int32.lt_iff_toInt_lt, ← Int32.toInt_inj, nI_toInt, Int32.toInt_zero, m1_toInt, Int64.le_iff_toInt_le, Int64.lt_iff_toInt_lt, ← Int64.toInt_inj, pk_lT, i64_toInt, Int64.toInt_zero, eq_self, not_true_eq_false, not_false_eq_true] at c82 c93 c98 c114 c132 c145 c162 <;> omega) | omega
                                        · skip
                                          refine x_iload dX8_pour_165 rfl ?_
                                          refine x_ifb_eq (tgt := 180) dX8_pour_167 (by decide) (fun c167 => ?_) (fun c167 => ?_)
                                          · skip
                                            skip
                                            refine x_iload dX8_pour_180 rfl ?_
                                            have hI : pouI n k (decide (x < y)) < n := by unfold pouI; split <;> omega
                                            refine x_ival (y := nI (pouI n k (decide (x < y)))) (by simp only [pouI, c167]; rfl) ?_
                                            refine x_ist8 hL (by decide) rfl dX8_pour_182 ?_
                                            refine x_aload_n dX8_pour_184 rfl ?_
                                            refine x_getf gf_X8_20 ho dX8_pour_185 rfl rfl ?_
                                            refine x_bipush (v := nI 60) rfl dX8_pour_188 ?_
                                            refine x_iload_n dX8_pour_190 rfl ?_
                                            refine x_imulN dX8_pour_191 ?_
                                            refine x_iload dX8_pour_192 rfl ?_
                                            refine x_iaddN dX8_pour_194 ?_
                                            refine x_iload dX8_pour_195 rfl ?_
                                            refine x_iaddN dX8_pour_197 ?_
                                            refine x_aload_n dX8_pour_198 rfl ?_
                                            refine x_getf gf_X8_20 ho dX8_pour_199 rfl rfl ?_
                                            refine x_bipush (v := nI 60) rfl dX8_pour_202 ?_
                                            refine x_iload_n dX8_pour_204 rfl ?_
                                            refine x_imulN dX8_pour_205 ?_
                                            refine x_iload_n dX8_pour_206 rfl ?_
                                            refine x_iaddN dX8_pour_207 ?_
                                            refine x_iload dX8_pour_208 rfl ?_
                                            refine x_iaddN dX8_pour_210 ?_
                                            refine x_lald dX8_pour_211 rfl (by first | rfl | exact nI_add _ _ | (simp only [nI_add, pk_mul]; rfl)) (by omega) (by decide) ?_
                                            refine m_last (r := 3) dX8_pour_212 (by decide) (by decide) (fun _ => rfl) (by first | rfl | exact nI_add _ _ | (simp only [nI_add, pk_mul]; rfl)) (by omega) (by decide) ?_
                                            refine x_inc7 hL (by decide) rfl dX8_pour_213 (nI_1 _) ?_
                                            refine x_goto (tgt := 158) dX8_pour_216 (by decide) ?_
                                            refine x_drop (k := 8) ?_
                                            refine x_eq ?_ ?_ ?_ (ihk)
                                            · first | rfl | (simp [c11, c16, c20, c25, c40, c49, c70, c82, c93, c98, c114, c132, c145, c162, c167]; done)
                                            · rfl
                                            · rw [mB_SB]; exact congrArg (fun f => hM (mSB (mI (mI M 1 (nI 0)) 0 (nI 0)) 3 f) R) ((congrArg (vp_updL (pouF (M.2.2.2 3) (60 * a + x) (60 * b + y) n k (decide (x < y))) (60 * b + y + pouI n k (decide (x < y)))) (congrFun (upA_s (f := M.2.2.2) (r := 3) (x := (pouF (M.2.2.2 3) (60 * a + x) (60 * b + y) n k (decide (x < y))))) (60 * a + x + pouI n k (decide (x < y))))).trans (pouF_s hk (by rw [c167]; simp at c167 ⊢; by_cases hab : a = b <;> omega)))
                                          · skip
                                            skip
                                            refine x_iload dX8_pour_170 rfl ?_
                                            refine x_iconst (v := nI 1) rfl dX8_pour_172 ?_
                                            refine x_isubN (by omega) dX8_pour_173 ?_
                                            refine x_iload dX8_pour_174 rfl ?_
                                            refine x_isubN (by omega) dX8_pour_176 ?_
                                            refine x_goto (tgt := 182) dX8_pour_177 (by decide) ?_
                                            have hI : pouI n k (decide (x < y)) < n := by unfold pouI; split <;> omega
                                            refine x_ival (y := nI (pouI n k (decide (x < y)))) (by simp only [pouI, c167]; rfl) ?_
                                            refine x_ist8 hL (by decide) rfl dX8_pour_182 ?_
                                            refine x_aload_n dX8_pour_184 rfl ?_
                                            refine x_getf gf_X8_20 ho dX8_pour_185 rfl rfl ?_
                                            refine x_bipush (v := nI 60) rfl dX8_pour_188 ?_
                                            refine x_iload_n dX8_pour_190 rfl ?_
                                            refine x_imulN dX8_pour_191 ?_
                                            refine x_iload dX8_pour_192 rfl ?_
                                            refine x_iaddN dX8_pour_194 ?_
                                            refine x_iload dX8_pour_195 rfl ?_
                                            refine x_iaddN dX8_pour_197 ?_
                                            refine x_aload_n dX8_pour_198 rfl ?_
                                            refine x_getf gf_X8_20 ho dX8_pour_199 rfl rfl ?_
                                            refine x_bipush (v := nI 60) rfl dX8_pour_202 ?_
                                            refine x_iload_n dX8_pour_204 rfl ?_
                                            refine x_imulN dX8_pour_205 ?_
                                            refine x_iload_n dX8_pour_206 rfl ?_
                                            refine x_iaddN dX8_pour_207 ?_
                                            refine x_iload dX8_pour_208 rfl ?_
                                            refine x_iaddN dX8_pour_210 ?_
                                            refine x_lald dX8_pour_211 rfl (by first | rfl | exact nI_add _ _ | (simp only [nI_add, pk_mul]; rfl)) (by omega) (by decide) ?_
                                            refine m_last (r := 3) dX8_pour_212 (by decide) (by decide) (fun _ => rfl) (by first | rfl | exact nI_add _ _ | (simp only [nI_add, pk_mul]; rfl)) (by omega) (by decide) ?_
                                            refine x_inc7 hL (by decide) rfl dX8_pour_213 (nI_1 _) ?_
                                            refine x_goto (tgt := 158) dX8_pour_216 (by decide) ?_
                                            refine x_drop (k := 8) ?_
                                            refine x_eq ?_ ?_ ?_ (ihk)
                                            · first | rfl | (simp [c11, c16, c20, c25, c40, c49, c70, c82, c93, c98, c114, c132, c145, c162, c167]; done)
                                            · rfl
                                            · rw [mB_SB]; exact congrArg (fun f => hM (mSB (mI (mI M 1 (nI 0)) 0 (nI 0)) 3 f) R) ((congrArg (vp_updL (pouF (M.2.2.2 3) (60 * a + x) (60 * b + y) n k (decide (x < y))) (60 * b + y + pouI n k (decide (x < y)))) (congrFun (upA_s (f := M.2.2.2) (r := 3) (x := (pouF (M.2.2.2 3) (60 * a + x) (60 * b + y) n k (decide (x < y))))) (60 * a + x + pouI n k (decide (x < y))))).trans (pouF_s hk (by rw [c167]; simp at c167 ⊢; by_cases hab : a = b <;> omega)))
                                  · skip
                                    skip
                                    refine x_aload_n dX8_pour_136 rfl ?_
                                    refine x_iconst (v := nI 4) rfl dX8_pour_137 ?_
                                    refine x_callV1 lk_X8_85 (m_no _) ho dX8_pour_138 rfl (Nat.le_of_ble_eq_true rfl) (by omega) (by decide) (by omega) (by omega) ?_
                                    refine x_iret hr rfl dX8_pour_141 (by omega) (by omega) (hQ _ _ ?_)
                                    try dsimp only [mI, mSA] at c11 c16 c20 c25 c40 c49 c70 c82 c93 c98 c114 c132
                                    exact ⟨by simp [spPour, hx, hy, c11, c16, c20, c25, c40, c49, c70, c82, c93, c98, c114, c132, xb], by simp [pouM, spPour, hx, hy, c11, c16, c20, c25, c40, c49, c70, c82, c93, c98, c114, c132, mI_mI]⟩
                          · skip
                            skip
                            refine x_aload_n dX8_pour_85 rfl ?_
                            refine x_bipush (v := nI 6) rfl dX8_pour_86 ?_
                            refine x_callV1 lk_X8_85 (m_no _) ho dX8_pour_88 rfl (Nat.le_of_ble_eq_true rfl) (by omega) (by decide) (by omega) (by omega) ?_
                            refine x_iret hr rfl dX8_pour_91 (by omega) (by omega) (hQ _ _ ?_)
                            try dsimp only [mI, mSA] at c11 c16 c20 c25 c40 c49 c70 c82
                            exact ⟨by simp [spPour, hx, hy, c11, c16, c20, c25, c40, c49, c70, c82, xb], by simp [pouM, spPour, hx, hy, c11, c16, c20, c25, c40, c49, c70, c82, mI_mI]⟩
                        · skip
                          skip
                          refine x_aload_n dX8_pour_73 rfl ?_
                          refine x_bipush (v := nI 11) rfl dX8_pour_74 ?_
                          refine x_callV1 lk_X8_85 (m_no _) ho dX8_pour_76 rfl (Nat.le_of_ble_eq_true rfl) (by omega) (by decide) (by omega) (by omega) ?_
                          refine x_iret hr rfl dX8_pour_79 (by omega) (by omega) (hQ _ _ ?_)
                          try dsimp only [mI, mSA] at c11 c16 c20 c25 c40 c49 c70
                          exact ⟨by simp [spPour, hx, hy, c11, c16, c20, c25, c40, c49, c70, xb], by simp [pouM, spPour, hx, hy, c11, c16, c20, c25, c40, c49, c70, mI_mI]⟩
                      · skip
                        skip
                        refine x_aload_n dX8_pour_52 rfl ?_
                        refine x_iconst (v := nI 3) rfl dX8_pour_53 ?_
                        refine x_callV1 lk_X8_85 (m_no _) ho dX8_pour_54 rfl (Nat.le_of_ble_eq_true rfl) (by omega) (by decide) (by omega) (by omega) ?_
                        refine x_iret hr rfl dX8_pour_57 (by omega) (by omega) (hQ _ _ ?_)
                        try dsimp only [mI, mSA] at c11 c16 c20 c25 c40 c49
                        exact ⟨by simp [spPour, hx, hy, c11, c16, c20, c25, c40, c49, xb], by simp [pouM, spPour, hx, hy, c11, c16, c20, c25, c40, c49, mI_mI]⟩
                · try (exfalso; first | (simp (disch := omega) [inS_ix, inS_N, ixL_N, ix_nI, ha, hb] at c25 <;> omega) | (simp (disch := omega) only [Int32.le_iff_toInt_le, Int32.lt_iff_toInt_lt, ← Int32.toInt_inj, nI_toInt, Int32.toInt_zero, m1_toInt, Int64.le_iff_toInt_le, Int64.lt_iff_toInt_lt, ← Int64.toInt_inj, pk_lT, i64_toInt, Int64.toInt_zero, eq_self, not_true_eq_false, not_false_eq_true] at c11 c16 c20 c25 <;> omega) | omega)
                  all_goals
                    skip
                    refine x_aload_n dX8_pour_28 rfl ?_
                    refine x_iconst (v := nI 1) rfl dX8_pour_29 ?_
                    refine x_callV1 lk_X8_85 (m_no _) ho dX8_pour_30 rfl (Nat.le_of_ble_eq_true rfl) (by omega) (by decide) (by omega) (by omega) ?_
                    refine x_iret hr rfl dX8_pour_33 (by omega) (by omega) (hQ _ _ ?_)
                    try dsimp only [mI, mSA] at c11 c16 c20 c25
                    exact ⟨by simp [spPour, hx, hy, c11, c16, c20, c25, xb], by simp [pouM, spPour, hx, hy, c11, c16, c20, c25, mI_mI]⟩
  · skip
    refine CT.of (ini := false) (by decide +kernel) q1679 q164 (Nat.le_of_ble_eq_true rfl) (by decide) ?_
    intro Γ hw ho hL hr hh hini hal hd hmc hms hQ
    subst hw
    show AW Γ cX8_pour 0 0 0 [some (.ref 32), some (.int tr), some (.int i9), some (.int to), some (.int j9), some (.int n9), none, none, none] [] (hM M R)
    refine x_aload_n dX8_pour_0 rfl ?_
    refine x_iconst (v := nI 0) rfl dX8_pour_1 ?_
    refine m_puti (k := 1) (pf_X8_70 (ini := false)) ho hini dX8_pour_2 rfl rfl (by decide) (ms_1 _ _) ?_
    refine x_aload_n dX8_pour_5 rfl ?_
    refine x_iconst (v := nI 0) rfl dX8_pour_6 ?_
    refine m_puti (k := 0) (pf_X8_73 (ini := false)) ho hini dX8_pour_7 rfl rfl (by decide) (ms_0 _ _) ?_
    refine x_iload_n dX8_pour_10 rfl ?_
    refine x_if_lt (tgt := 28) dX8_pour_11 (by decide) (fun c11 => ?_) (fun c11 => ?_)
    · try (exfalso; first | (simp (disch := omega) [inS_ix, inS_N, ixL_N, ix_nI, hx] at c11 <;> omega) | (simp (disch := omega) only [Int32.le_iff_toInt_le, Int32.lt_iff_toInt_lt, ← Int32.toInt_inj, nI_toInt, Int32.toInt_zero, m1_toInt, Int64.le_iff_toInt_le, Int64.lt_iff_toInt_lt, ← Int64.toInt_inj, pk_lT, i64_toInt, Int64.toInt_zero, eq_self, not_true_eq_false, not_false_eq_true] at c11 <;> omega) | omega)
      all_goals
        skip
        refine x_aload_n dX8_pour_28 rfl ?_
        refine x_iconst (v := nI 1) rfl dX8_pour_29 ?_
        refine x_callV1 lk_X8_85 (m_no _) ho dX8_pour_30 rfl (Nat.le_of_ble_eq_true rfl) (by omega) (by decide) (by omega) (by omega) ?_
        refine x_iret hr rfl dX8_pour_33 (by omega) (by omega) (hQ _ _ ?_)
        try dsimp only [mI, mSA] at c11
        exact ⟨by simp [spPour, hx, xb], by simp [pouM, spPour, hx, mI_mI]⟩
    · try (exfalso; first | (simp (disch := omega) [inS_ix, inS_N, ixL_N, ix_nI, hx] at c11 <;> omega) | (simp (disch := omega) only [Int32.le_iff_toInt_le, Int32.lt_iff_toInt_lt, ← Int32.toInt_inj, nI_toInt, Int32.toInt_zero, m1_toInt, Int64.le_iff_toInt_le, Int64.lt_iff_toInt_lt, ← Int64.toInt_inj, pk_lT, i64_toInt, Int64.toInt_zero, eq_self, not_true_eq_false, not_false_eq_true] at c11 <;> omega) | omega)
      all_goals
        skip
        refine x_iload_n dX8_pour_14 rfl ?_
        refine x_iconst (v := nI 4) rfl dX8_pour_15 ?_
        refine x_icmp_ge (tgt := 28) dX8_pour_16 (by decide) (fun c16 => ?_) (fun c16 => ?_)
        · try (exfalso; first | (simp (disch := omega) [inS_ix, inS_N, ixL_N, ix_nI, hx] at c16 <;> omega) | (simp (disch := omega) only [Int32.le_iff_toInt_le, Int32.lt_iff_toInt_lt, ← Int32.toInt_inj, nI_toInt, Int32.toInt_zero, m1_toInt, Int64.le_iff_toInt_le, Int64.lt_iff_toInt_lt, ← Int64.toInt_inj, pk_lT, i64_toInt, Int64.toInt_zero, eq_self, not_true_eq_false, not_false_eq_true] at c11 c16 <;> omega) | omega)
          all_goals
            skip
            refine x_aload_n dX8_pour_28 rfl ?_
            refine x_iconst (v := nI 1) rfl dX8_pour_29 ?_
            refine x_callV1 lk_X8_85 (m_no _) ho dX8_pour_30 rfl (Nat.le_of_ble_eq_true rfl) (by omega) (by decide) (by omega) (by omega) ?_
            refine x_iret hr rfl dX8_pour_33 (by omega) (by omega) (hQ _ _ ?_)
            try dsimp only [mI, mSA] at c11 c16
            exact ⟨by simp [spPour, hx, xb], by simp [pouM, spPour, hx, mI_mI]⟩
        · try (exfalso; first | (simp (disch := omega) [inS_ix, inS_N, ixL_N, ix_nI, hx] at c16 <;> omega) | (simp (disch := omega) only [Int32.le_iff_toInt_le, Int32.lt_iff_toInt_lt, ← Int32.toInt_inj, nI_toInt, Int32.toInt_zero, m1_toInt, Int64.le_iff_toInt_le, Int64.lt_iff_toInt_lt, ← Int64.toInt_inj, pk_lT, i64_toInt, Int64.toInt_zero, eq_self, not_true_eq_false, not_false_eq_true] at c11 c16 <;> omega) | omega)
          all_goals
            skip
            refine x_iload_n dX8_pour_19 rfl ?_
            refine x_if_lt (tgt := 28) dX8_pour_20 (by decide) (fun c20 => ?_) (fun c20 => ?_)
            · try (exfalso; first | (simp (disch := omega) [inS_ix, inS_N, ixL_N, ix_nI, hx] at c20 <;> omega) | (simp (disch := omega) only [Int32.le_iff_toInt_le, Int32.lt_iff_toInt_lt, ← Int32.toInt_inj, nI_toInt, Int32.toInt_zero, m1_toInt, Int64.le_iff_toInt_le, Int64.lt_iff_toInt_lt, ← Int64.toInt_inj, pk_lT, i64_toInt, Int64.toInt_zero, eq_self, not_true_eq_false, not_false_eq_true] at c11 c16 c20 <;> omega) | omega)
              all_goals
                skip
                refine x_aload_n dX8_pour_28 rfl ?_
                refine x_iconst (v := nI 1) rfl dX8_pour_29 ?_
                refine x_callV1 lk_X8_85 (m_no _) ho dX8_pour_30 rfl (Nat.le_of_ble_eq_true rfl) (by omega) (by decide) (by omega) (by omega) ?_
                refine x_iret hr rfl dX8_pour_33 (by omega) (by omega) (hQ _ _ ?_)
                try dsimp only [mI, mSA] at c11 c16 c20
                exact ⟨by simp [spPour, hx, xb], by simp [pouM, spPour, hx, mI_mI]⟩
            · try (exfalso; first | (simp (disch := omega) [inS_ix, inS_N, ixL_N, ix_nI, hx] at c20 <;> omega) | (simp (disch := omega) only [Int32.le_iff_toInt_le, Int32.lt_iff_toInt_lt, ← Int32.toInt_inj, nI_toInt, Int32.toInt_zero, m1_toInt, Int64.le_iff_toInt_le, Int64.lt_iff_toInt_lt, ← Int64.toInt_inj, pk_lT, i64_toInt, Int64.toInt_zero, eq_self, not_true_eq_false, not_false_eq_true] at c11 c16 c20 <;> omega) | omega)
              all_goals
                skip
                refine x_iload_n dX8_pour_23 rfl ?_
                refine x_iconst (v := nI 4) rfl dX8_pour_24 ?_
                refine x_icmp_lt (tgt := 34) dX8_pour_25 (by decide) (fun c25 => ?_) (fun c25 => ?_)
                · try (exfalso; first | (simp (disch := omega) [inS_ix, inS_N, ixL_N, ix_nI, hx] at c25 <;> omega) | (simp (disch := omega) only [Int32.le_iff_toInt_le, Int32.lt_iff_toInt_lt, ← Int32.toInt_inj, nI_toInt, Int32.toInt_zero, m1_toInt, Int64.le_iff_toInt_le, Int64.lt_iff_toInt_lt, ← Int64.toInt_inj, pk_lT, i64_toInt, Int64.toInt_zero, eq_self, not_true_eq_false, not_false_eq_true] at c11 c16 c20 c25 <;> omega) | omega)
                  all_goals
                    skip
                    omega
                · try (exfalso; first | (simp (disch := omega) [inS_ix, inS_N, ixL_N, ix_nI, hx] at c25 <;> omega) | (simp (disch := omega) only [Int32.le_iff_toInt_le, Int32.lt_iff_toInt_lt, ← Int32.toInt_inj, nI_toInt, Int32.toInt_zero, m1_toInt, Int64.le_iff_toInt_le, Int64.lt_iff_toInt_lt, ← Int64.toInt_inj, pk_lT, i64_toInt, Int64.toInt_zero, eq_self, not_true_eq_false, not_false_eq_true] at c11 c16 c20 c25 <;> omega) | omega)
                  all_goals
                    skip
                    refine x_aload_n dX8_pour_28 rfl ?_
                    refine x_iconst (v := nI 1) rfl dX8_pour_29 ?_
                    refine x_callV1 lk_X8_85 (m_no _) ho dX8_pour_30 rfl (Nat.le_of_ble_eq_true rfl) (by omega) (by decide) (by omega) (by omega) ?_
                    refine x_iret hr rfl dX8_pour_33 (by omega) (by omega) (hQ _ _ ?_)
                    try dsimp only [mI, mSA] at c11 c16 c20 c25
                    exact ⟨by simp [spPour, hx, xb], by simp [pouM, spPour, hx, mI_mI]⟩
  · skip
    refine CT.of (ini := false) (by decide +kernel) q1679 q164 (Nat.le_of_ble_eq_true rfl) (by decide) ?_
    intro Γ hw ho hL hr hh hini hal hd hmc hms hQ
    subst hw
    show AW Γ cX8_pour 0 0 0 [some (.ref 32), some (.int (nI a)), some (.int i9), some (.int to), some (.int j9), some (.int n9), none, none, none] [] (hM M R)
    refine x_aload_n dX8_pour_0 rfl ?_
    refine x_iconst (v := nI 0) rfl dX8_pour_1 ?_
    refine m_puti (k := 1) (pf_X8_70 (ini := false)) ho hini dX8_pour_2 rfl rfl (by decide) (ms_1 _ _) ?_
    refine x_aload_n dX8_pour_5 rfl ?_
    refine x_iconst (v := nI 0) rfl dX8_pour_6 ?_
    refine m_puti (k := 0) (pf_X8_73 (ini := false)) ho hini dX8_pour_7 rfl rfl (by decide) (ms_0 _ _) ?_
    refine x_iload_n dX8_pour_10 rfl ?_
    refine x_if_lt (tgt := 28) dX8_pour_11 (by decide) (fun c11 => ?_) (fun c11 => ?_)
    · try (exfalso; first | (simp (disch := omega) [inS_ix, inS_N, ixL_N, ix_nI, hx] at c11 <;> omega) | (simp (disch := omega) only [Int32.le_iff_toInt_le, Int32.lt_iff_toInt_lt, ← Int32.toInt_inj, nI_toInt, Int32.toInt_zero, m1_toInt, Int64.le_iff_toInt_le, Int64.lt_iff_toInt_lt, ← Int64.toInt_inj, pk_lT, i64_toInt, Int64.toInt_zero, eq_self, not_true_eq_false, not_false_eq_true] at c11 <;> omega) | omega)
      all_goals
        skip
        refine x_aload_n dX8_pour_28 rfl ?_
        refine x_iconst (v := nI 1) rfl dX8_pour_29 ?_
        refine x_callV1 lk_X8_85 (m_no _) ho dX8_pour_30 rfl (Nat.le_of_ble_eq_true rfl) (by omega) (by decide) (by omega) (by omega) ?_
        refine x_iret hr rfl dX8_pour_33 (by omega) (by omega) (hQ _ _ ?_)
        try dsimp only [mI, mSA] at c11
        exact ⟨by simp [spPour, hx, hy, xb], by simp [pouM, spPour, hx, hy, mI_mI]⟩
    · try (exfalso; first | (simp (disch := omega) [inS_ix, inS_N, ixL_N, ix_nI, hx] at c11 <;> omega) | (simp (disch := omega) only [Int32.le_iff_toInt_le, Int32.lt_iff_toInt_lt, ← Int32.toInt_inj, nI_toInt, Int32.toInt_zero, m1_toInt, Int64.le_iff_toInt_le, Int64.lt_iff_toInt_lt, ← Int64.toInt_inj, pk_lT, i64_toInt, Int64.toInt_zero, eq_self, not_true_eq_false, not_false_eq_true] at c11 <;> omega) | omega)
      all_goals
        skip
        refine x_iload_n dX8_pour_14 rfl ?_
        refine x_iconst (v := nI 4) rfl dX8_pour_15 ?_
        refine x_icmp_ge (tgt := 28) dX8_pour_16 (by decide) (fun c16 => ?_) (fun c16 => ?_)
        · try (exfalso; first | (simp (disch := omega) [inS_ix, inS_N, ixL_N, ix_nI, hx] at c16 <;> omega) | (simp (disch := omega) only [Int32.le_iff_toInt_le, Int32.lt_iff_toInt_lt, ← Int32.toInt_inj, nI_toInt, Int32.toInt_zero, m1_toInt, Int64.le_iff_toInt_le, Int64.lt_iff_toInt_lt, ← Int64.toInt_inj, pk_lT, i64_toInt, Int64.toInt_zero, eq_self, not_true_eq_false, not_false_eq_true] at c11 c16 <;> omega) | omega)
          all_goals
            skip
            refine x_aload_n dX8_pour_28 rfl ?_
            refine x_iconst (v := nI 1) rfl dX8_pour_29 ?_
            refine x_callV1 lk_X8_85 (m_no _) ho dX8_pour_30 rfl (Nat.le_of_ble_eq_true rfl) (by omega) (by decide) (by omega) (by omega) ?_
            refine x_iret hr rfl dX8_pour_33 (by omega) (by omega) (hQ _ _ ?_)
            try dsimp only [mI, mSA] at c11 c16
            exact ⟨by simp [spPour, hx, hy, xb], by simp [pouM, spPour, hx, hy, mI_mI]⟩
        · try (exfalso; first | (simp (disch := omega) [inS_ix, inS_N, ixL_N, ix_nI, hx] at c16 <;> omega) | (simp (disch := omega) only [Int32.le_iff_toInt_le, Int32.lt_iff_toInt_lt, ← Int32.toInt_inj, nI_toInt, Int32.toInt_zero, m1_toInt, Int64.le_iff_toInt_le, Int64.lt_iff_toInt_lt, ← Int64.toInt_inj, pk_lT, i64_toInt, Int64.toInt_zero, eq_self, not_true_eq_false, not_false_eq_true] at c11 c16 <;> omega) | omega)
          all_goals
            skip
            refine x_iload_n dX8_pour_19 rfl ?_
            refine x_if_lt (tgt := 28) dX8_pour_20 (by decide) (fun c20 => ?_) (fun c20 => ?_)
            · try (exfalso; first | (simp (disch := omega) [inS_ix, inS_N, ixL_N, ix_nI, hx] at c20 <;> omega) | (simp (disch := omega) only [Int32.le_iff_toInt_le, Int32.lt_iff_toInt_lt, ← Int32.toInt_inj, nI_toInt, Int32.toInt_zero, m1_toInt, Int64.le_iff_toInt_le, Int64.lt_iff_toInt_lt, ← Int64.toInt_inj, pk_lT, i64_toInt, Int64.toInt_zero, eq_self, not_true_eq_false, not_false_eq_true] at c11 c16 c20 <;> omega) | omega)
              all_goals
                skip
                refine x_aload_n dX8_pour_28 rfl ?_
                refine x_iconst (v := nI 1) rfl dX8_pour_29 ?_
                refine x_callV1 lk_X8_85 (m_no _) ho dX8_pour_30 rfl (Nat.le_of_ble_eq_true rfl) (by omega) (by decide) (by omega) (by omega) ?_
                refine x_iret hr rfl dX8_pour_33 (by omega) (by omega) (hQ _ _ ?_)
                try dsimp only [mI, mSA] at c11 c16 c20
                exact ⟨by simp [spPour, hx, hy, xb], by simp [pouM, spPour, hx, hy, mI_mI]⟩
            · try (exfalso; first | (simp (disch := omega) [inS_ix, inS_N, ixL_N, ix_nI, hx] at c20 <;> omega) | (simp (disch := omega) only [Int32.le_iff_toInt_le, Int32.lt_iff_toInt_lt, ← Int32.toInt_inj, nI_toInt, Int32.toInt_zero, m1_toInt, Int64.le_iff_toInt_le, Int64.lt_iff_toInt_lt, ← Int64.toInt_inj, pk_lT, i64_toInt, Int64.toInt_zero, eq_self, not_true_eq_false, not_false_eq_true] at c11 c16 c20 <;> omega) | omega)
              all_goals
                skip
                refine x_iload_n dX8_pour_23 rfl ?_
                refine x_iconst (v := nI 4) rfl dX8_pour_24 ?_
                refine x_icmp_lt (tgt := 34) dX8_pour_25 (by decide) (fun c25 => ?_) (fun c25 => ?_)
                · try (exfalso; first | (simp (disch := omega) [inS_ix, inS_N, ixL_N, ix_nI, hx] at c25 <;> omega) | (simp (disch := omega) only [Int32.le_iff_toInt_le, Int32.lt_iff_toInt_lt, ← Int32.toInt_inj, nI_toInt, Int32.toInt_zero, m1_toInt, Int64.le_iff_toInt_le, Int64.lt_iff_toInt_lt, ← Int64.toInt_inj, pk_lT, i64_toInt, Int64.toInt_zero, eq_self, not_true_eq_false, not_false_eq_true] at c11 c16 c20 c25 <;> omega) | omega)
                  all_goals
                    skip
                    omega
                · try (exfalso; first | (simp (disch := omega) [inS_ix, inS_N, ixL_N, ix_nI, hx] at c25 <;> omega) | (simp (disch := omega) only [Int32.le_iff_toInt_le, Int32.lt_iff_toInt_lt, ← Int32.toInt_inj, nI_toInt, Int32.toInt_zero, m1_toInt, Int64.le_iff_toInt_le, Int64.lt_iff_toInt_lt, ← Int64.toInt_inj, pk_lT, i64_toInt, Int64.toInt_zero, eq_self, not_true_eq_false, not_false_eq_true] at c11 c16 c20 c25 <;> omega) | omega)
                  all_goals
                    skip
                    refine x_aload_n dX8_pour_28 rfl ?_
                    refine x_iconst (v := nI 1) rfl dX8_pour_29 ?_
                    refine x_callV1 lk_X8_85 (m_no _) ho dX8_pour_30 rfl (Nat.le_of_ble_eq_true rfl) (by omega) (by decide) (by omega) (by omega) ?_
                    refine x_iret hr rfl dX8_pour_33 (by omega) (by omega) (hQ _ _ ?_)
                    try dsimp only [mI, mSA] at c11 c16 c20 c25
                    exact ⟨by simp [spPour, hx, hy, xb], by simp [pouM, spPour, hx, hy, mI_mI]⟩
