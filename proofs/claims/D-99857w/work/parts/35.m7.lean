/-! ===== the model: fractions, pour, rounds ===== -/
set_option maxRecDepth 100000
set_option maxHeartbeats 800000 in
theorem m_fraction {w : xW} {M : mS} {R : xH} (t b : Nat) (ht : t < 2 ^ 63) (hb : b < 2 ^ 63) (h0 : 0 < b) : CT w yX8_fraction cX8_fraction 11 (some (.boolean)) [] false (1) 0 0 [.ref 32, .long (lN t), .long (lN b)] (hM M R) (xret (some (.int (nI 1))) (hM (frM M t b) R)) := by
  refine CT.of (ini := false) (by decide +kernel) q2184 q164 (Nat.le_of_ble_eq_true rfl) (by decide) ?_
  intro Γ hw ho hL hr hh hini hal hd hmc hms hQ
  subst hw
  show AW Γ cX8_fraction 0 0 0 [some (.ref 32), some (.long (lN t)), none, some (.long (lN b)), none, none, none, none, none, none, none] [] (hM M R)
  refine x_lload_n dX8_fraction_0 rfl ?_
  refine x_mabsL ho q2185 q2186 q171 q2187 (Nat.le_of_ble_eq_true rfl) (by omega) (by omega) (by omega) dX8_fraction_1 ?_
  refine x_lval (absN ht) ?_
  refine x_lst5 hL (by decide) rfl dX8_fraction_4 ?_
  refine x_lload_n dX8_fraction_6 rfl ?_
  refine x_lst7 hL (by decide) rfl dX8_fraction_7 ?_
  refine x_wh (σ := Nat × Nat) (fun s => [some (.ref 32), some (.long (lN t)), none, some (.long (lN b)), none, some (.long (lN s.1)), none, some (.long (lN s.2)), none, none, none]) (fun s => []) (fun s => hM M R) (fun s => Nat.gcd s.1 s.2 = Nat.gcd t b ∧ s.1 < 2 ^ 63 ∧ s.2 < 2 ^ 63) (fun s => s.2) (t, b) ⟨rfl, ht, hb⟩ (fun s hPs ihs => ?_)
  obtain ⟨hg, hs1, hs2⟩ := hPs
  have hPs : Nat.gcd s.1 s.2 = Nat.gcd t b ∧ s.1 < 2 ^ 63 ∧ s.2 < 2 ^ 63 := ⟨hg, hs1, hs2⟩
  refine x_lload dX8_fraction_9 rfl ?_
  refine x_lconst (v := lN 0) rfl dX8_fraction_11 ?_
  refine x_lcmp_eq (tgt := 34) dX8_fraction_12 dX8_fraction_13 (by decide) (fun c12 => ?_) (fun c12 => ?_)
  · skip
    skip
    have c12 : s.2 = 0 := (lN_eqI hs2 (by decide)).mp c12
    have hx : s.1 = Nat.gcd t b := by rw [← hg, c12, Nat.gcd_zero_right]
    have hp : 0 < Nat.gcd t b := Nat.gcd_pos_of_pos_right _ h0
    refine x_aload_n dX8_fraction_34 rfl ?_
    refine x_lload_n dX8_fraction_35 rfl ?_
    refine x_lload dX8_fraction_36 rfl ?_
    refine x_ldivN (by omega) (by omega) (by omega) dX8_fraction_38 ?_
    refine m_putl (k := 2) (pf_X8_76 (ini := false)) ho hini dX8_fraction_39 (by decide) (ms_2 _ _) ?_
    refine x_aload_n dX8_fraction_42 rfl ?_
    refine x_lload_n dX8_fraction_43 rfl ?_
    refine x_lload dX8_fraction_44 rfl ?_
    refine x_ldivN (by omega) (by omega) (by omega) dX8_fraction_46 ?_
    refine m_putl (k := 3) (pf_X8_7 (ini := false)) ho hini dX8_fraction_47 (by decide) (ms_3 _ _) ?_
    refine x_iconst (v := nI 1) rfl dX8_fraction_50 ?_
    refine x_iret hr rfl dX8_fraction_51 (by omega) (by omega) (hQ _ _ ?_)
    exact ⟨rfl, by rw [hx]⟩
  · skip
    skip
    have hz : 0 < s.2 := Nat.pos_of_ne_zero fun q => c12 (by rw [q])
    refine x_lload dX8_fraction_16 rfl ?_
    refine x_lload dX8_fraction_18 rfl ?_
    refine x_lremN (by omega) (by omega) (by omega) dX8_fraction_20 ?_
    refine x_lst9 hL (by decide) rfl dX8_fraction_21 ?_
    refine x_lload dX8_fraction_23 rfl ?_
    refine x_lst5 hL (by decide) rfl dX8_fraction_25 ?_
    refine x_lload dX8_fraction_27 rfl ?_
    refine x_lst7 hL (by decide) rfl dX8_fraction_29 ?_
    refine x_goto (tgt := 9) dX8_fraction_31 (by decide) ?_
    refine x_drop (k := 9) ?_
    refine x_drop (k := 10) ?_
    refine x_eq ?_ ?_ ?_ (ihs (s.2, s.1 % s.2) ?_ ?_)
    · rfl
    · rfl
    · rfl
    · exact ⟨(gcd_step _ _).trans hPs.1, hPs.2.2, Nat.lt_of_le_of_lt (Nat.mod_le _ _) hPs.2.1⟩
    · exact Nat.mod_lt _ hz
