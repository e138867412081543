section MO23
set_option maxRecDepth 100000
set_option maxHeartbeats 2000000 in
theorem ct_X4_line {l : Launch} {Γ : Gm} (hl : l.flags = flags0) (hΓ : GOK Γ) {z : ZR} {h : AH} {D : Nat → Nat} {t : TP} {E : PE} {M : MS} {Q : QS} {Q' : QS} {f : Nat} (hc : PCx Γ h D t E M Q) (hw : qw Q = false) (hm : liQ E f Q = some Q') (hn : qn Q' ≤ 800) : Ct l Γ yX4_line cX4_line 1 none (2 * f + 8) 0 0 [.ref (D 0)] z h (Rn (PPg Γ z h D t M Q')) := by
  refine Ct.of hl hΓ (by decide +kernel) (Nat.le_of_ble_eq_true rfl) (fun X e1 e2 C => ?_)
  subst e1; subst e2
  have C : Cx X cX4_line 1 "RingDominoModel" "line" none [] (2 * f + 8) := C
  have hK := hc.K
  have hQl := hc.2.2.2.2.1
  show WW X (Rn (PPg (xG X) z h D t M Q')) z h 0 0 0 [(0, .ref (D 0))] []
  have X0_1 : h (D 0) = some (cMd M.1 D) := hc.1.m
  unfold liQ at hm
  refine ww_aload_n C dX4_line_0 rfl 0 rfl rfl ?_
  refine ww_iconst C dX4_line_1 cI_2 ?_
  refine cv_X4_182_q (As := [.int (nI 2)]) (rest := []) C dX4_line_2 (ct_X4_takes (Cx.fl C) (Cx.ok C) hc (k := 2) (by decide) (by decide)) (rc_X4 (Cx.ok C) (Or.inl X0_1)) rfl rfl (Nat.le_of_ble_eq_true rfl) (by omega) (Nat.zero_le _) (Nat.zero_le _) (fun v2 z2 h2 q2 => ?_)
  obtain ⟨rfl, hq2, M2, pf2, hc2, fr2⟩ := q2; replace hq2 := hq2.symm; subst hq2
  have pg2 := (PG.rf (M := M)).tr pf2.g
  have fg2 := (FrD.rf (h := h) (D := D)).tr fr2
  have X0_3 : h2 (D 0) = some (cMd M2.1 D) := hc2.1.m
  refine ww_if_eq_b (tgt := 15) C dX4_line_5 (by decide) (fun c_5 => ?_) (fun c_5 => ?_)
  · skip
    rw [c_5] at hm
    rw [if_neg (by rw [c_5]; decide)] at hc2
    have X0_4 : h2 (D 0) = some (cMd M2.1 D) := hc2.1.m
    refine ww_aload_n C dX4_line_15 rfl 0 rfl rfl ?_
    refine ww_iconst C dX4_line_16 cI_3 ?_
    refine cv_X4_129_r (As := [.int (nI 3)]) (rest := []) C dX4_line_17 (ct_X4_is (Cx.fl C) (Cx.ok C) (k := 3) hc2 (by decide)) (rc_X4 (Cx.ok C) (Or.inl X0_4)) rfl rfl (Nat.le_of_ble_eq_true rfl) (by omega) (Nat.zero_le _) (Nat.zero_le _) ?_
    refine ww_if_eq_b (tgt := 31) C dX4_line_20 (by decide) (fun c_20 => ?_) (fun c_20 => ?_)
    · skip
      rw [c_20] at hm
      have X0_5 : h2 (D 0) = some (cMd M2.1 D) := hc2.1.m
      refine ww_aload_n C dX4_line_31 rfl 0 rfl rfl ?_
      refine ww_bipush C dX4_line_32 cB_6 ?_
      refine cv_X4_129_r (As := [.int (nI 6)]) (rest := []) C dX4_line_34 (ct_X4_is (Cx.fl C) (Cx.ok C) (k := 6) hc2 (by decide)) (rc_X4 (Cx.ok C) (Or.inl X0_5)) rfl rfl (Nat.le_of_ble_eq_true rfl) (by omega) (Nat.zero_le _) (Nat.zero_le _) ?_
      refine ww_if_eq_b (tgt := 48) C dX4_line_37 (by decide) (fun c_37 => ?_) (fun c_37 => ?_)
      · skip
        rw [c_37] at hm
        have X0_6 : h2 (D 0) = some (cMd M2.1 D) := hc2.1.m
        refine ww_aload_n C dX4_line_48 rfl 0 rfl rfl ?_
        refine ww_bipush C dX4_line_49 cB_7 ?_
        refine cv_X4_129_r (As := [.int (nI 7)]) (rest := []) C dX4_line_51 (ct_X4_is (Cx.fl C) (Cx.ok C) (k := 7) hc2 (by decide)) (rc_X4 (Cx.ok C) (Or.inl X0_6)) rfl rfl (Nat.le_of_ble_eq_true rfl) (by omega) (Nat.zero_le _) (Nat.zero_le _) ?_
        refine ww_if_eq_b (tgt := 65) C dX4_line_54 (by decide) (fun c_54 => ?_) (fun c_54 => ?_)
        · skip
          rw [c_54] at hm
          have X0_7 : h2 (D 0) = some (cMd M2.1 D) := hc2.1.m
          cases hm
          refine ww_aload_n C dX4_line_65 rfl 0 rfl rfl ?_
          refine cv_X4_132_q (As := []) (rest := []) C dX4_line_66 (ct_X4_wrong (Cx.fl C) (Cx.ok C) hc2 ) (rc_X4 (Cx.ok C) (Or.inl X0_7)) rfl rfl (Nat.le_of_ble_eq_true rfl) (by omega) (Nat.zero_le _) (Nat.zero_le _) (fun z8 h8 q8 => ?_)
          obtain ⟨hq8, M8, pf8, hc8, fr8⟩ := q8; replace hq8 := hq8.symm; subst hq8
          have pg8 := pg2.tr pf8.g
          have fg8 := fg2.tr fr8
          have X0_9 : h8 (D 0) = some (cMd M8.1 D) := hc8.1.m
          exact ww_vret C dX4_line_69 ⟨rfl, M8, pg8, by have e9 : envQ t (wrQ Q).2.2 = E := by { rw [show (wrQ Q).2.2 = Q.2.2 from (qK.wr hQl).2.2.2.2.1]; exact hc.2.2.2.1.symm }; rw [e9]; exact hc8, fg8⟩
        · skip
          rw [c_54] at hm
          have X0_10 : h2 (D 0) = some (cMd M2.1 D) := hc2.1.m
          refine ww_aload_n C dX4_line_57 rfl 0 rfl rfl ?_
          refine ww_iconst C dX4_line_58 cI_2 ?_
          refine cv_X4_242_q (As := [.int (nI 2)]) (rest := []) C dX4_line_59 (ct_X4_order (Cx.fl C) (Cx.ok C) (dz := 2) hc2 (mc_all (Cx.fl C) (Cx.ok C) f f (Nat.le_refl _)).2.2.1 (mc_all (Cx.fl C) (Cx.ok C) f f (Nat.le_refl _)).2.2.2.2.2 (by decide) hw (isQ_lt hK hQl (by decide) c_54) hm hn) (rc_X4 (Cx.ok C) (Or.inl X0_10)) rfl rfl (Nat.le_of_ble_eq_true rfl) (by omega) (Nat.zero_le _) (Nat.zero_le _) (fun z9 h9 q9 => ?_)
          obtain ⟨hq9, M9, pf9, hc9, fr9⟩ := q9; replace hq9 := hq9.symm; subst hq9
          refine ww_goto (tgt := 69) C dX4_line_62 (by decide) ?_
          exact ww_vret C dX4_line_69 ⟨rfl, M9, pg2.tr pf9, hc9, fg2.tr fr9⟩
      · skip
        rw [c_37] at hm
        have X0_11 : h2 (D 0) = some (cMd M2.1 D) := hc2.1.m
        refine ww_aload_n C dX4_line_40 rfl 0 rfl rfl ?_
        refine ww_iconst C dX4_line_41 cI_1 ?_
        refine cv_X4_242_q (As := [.int (nI 1)]) (rest := []) C dX4_line_42 (ct_X4_order (Cx.fl C) (Cx.ok C) (dz := 1) hc2 (mc_all (Cx.fl C) (Cx.ok C) f f (Nat.le_refl _)).2.2.1 (mc_all (Cx.fl C) (Cx.ok C) f f (Nat.le_refl _)).2.2.2.2.2 (by decide) hw (isQ_lt hK hQl (by decide) c_37) hm hn) (rc_X4 (Cx.ok C) (Or.inl X0_11)) rfl rfl (Nat.le_of_ble_eq_true rfl) (by omega) (Nat.zero_le _) (Nat.zero_le _) (fun z9 h9 q9 => ?_)
        obtain ⟨hq9, M9, pf9, hc9, fr9⟩ := q9; replace hq9 := hq9.symm; subst hq9
        refine ww_goto (tgt := 69) C dX4_line_45 (by decide) ?_
        exact ww_vret C dX4_line_69 ⟨rfl, M9, pg2.tr pf9, hc9, fg2.tr fr9⟩
    · skip
      rw [c_20] at hm
      have X0_12 : h2 (D 0) = some (cMd M2.1 D) := hc2.1.m
      refine ww_aload_n C dX4_line_23 rfl 0 rfl rfl ?_
      refine ww_iconst C dX4_line_24 cI_0 ?_
      refine cv_X4_242_q (As := [.int (nI 0)]) (rest := []) C dX4_line_25 (ct_X4_order (Cx.fl C) (Cx.ok C) (dz := 0) hc2 (mc_all (Cx.fl C) (Cx.ok C) f f (Nat.le_refl _)).2.2.1 (mc_all (Cx.fl C) (Cx.ok C) f f (Nat.le_refl _)).2.2.2.2.2 (by decide) hw (isQ_lt hK hQl (by decide) c_20) hm hn) (rc_X4 (Cx.ok C) (Or.inl X0_12)) rfl rfl (Nat.le_of_ble_eq_true rfl) (by omega) (Nat.zero_le _) (Nat.zero_le _) (fun z9 h9 q9 => ?_)
      obtain ⟨hq9, M9, pf9, hc9, fr9⟩ := q9; replace hq9 := hq9.symm; subst hq9
      refine ww_goto (tgt := 69) C dX4_line_28 (by decide) ?_
      exact ww_vret C dX4_line_69 ⟨rfl, M9, pg2.tr pf9, hc9, fg2.tr fr9⟩
  · skip
    rw [c_5] at hm; cases hm
    rw [if_pos c_5] at hc2
    have X0_13 : h2 (D 0) = some (cMd M2.1 D) := hc2.1.m
    refine ww_aload_n C dX4_line_8 rfl 0 rfl rfl ?_
    refine cv_X4_240_q (As := []) (rest := []) C dX4_line_9 (ct_X4_tile (Cx.fl C) (Cx.ok C) hc2) (rc_X4 (Cx.ok C) (Or.inl X0_13)) rfl rfl (Nat.le_of_ble_eq_true rfl) (by omega) (Nat.zero_le _) (Nat.zero_le _) (fun z9 h9 q9 => ?_)
    obtain ⟨hq9, M9, pf9, hc9, fr9⟩ := q9; replace hq9 := hq9.symm; subst hq9
    refine ww_goto (tgt := 69) C dX4_line_12 (by decide) ?_
    exact ww_vret C dX4_line_69 ⟨rfl, M9, pg2.tr pf9, hc9, fg2.tr fr9⟩
set_option maxHeartbeats 2000000 in
theorem ct_X4_game {l : Launch} {Γ : Gm} (hl : l.flags = flags0) (hΓ : GOK Γ) {z : ZR} {h : AH} {D : Nat → Nat} {t : TP} {E : PE} {M : MS} {Q : QS} {Q' : QS} {f g : Nat} (hc : PCx Γ h D t E M Q) (hm : gaQ t f g Q = some Q') (hn : qn Q' ≤ 800) : Ct l Γ yX4_game cX4_game 1 none (2 * f + 9) 0 0 [.ref (D 0)] z h (Rn (PPg Γ z h D t M Q')) := by
  refine Ct.of hl hΓ (by decide +kernel) (Nat.le_of_ble_eq_true rfl) (fun X e1 e2 C => ?_)
  subst e1; subst e2
  have C : Cx X cX4_game 1 "RingDominoModel" "game" none [] (2 * f + 9) := C
  have hK := hc.K
  have hQl := hc.2.2.2.2.1
  have hEE := hc.2.2.2.1
  show WW X (Rn (PPg (xG X) z h D t M Q')) z h 0 0 0 [(0, .ref (D 0))] []
  unfold gaQ at hm; rw [← hEE] at hm
  have loop : ∀ g1 (Q1 : QS) (M1 : MS) (h1 : AH), PCx (xG X) h1 D t (envQ t Q1.2.2) M1 Q1 → PG M M1 → FrD h h1 D → lsQ t f g1 Q1 = some Q' → WW X (Rn (PPg (xG X) z h D t M Q')) z h1 0 0 47 [(0, .ref (D 0))] [] := by
    intro g1
    induction g1 with
    | zero => intro Q1 M1 h1 hc1 pg1 fr1 hm1; cases hm1
    | succ g1 ih =>
      intro Q1 M1 h1 hc1 pg1 fr1 hm1
      unfold lsQ at hm1
      have hQ1 := hc1.2.2.2.2.1
      have hkl : kQ (envQ t Q1.2.2) Q1 ≤ 54 := kQ_le hc1.K hQ1
      have hkt : kQ (envQ t Q1.2.2) Q1 = tK t (qt Q1) := rfl
      have X0_1 : h1 (D 0) = some (cMd M1.1 D) := hc1.1.m
      refine ww_aload_n C dX4_game_47 rfl 0 rfl rfl ?_
      refine gf_X4_116_X4 C dX4_game_48 (Or.inl X0_1) rfl ?_
      refine ww_st (st' := [.int (bI (qw Q1))]) (by rw [show M1.1 4 = bI (qw Q1) from hc1.2.1.1.2.1]) ?_
      refine ww_if_ne_b (tgt := 81) C dX4_game_51 (by decide) (fun c_51 => ?_) (fun c_51 => ?_)
      · skip
        rw [c_51] at hm1; cases hm1
        exact ww_vret C dX4_game_81 ⟨rfl, M1, pg1, hc1, fr1⟩
      · skip
        have X0_2 : h1 (D 0) = some (cMd M1.1 D) := hc1.1.m
        have Y2_2 : h1 (D 2) = some (cI (xG X) 402 (M1.2.1 2)) := hc1.1.1 2 (by decide)
        refine ww_aload_n C dX4_game_54 rfl 0 rfl rfl ?_
        refine gf_X4_17_X4 C dX4_game_55 (Or.inl X0_2) rfl ?_
        refine ww_aload_n C dX4_game_58 rfl 0 rfl rfl ?_
        refine gf_X4_120_X4 C dX4_game_59 (Or.inl X0_2) rfl ?_
        refine ww_st (st' := [.int (nI (qt Q1)), .ref (D 2)]) (by rw [show M1.1 3 = nI (qt Q1) from hc1.2.1.1.1]) ?_
        have hql : qt Q1 ≤ 400 := Nat.le_trans hc1.2.2.2.2.1 (tl_le t)
        refine ww_iald C dX4_game_62 (Or.inl Y2_2) (by omega) (by decide) ?_
        refine ww_st (st' := [.int (nI (kQ (envQ t Q1.2.2) Q1))]) (by rw [PCx.k hc1]) ?_
        refine ww_bipush C dX4_game_63 cB_33 ?_
        refine ww_icmp_eq_n (tgt := 81) C dX4_game_65 (by decide) (by omega) (by decide) (fun c_65 => ?_) (fun c_65 => ?_)
        · skip
          rw [show (qw Q1 || decide (tK t (qt Q1) = 33)) = true from by rw [c_51, decide_eq_true (show tK t (qt Q1) = 33 from c_65)]; rfl] at hm1; cases hm1
          exact ww_vret C dX4_game_81 ⟨rfl, M1, pg1, hc1, fr1⟩
        · skip
          rw [show (qw Q1 || decide (tK t (qt Q1) = 33)) = false from by rw [c_51, decide_eq_false (show ¬ tK t (qt Q1) = 33 from c_65)]; rfl] at hm1
          cases hli : liQ (envQ t Q1.2.2) f Q1 with
          | none => rw [hli] at hm1; cases hm1
          | some Q2 =>
            rw [hli] at hm1; simp only at hm1
            have l1 := li_l (tK_ok t) hQ1 hli
            have k2 := qK.tk (E := envQ t Q2.2.2) (tK_ok t) (k := 53) (by decide) l1.2.1
            have l3 := ls_l _ _ _ k2.2.1 hm1
            have hn2 : qn Q2 ≤ 800 := Nat.le_trans (k2.l.tr l3).2.2.1 hn
            have X0_3 : h1 (D 0) = some (cMd M1.1 D) := hc1.1.m
            refine ww_aload_n C dX4_game_68 rfl 0 rfl rfl ?_
            refine cv_X4_251_q (As := []) (rest := []) C dX4_game_69 (ct_X4_line (Cx.fl C) (Cx.ok C) hc1 c_51 hli hn2) (rc_X4 (Cx.ok C) (Or.inl X0_3)) rfl rfl (Nat.le_of_ble_eq_true rfl) (by omega) (Nat.zero_le _) (Nat.zero_le _) (fun z9 h9 q9 => ?_)
            obtain ⟨hq9, M9, pf9, hc9, fr9⟩ := q9; replace hq9 := hq9.symm; subst hq9
            have pg9 := pg1.tr pf9
            have fg9 := fr1.tr fr9
            have X0_4 : h9 (D 0) = some (cMd M9.1 D) := hc9.1.m
            refine ww_aload_n C dX4_game_72 rfl 0 rfl rfl ?_
            refine ww_bipush C dX4_game_73 cB_53 ?_
            refine cv_X4_164_q (As := [.int (nI 53)]) (rest := []) C dX4_game_75 (ct_X4_take (Cx.fl C) (Cx.ok C) hc9 (k := 53) (by decide) (by decide)) (rc_X4 (Cx.ok C) (Or.inl X0_4)) rfl rfl (Nat.le_of_ble_eq_true rfl) (by omega) (Nat.zero_le _) (Nat.zero_le _) (fun z5 h5 q5 => ?_)
            obtain ⟨hq5, M5, pf5, hc5, fr5⟩ := q5; replace hq5 := hq5.symm; subst hq5
            have pg5 := pg9.tr pf5.g
            have fg5 := fg9.tr fr5
            have X0_6 : h5 (D 0) = some (cMd M5.1 D) := hc5.1.m
            refine ww_goto (tgt := 47) C dX4_game_78 (by decide) ?_
            exact ih _ M5 h5 (by rw [show (tkQ (envQ t Q2.2.2) 53 Q2).2.2 = Q2.2.2 from k2.2.2.2.2.1]; exact hc5) pg5 fg5 hm1
  have X0_7 : h (D 0) = some (cMd M.1 D) := hc.1.m
  refine ww_aload_n C dX4_game_0 rfl 0 rfl rfl ?_
  refine ww_iconst C dX4_game_1 cI_0 ?_
  refine cv_X4_182_q (As := [.int (nI 0)]) (rest := []) C dX4_game_2 (ct_X4_takes (Cx.fl C) (Cx.ok C) hc (k := 0) (by decide) (by decide)) (rc_X4 (Cx.ok C) (Or.inl X0_7)) rfl rfl (Nat.le_of_ble_eq_true rfl) (by omega) (Nat.zero_le _) (Nat.zero_le _) (fun v8 z8 h8 q8 => ?_)
  obtain ⟨rfl, hq8, M8, pf8, hc8, fr8⟩ := q8; replace hq8 := hq8.symm; subst hq8
  have pg8 := (PG.rf (M := M)).tr pf8.g
  have fg8 := (FrD.rf (h := h) (D := D)).tr fr8
  have X0_9 : h8 (D 0) = some (cMd M8.1 D) := hc8.1.m
  refine ww_if_eq_b (tgt := 47) C dX4_game_5 (by decide) (fun c_5 => ?_) (fun c_5 => ?_)
  · skip
    unfold bdQ at hm; rw [c_5] at hm
    rw [if_neg (by rw [c_5]; decide)] at hc8
    exact loop g Q M8 h8 (by rw [← hEE]; exact hc8) pg8 fg8 hm
  · skip
    unfold bdQ at hm; rw [c_5] at hm; simp only at hm
    rw [if_pos c_5] at hc8
    have X0_10 : h8 (D 0) = some (cMd M8.1 D) := hc8.1.m
    have X8_10 : h8 (D 8) = some (cTd (M8.1 25) (M8.1 26) (M8.1 27) (M8.1 28) (M8.1 29) (fun i => D (30 + i))) := hc8.1.1 8 (by decide)
    refine ww_aload_n C dX4_game_8 rfl 0 rfl rfl ?_
    refine gf_X4_39_X4 C dX4_game_9 (Or.inl X0_10) rfl ?_
    refine ww_aload_n C dX4_game_12 rfl 0 rfl rfl ?_
    refine ww_iconst C dX4_game_13 cI_3 ?_
    refine ww_bipush C dX4_game_14 cB_7 ?_
    refine cv_X4_217_q (As := [.int (nI 3), .int (nI 7)]) (rest := [.ref (D 8)]) C dX4_game_16 (ct_X4_numberIn (Cx.fl C) (Cx.ok C) (lo := 3) (hi := 7) hc8 (by decide) (by decide)) (rc_X4 (Cx.ok C) (Or.inl X0_10)) rfl rfl (Nat.le_of_ble_eq_true rfl) (by omega) (Nat.zero_le _) (Nat.zero_le _) (fun vu zu hu qu => ?_)
    obtain ⟨xu, rfl, hxu, hzu, Mu, pfu, hcu, fru⟩ := qu; replace hzu := hzu.symm; subst hzu
    have pgu := pg8.tr pfu.g
    have fgu := fg8.tr fru
    have X0_11 : hu (D 0) = some (cMd Mu.1 D) := hcu.1.m
    have X8_11 : hu (D 8) = some (cTd (Mu.1 25) (Mu.1 26) (Mu.1 27) (Mu.1 28) (Mu.1 29) (fun i => D (30 + i))) := hcu.1.1 8 (by decide)
    refine pf_X4_245_X5 (fs' := [.int xu, .int (Mu.1 26), .int (Mu.1 27), .ref (D 30), .int (Mu.1 28), .ref (D 31), .ref (D 32), .ref (D 33), .ref (D 34), .ref (D 35), .ref (D 36), .int (Mu.1 29), .ref (D 37), .ref (D 38), .ref (D 39)]) C dX4_game_19 X8_11 rfl rfl (Nat.le_of_ble_eq_true rfl) rfl ?_
    refine ww_gen (fun h12 hE12 => ?_)
    have X0_11_h12 : h12 (D 0) = some (.inr (3, [.int (Mu.1 0), .ref (D 1), .int (Mu.1 1), .int (Mu.1 2), .ref (D 2), .ref (D 3), .ref (D 4), .ref (D 5), .int (Mu.1 3), .int (Mu.1 4), .int (Mu.1 5), .int (Mu.1 6), .int (Mu.1 7), .ref (D 6), .ref (D 7), .ref (D 8), .ref (D 9), .ref (D 10), .ref (D 11), .ref (D 12), .ref (D 13), .int (Mu.1 8), .int (Mu.1 9), .int (Mu.1 10)])) := by rw [hE12, up_n (fun q => by cases hcu.1.2 0 8 (by decide) (by decide) q)]; exact X0_11
    have X8_11_h12 : h12 (D 8) = some (.inr (4, [.int xu, .int (Mu.1 26), .int (Mu.1 27), .ref (D 30), .int (Mu.1 28), .ref (D 31), .ref (D 32), .ref (D 33), .ref (D 34), .ref (D 35), .ref (D 36), .int (Mu.1 29), .ref (D 37), .ref (D 38), .ref (D 39)])) := by rw [hE12]; exact up_s
    have hXub : Mx (xG X) h12 D (upd Mu.1 25 xu, Mu.2) := by rw [hE12]; exact Mx.i hcu.1 (j := 25) (Or.inr (by decide)) rfl
    have hcub : PCx (xG X) h12 D t E (upd Mu.1 25 xu, Mu.2) (scQ (E.2.1 (qt (avQ Q))) (nuQ E 3 7 (avQ Q))) := PCx.sc hcu hXub (fun q => hxu (nu_w q))
    have pgub : PG M (upd Mu.1 25 xu, Mu.2) := pgu.i (by omega)
    have fgub : FrD h h12 D := by rw [hE12]; exact FrD.w fgu (i := 8) (by decide)
    have X0_13 : h12 (D 0) = some (cMd (upd Mu.1 25 xu, Mu.2).1 D) := hcub.1.m
    refine ww_aload_n C dX4_game_22 rfl 0 rfl rfl ?_
    refine ww_iconst C dX4_game_23 cI_1 ?_
    refine cv_X4_164_q (As := [.int (nI 1)]) (rest := []) C dX4_game_24 (ct_X4_take (Cx.fl C) (Cx.ok C) hcub (k := 1) (by decide) (by decide)) (rc_X4 (Cx.ok C) (Or.inl X0_13)) rfl rfl (Nat.le_of_ble_eq_true rfl) (by omega) (Nat.zero_le _) (Nat.zero_le _) (fun z14 h14 q14 => ?_)
    obtain ⟨hq14, M14, pf14, hc14, fr14⟩ := q14; replace hq14 := hq14.symm; subst hq14
    have pg14 := pgub.tr pf14.g
    have fg14 := fgub.tr fr14
    have X0_15 : h14 (D 0) = some (cMd M14.1 D) := hc14.1.m
    have X0_16 : h14 (D 0) = some (cMd M14.1 D) := hc14.1.m
    have X8_16 : h14 (D 8) = some (cTd (M14.1 25) (M14.1 26) (M14.1 27) (M14.1 28) (M14.1 29) (fun i => D (30 + i))) := hc14.1.1 8 (by decide)
    refine ww_aload_n C dX4_game_27 rfl 0 rfl rfl ?_
    refine gf_X4_39_X4 C dX4_game_28 (Or.inl X0_16) rfl ?_
    refine ww_aload_n C dX4_game_31 rfl 0 rfl rfl ?_
    refine ww_iconst C dX4_game_32 cI_3 ?_
    refine ww_bipush C dX4_game_33 cB_7 ?_
    refine cv_X4_217_q (As := [.int (nI 3), .int (nI 7)]) (rest := [.ref (D 8)]) C dX4_game_35 (ct_X4_numberIn (Cx.fl C) (Cx.ok C) (lo := 3) (hi := 7) hc14 (by decide) (by decide)) (rc_X4 (Cx.ok C) (Or.inl X0_16)) rfl rfl (Nat.le_of_ble_eq_true rfl) (by omega) (Nat.zero_le _) (Nat.zero_le _) (fun vv zv hv qv => ?_)
    obtain ⟨xv, rfl, hxv, hzv, Mv, pfv, hcv, frv⟩ := qv; replace hzv := hzv.symm; subst hzv
    have pgv := pg14.tr pfv.g
    have fgv := fg14.tr frv
    have X0_17 : hv (D 0) = some (cMd Mv.1 D) := hcv.1.m
    have X8_17 : hv (D 8) = some (cTd (Mv.1 25) (Mv.1 26) (Mv.1 27) (Mv.1 28) (Mv.1 29) (fun i => D (30 + i))) := hcv.1.1 8 (by decide)
    refine pf_X4_248_X5 (fs' := [.int (Mv.1 25), .int xv, .int (Mv.1 27), .ref (D 30), .int (Mv.1 28), .ref (D 31), .ref (D 32), .ref (D 33), .ref (D 34), .ref (D 35), .ref (D 36), .int (Mv.1 29), .ref (D 37), .ref (D 38), .ref (D 39)]) C dX4_game_38 X8_17 rfl rfl (Nat.le_of_ble_eq_true rfl) rfl ?_
    refine ww_gen (fun h18 hE18 => ?_)
    have X0_17_h18 : h18 (D 0) = some (.inr (3, [.int (Mv.1 0), .ref (D 1), .int (Mv.1 1), .int (Mv.1 2), .ref (D 2), .ref (D 3), .ref (D 4), .ref (D 5), .int (Mv.1 3), .int (Mv.1 4), .int (Mv.1 5), .int (Mv.1 6), .int (Mv.1 7), .ref (D 6), .ref (D 7), .ref (D 8), .ref (D 9), .ref (D 10), .ref (D 11), .ref (D 12), .ref (D 13), .int (Mv.1 8), .int (Mv.1 9), .int (Mv.1 10)])) := by rw [hE18, up_n (fun q => by cases hcv.1.2 0 8 (by decide) (by decide) q)]; exact X0_17
    have X8_17_h18 : h18 (D 8) = some (.inr (4, [.int (Mv.1 25), .int xv, .int (Mv.1 27), .ref (D 30), .int (Mv.1 28), .ref (D 31), .ref (D 32), .ref (D 33), .ref (D 34), .ref (D 35), .ref (D 36), .int (Mv.1 29), .ref (D 37), .ref (D 38), .ref (D 39)])) := by rw [hE18]; exact up_s
    have hXvb : Mx (xG X) h18 D (upd Mv.1 26 xv, Mv.2) := by rw [hE18]; exact Mx.i hcv.1 (j := 26) (Or.inr (by decide)) rfl
    have hcvb : PCx (xG X) h18 D t E (upd Mv.1 26 xv, Mv.2) (srQ (E.2.1 (qt (b1Q E Q))) (nuQ E 3 7 (b1Q E Q))) := PCx.sr hcv hXvb (fun q => hxv (nu_w q))
    have pgvb : PG M (upd Mv.1 26 xv, Mv.2) := pgv.i (by omega)
    have fgvb : FrD h h18 D := by rw [hE18]; exact FrD.w fgv (i := 8) (by decide)
    have X0_19 : h18 (D 0) = some (cMd (upd Mv.1 26 xv, Mv.2).1 D) := hcvb.1.m
    refine ww_aload_n C dX4_game_41 rfl 0 rfl rfl ?_
    refine ww_bipush C dX4_game_42 cB_53 ?_
    refine cv_X4_164_q (As := [.int (nI 53)]) (rest := []) C dX4_game_44 (ct_X4_take (Cx.fl C) (Cx.ok C) hcvb (k := 53) (by decide) (by decide)) (rc_X4 (Cx.ok C) (Or.inl X0_19)) rfl rfl (Nat.le_of_ble_eq_true rfl) (by omega) (Nat.zero_le _) (Nat.zero_le _) (fun z20 h20 q20 => ?_)
    obtain ⟨hq20, M20, pf20, hc20, fr20⟩ := q20; replace hq20 := hq20.symm; subst hq20
    have pg20 := pgvb.tr pf20.g
    have fg20 := fgvb.tr fr20
    have X0_21 : h20 (D 0) = some (cMd M20.1 D) := hc20.1.m
    have hE9 : E = envQ t (tkQ E 53 (srQ (E.2.1 (qt (b1Q E Q))) (nuQ E 3 7 (b1Q E Q)))).2.2 := hc20.2.2.2.1
    exact loop g _ M20 h20 (by rw [← hE9]; exact hc20) pg20 fg20 hm
end MO23
