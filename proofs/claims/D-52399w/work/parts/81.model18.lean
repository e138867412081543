section MO18
set_option maxRecDepth 100000
set_option maxHeartbeats 2000000 in
theorem ct_X4_is {l : Launch} {Γ : Gm} (hl : l.flags = flags0) (hΓ : GOK Γ) {z : ZR} {h : AH} {D : Nat → Nat} {t : TP} {E : PE} {M : MS} {Q : QS} {k : Nat} (hc : PCx Γ h D t E M Q) (hk : k < 2 ^ 31) : Ct l Γ yX4_is cX4_is 2 (some .boolean) 1 0 0 [.ref (D 0), .int (nI k)] z h (RdP z h (some (.int (bI (isQ E Q k))))) := by
  refine Ct.of hl hΓ (by decide +kernel) (Nat.le_of_ble_eq_true rfl) (fun X e1 e2 C => ?_)
  subst e1; subst e2
  have C : Cx X cX4_is 2 "RingDominoModel" "is" (some .boolean) [] 1 := C
  have hK := hc.K
  have hkl : kQ E Q ≤ 54 := kQ_le hK hc.2.2.2.2.1
  show WW X (RdP z h (some (.int (bI (isQ E Q k))))) z h 0 0 0 [(0, .ref (D 0)), (1, .int (nI k))] []
  have X0_1 : h (D 0) = some (cMd M.1 D) := hc.1.m
  refine ww_aload_n C dX4_is_0 rfl 0 rfl rfl ?_
  refine gf_X4_116_X4 C dX4_is_1 (Or.inl X0_1) rfl ?_
  refine ww_st (st' := [.int (bI (qw Q))]) (by rw [show M.1 4 = bI (qw Q) from hc.2.1.1.2.1]) ?_
  refine ww_if_ne_b (tgt := 24) C dX4_is_4 (by decide) (fun c_4 => ?_) (fun c_4 => ?_)
  · skip
    refine ww_iconst C dX4_is_24 cI_0 ?_
    exact ww_zret C dX4_is_25 nar_z0 (RdP.i (by unfold isQ; rw [c_4]; try rfl))
  · skip
    have X0_2 : h (D 0) = some (cMd M.1 D) := hc.1.m
    have Y2_2 : h (D 2) = some (cI (xG X) 402 (M.2.1 2)) := hc.1.1 2 (by decide)
    refine ww_aload_n C dX4_is_7 rfl 0 rfl rfl ?_
    refine gf_X4_17_X4 C dX4_is_8 (Or.inl X0_2) rfl ?_
    refine ww_aload_n C dX4_is_11 rfl 0 rfl rfl ?_
    refine gf_X4_120_X4 C dX4_is_12 (Or.inl X0_2) rfl ?_
    refine ww_st (st' := [.int (nI (qt Q)), .ref (D 2)]) (by rw [show M.1 3 = nI (qt Q) from hc.2.1.1.1]) ?_
    have hql : qt Q ≤ 400 := Nat.le_trans hc.2.2.2.2.1 (tl_le t)
    refine ww_iald C dX4_is_15 (Or.inl Y2_2) (by omega) (by decide) ?_
    refine ww_st (st' := [.int (nI (kQ E Q))]) (by rw [PCx.k hc]) ?_
    refine ww_iload_n C dX4_is_16 rfl 1 rfl ?_
    refine ww_tern_icmp_ne_n C dX4_is_17 dX4_is_20 dX4_is_21 dX4_is_24 (by omega) (by omega) ?_
    exact ww_zret C dX4_is_25 (nar_bI _) (RdP.i (by unfold isQ; rw [c_4]; try rfl))
set_option maxHeartbeats 2000000 in
theorem ct_X4_wrong {l : Launch} {Γ : Gm} (hl : l.flags = flags0) (hΓ : GOK Γ) {z : ZR} {h : AH} {D : Nat → Nat} {t : TP} {E : PE} {M : MS} {Q : QS}  (hc : PCx Γ h D t E M Q)  : Ct l Γ yX4_wrong cX4_wrong 1 none 1 0 0 [.ref (D 0)] z h (Rn (PP Γ z h D t E M (wrQ Q))) := by
  refine Ct.of hl hΓ (by decide +kernel) (Nat.le_of_ble_eq_true rfl) (fun X e1 e2 C => ?_)
  subst e1; subst e2
  have C : Cx X cX4_wrong 1 "RingDominoModel" "wrong" none [] 1 := C
  show WW X (Rn (PP (xG X) z h D t E M (wrQ Q))) z h 0 0 0 [(0, .ref (D 0))] []
  have X0_1 : h (D 0) = some (cMd M.1 D) := hc.1.m
  refine ww_aload_n C dX4_wrong_0 rfl 0 rfl rfl ?_
  refine gf_X4_116_X4 C dX4_wrong_1 (Or.inl X0_1) rfl ?_
  refine ww_st (st' := [.int (bI (qw Q))]) (by rw [show M.1 4 = bI (qw Q) from hc.2.1.1.2.1]) ?_
  refine ww_if_eq_b (tgt := 8) C dX4_wrong_4 (by decide) (fun c_4 => ?_) (fun c_4 => ?_)
  · skip
    refine ww_aload_n C dX4_wrong_8 rfl 0 rfl rfl ?_
    refine ww_iconst C dX4_wrong_9 cI_1 ?_
    refine pf_X4_116_X4 (fs' := [.int (M.1 0), .ref (D 1), .int (M.1 1), .int (M.1 2), .ref (D 2), .ref (D 3), .ref (D 4), .ref (D 5), .int (M.1 3), .int (nI 1), .int (M.1 5), .int (M.1 6), .int (M.1 7), .ref (D 6), .ref (D 7), .ref (D 8), .ref (D 9), .ref (D 10), .ref (D 11), .ref (D 12), .ref (D 13), .int (M.1 8), .int (M.1 9), .int (M.1 10)]) C dX4_wrong_10 X0_1 nar_z1 fit_z1 (Nat.le_of_ble_eq_true rfl) rfl ?_
    refine ww_gen (fun h2 hE2 => ?_)
    have X0_1_h2 : h2 (D 0) = some (.inr (3, [.int (M.1 0), .ref (D 1), .int (M.1 1), .int (M.1 2), .ref (D 2), .ref (D 3), .ref (D 4), .ref (D 5), .int (M.1 3), .int (nI 1), .int (M.1 5), .int (M.1 6), .int (M.1 7), .ref (D 6), .ref (D 7), .ref (D 8), .ref (D 9), .ref (D 10), .ref (D 11), .ref (D 12), .ref (D 13), .int (M.1 8), .int (M.1 9), .int (M.1 10)])) := by rw [hE2]; exact up_s
    refine ww_aload_n C dX4_wrong_13 rfl 0 rfl rfl ?_
    refine ww_iconst C dX4_wrong_14 cI_1 ?_
    refine pf_X4_123_X4 (fs' := [.int (M.1 0), .ref (D 1), .int (M.1 1), .int (M.1 2), .ref (D 2), .ref (D 3), .ref (D 4), .ref (D 5), .int (M.1 3), .int (nI 1), .int (nI 1), .int (M.1 6), .int (M.1 7), .ref (D 6), .ref (D 7), .ref (D 8), .ref (D 9), .ref (D 10), .ref (D 11), .ref (D 12), .ref (D 13), .int (M.1 8), .int (M.1 9), .int (M.1 10)]) C dX4_wrong_15 X0_1_h2 rfl rfl (Nat.le_of_ble_eq_true rfl) rfl ?_
    refine ww_gen (fun h3 hE3 => ?_)
    have X0_1_h3 : h3 (D 0) = some (.inr (3, [.int (M.1 0), .ref (D 1), .int (M.1 1), .int (M.1 2), .ref (D 2), .ref (D 3), .ref (D 4), .ref (D 5), .int (M.1 3), .int (nI 1), .int (nI 1), .int (M.1 6), .int (M.1 7), .ref (D 6), .ref (D 7), .ref (D 8), .ref (D 9), .ref (D 10), .ref (D 11), .ref (D 12), .ref (D 13), .int (M.1 8), .int (M.1 9), .int (M.1 10)])) := by rw [hE3]; exact up_s
    refine ww_aload_n C dX4_wrong_18 rfl 0 rfl rfl ?_
    refine ww_aload_n C dX4_wrong_19 rfl 0 rfl rfl ?_
    refine gf_X4_120_X4 C dX4_wrong_20 (Or.inl X0_1_h3) rfl ?_
    refine ww_st (st' := [.int (nI (qt Q)), .ref (D 0)]) (by show [Value.int (upd (upd M.1 4 (nI 1)) 5 (nI 1) 3), .ref (D 0)] = [_, _]; rw [upd_ne (by decide), upd_ne (by decide), show M.1 3 = nI (qt Q) from hc.2.1.1.1]) ?_
    refine pf_X4_126_X4 (fs' := [.int (M.1 0), .ref (D 1), .int (M.1 1), .int (M.1 2), .ref (D 2), .ref (D 3), .ref (D 4), .ref (D 5), .int (M.1 3), .int (nI 1), .int (nI 1), .int (nI (qt Q)), .int (M.1 7), .ref (D 6), .ref (D 7), .ref (D 8), .ref (D 9), .ref (D 10), .ref (D 11), .ref (D 12), .ref (D 13), .int (M.1 8), .int (M.1 9), .int (M.1 10)]) C dX4_wrong_23 X0_1_h3 rfl rfl (Nat.le_of_ble_eq_true rfl) rfl ?_
    refine ww_gen (fun h4 hE4 => ?_)
    have X0_1_h4 : h4 (D 0) = some (.inr (3, [.int (M.1 0), .ref (D 1), .int (M.1 1), .int (M.1 2), .ref (D 2), .ref (D 3), .ref (D 4), .ref (D 5), .int (M.1 3), .int (nI 1), .int (nI 1), .int (nI (qt Q)), .int (M.1 7), .ref (D 6), .ref (D 7), .ref (D 8), .ref (D 9), .ref (D 10), .ref (D 11), .ref (D 12), .ref (D 13), .int (M.1 8), .int (M.1 9), .int (M.1 10)])) := by rw [hE4]; exact up_s
    have hX9 : Mx (xG X) h4 D (upd (upd (upd M.1 4 (nI 1)) 5 (nI 1)) 6 (nI (qt Q)), M.2) := by rw [hE4, hE3, hE2]; exact Mx.i (Mx.i (Mx.i hc.1 (j := 4) (Or.inl (by decide)) rfl) (j := 5) (Or.inl (by decide)) rfl) (j := 6) (Or.inl (by decide)) rfl
    have pf9 : PF M (upd (upd (upd M.1 4 (nI 1)) 5 (nI 1)) 6 (nI (qt Q)), M.2) := ((PF.rf.i (by omega)).i (by omega)).i (by omega)
    have hw : wrQ Q = ((qt Q, true, 1, qt Q, qd Q), Q.2) := by unfold wrQ; rw [c_4]; rfl
    have hc9 : PCx (xG X) h4 D t E (upd (upd (upd M.1 4 (nI 1)) 5 (nI 1)) 6 (nI (qt Q)), M.2) (wrQ Q) := PCx.go hc pf9 hX9 (VQ.wr hc.2.1 c_4) (qK.wr hc.2.2.2.2.1) (by rw [hw]; exact hc.2.2.2.2.2.2.2.2.2.1) (by rw [hw]; exact ⟨(by decide : 1 ≤ 5), fun _ => rfl, fun _ => hc.2.2.2.2.1⟩)
    exact ww_vret C dX4_wrong_26 ⟨rfl, _, pf9, hc9, by rw [hE4, hE3, hE2]; exact FrD.w (FrD.w (FrD.w FrD.rf (i := 0) (by decide)) (i := 0) (by decide)) (i := 0) (by decide)⟩
  · skip
    exact ww_vret C dX4_wrong_7 ⟨rfl, M, PF.rf, by unfold wrQ; rw [c_4]; exact hc, FrD.rf⟩
set_option maxHeartbeats 2000000 in
theorem ct_X4_take {l : Launch} {Γ : Gm} (hl : l.flags = flags0) (hΓ : GOK Γ) {z : ZR} {h : AH} {D : Nat → Nat} {t : TP} {E : PE} {M : MS} {Q : QS} {k : Nat} (hc : PCx Γ h D t E M Q) (hk : k < 2 ^ 31) (hk2 : k ≠ 32 ∧ k ≠ 33) : Ct l Γ yX4_take cX4_take 2 none 2 0 0 [.ref (D 0), .int (nI k)] z h (Rn (PP Γ z h D t E M (tkQ E k Q))) := by
  refine Ct.of hl hΓ (by decide +kernel) (Nat.le_of_ble_eq_true rfl) (fun X e1 e2 C => ?_)
  subst e1; subst e2
  have C : Cx X cX4_take 2 "RingDominoModel" "take" none [] 2 := C
  have hK := hc.K
  show WW X (Rn (PP (xG X) z h D t E M (tkQ E k Q))) z h 0 0 0 [(0, .ref (D 0)), (1, .int (nI k))] []
  have X0_1 : h (D 0) = some (cMd M.1 D) := hc.1.m
  refine ww_aload_n C dX4_take_0 rfl 0 rfl rfl ?_
  refine ww_iload_n C dX4_take_1 rfl 1 rfl ?_
  refine cv_X4_129_r (As := [.int (nI k)]) (rest := []) C dX4_take_2 (ct_X4_is (Cx.fl C) (Cx.ok C) hc (by omega)) (rc_X4 (Cx.ok C) (Or.inl X0_1)) rfl rfl (Nat.le_of_ble_eq_true rfl) (by omega) (Nat.zero_le _) (Nat.zero_le _) ?_
  refine ww_if_eq_b (tgt := 21) C dX4_take_5 (by decide) (fun c_5 => ?_) (fun c_5 => ?_)
  · skip
    have X0_2 : h (D 0) = some (cMd M.1 D) := hc.1.m
    refine ww_aload_n C dX4_take_21 rfl 0 rfl rfl ?_
    refine cv_X4_132_q (As := []) (rest := []) C dX4_take_22 (ct_X4_wrong (Cx.fl C) (Cx.ok C) hc ) (rc_X4 (Cx.ok C) (Or.inl X0_2)) rfl rfl (Nat.le_of_ble_eq_true rfl) (by omega) (Nat.zero_le _) (Nat.zero_le _) (fun z3 h3 q3 => ?_)
    obtain ⟨hq3, M3, pf3, hc3, fr3⟩ := q3; replace hq3 := hq3.symm; subst hq3
    have pg3 := (PF.rf (M := M)).tr pf3
    have fg3 := (FrD.rf (h := h) (D := D)).tr fr3
    have X0_4 : h3 (D 0) = some (cMd M3.1 D) := hc3.1.m
    exact ww_vret C dX4_take_25 (by unfold tkQ; rw [c_5]; exact ⟨rfl, M3, pg3, hc3, fg3⟩)
  · skip
    have X0_5 : h (D 0) = some (cMd M.1 D) := hc.1.m
    refine ww_aload_n C dX4_take_8 rfl 0 rfl rfl ?_
    refine ww_dup C dX4_take_9 rfl ?_
    refine gf_X4_120_X4 C dX4_take_10 (Or.inl X0_5) rfl ?_
    refine ww_st (st' := [.int (nI (qt Q)), .ref (D 0)]) (by rw [show M.1 3 = nI (qt Q) from hc.2.1.1.1]) ?_
    refine ww_iconst C dX4_take_13 cI_1 ?_
    refine ww_iaddn C dX4_take_14 ?_
    refine pf_X4_120_X4 (fs' := [.int (M.1 0), .ref (D 1), .int (M.1 1), .int (M.1 2), .ref (D 2), .ref (D 3), .ref (D 4), .ref (D 5), .int (nI ((qt Q) + 1)), .int (M.1 4), .int (M.1 5), .int (M.1 6), .int (M.1 7), .ref (D 6), .ref (D 7), .ref (D 8), .ref (D 9), .ref (D 10), .ref (D 11), .ref (D 12), .ref (D 13), .int (M.1 8), .int (M.1 9), .int (M.1 10)]) C dX4_take_15 X0_5 rfl rfl (Nat.le_of_ble_eq_true rfl) rfl ?_
    refine ww_gen (fun h6 hE6 => ?_)
    have X0_5_h6 : h6 (D 0) = some (.inr (3, [.int (M.1 0), .ref (D 1), .int (M.1 1), .int (M.1 2), .ref (D 2), .ref (D 3), .ref (D 4), .ref (D 5), .int (nI ((qt Q) + 1)), .int (M.1 4), .int (M.1 5), .int (M.1 6), .int (M.1 7), .ref (D 6), .ref (D 7), .ref (D 8), .ref (D 9), .ref (D 10), .ref (D 11), .ref (D 12), .ref (D 13), .int (M.1 8), .int (M.1 9), .int (M.1 10)])) := by rw [hE6]; exact up_s
    have hX7 : Mx (xG X) h6 D (upd M.1 3 (nI (qt Q + 1)), M.2) := by rw [hE6]; exact Mx.i hc.1 (j := 3) (Or.inl (by decide)) rfl
    have pf7 : PF M (upd M.1 3 (nI (qt Q + 1)), M.2) := PF.rf.i (by omega)
    have hc7 : PCx (xG X) h6 D t E (upd M.1 3 (nI (qt Q + 1)), M.2) (avQ Q) := PCx.go hc pf7 hX7 (VQ.av hc.2.1) (qK.av (isQ_lt hK hc.2.2.2.2.1 hk2 c_5)) hc.2.2.2.2.2.2.2.2.2.1 hc.2.2.2.2.2.2.2.2.2.2.1
    have pg7 := (PF.rf (M := M)).tr pf7
    have fg7 : FrD h h6 D := by rw [hE6]; exact FrD.w FrD.rf (i := 0) (by decide)
    have X0_8 : h6 (D 0) = some (cMd (upd M.1 3 (nI (qt Q + 1)), M.2).1 D) := hc7.1.m
    refine ww_goto (tgt := 25) C dX4_take_18 (by decide) ?_
    exact ww_vret C dX4_take_25 (by unfold tkQ; rw [c_5]; exact ⟨rfl, (upd M.1 3 (nI (qt Q + 1)), M.2), pg7, hc7, fg7⟩)
set_option maxHeartbeats 2000000 in
theorem ct_X4_takes {l : Launch} {Γ : Gm} (hl : l.flags = flags0) (hΓ : GOK Γ) {z : ZR} {h : AH} {D : Nat → Nat} {t : TP} {E : PE} {M : MS} {Q : QS} {k : Nat} (hc : PCx Γ h D t E M Q) (hk : k < 2 ^ 31) (hk2 : k ≠ 32 ∧ k ≠ 33) : Ct l Γ yX4_takes cX4_takes 2 (some .boolean) 2 0 0 [.ref (D 0), .int (nI k)] z h (Rv (fun v z' h' => v = .int (bI (isQ E Q k)) ∧ PP Γ z h D t E M (if isQ E Q k then avQ Q else Q) z' h')) := by
  refine Ct.of hl hΓ (by decide +kernel) (Nat.le_of_ble_eq_true rfl) (fun X e1 e2 C => ?_)
  subst e1; subst e2
  have C : Cx X cX4_takes 2 "RingDominoModel" "takes" (some .boolean) [] 2 := C
  have hK := hc.K
  show WW X (Rv (fun v z' h' => v = .int (bI (isQ E Q k)) ∧ PP (xG X) z h D t E M (if isQ E Q k then avQ Q else Q) z' h')) z h 0 0 0 [(0, .ref (D 0)), (1, .int (nI k))] []
  have X0_1 : h (D 0) = some (cMd M.1 D) := hc.1.m
  refine ww_aload_n C dX4_takes_0 rfl 0 rfl rfl ?_
  refine ww_iload_n C dX4_takes_1 rfl 1 rfl ?_
  refine cv_X4_129_r (As := [.int (nI k)]) (rest := []) C dX4_takes_2 (ct_X4_is (Cx.fl C) (Cx.ok C) hc (by omega)) (rc_X4 (Cx.ok C) (Or.inl X0_1)) rfl rfl (Nat.le_of_ble_eq_true rfl) (by omega) (Nat.zero_le _) (Nat.zero_le _) ?_
  refine ww_if_ne_b (tgt := 10) C dX4_takes_5 (by decide) (fun c_5 => ?_) (fun c_5 => ?_)
  · skip
    have X0_2 : h (D 0) = some (cMd M.1 D) := hc.1.m
    refine ww_aload_n C dX4_takes_10 rfl 0 rfl rfl ?_
    refine ww_dup C dX4_takes_11 rfl ?_
    refine gf_X4_120_X4 C dX4_takes_12 (Or.inl X0_2) rfl ?_
    refine ww_st (st' := [.int (nI (qt Q)), .ref (D 0)]) (by rw [show M.1 3 = nI (qt Q) from hc.2.1.1.1]) ?_
    refine ww_iconst C dX4_takes_15 cI_1 ?_
    refine ww_iaddn C dX4_takes_16 ?_
    refine pf_X4_120_X4 (fs' := [.int (M.1 0), .ref (D 1), .int (M.1 1), .int (M.1 2), .ref (D 2), .ref (D 3), .ref (D 4), .ref (D 5), .int (nI ((qt Q) + 1)), .int (M.1 4), .int (M.1 5), .int (M.1 6), .int (M.1 7), .ref (D 6), .ref (D 7), .ref (D 8), .ref (D 9), .ref (D 10), .ref (D 11), .ref (D 12), .ref (D 13), .int (M.1 8), .int (M.1 9), .int (M.1 10)]) C dX4_takes_17 X0_2 rfl rfl (Nat.le_of_ble_eq_true rfl) rfl ?_
    refine ww_gen (fun h3 hE3 => ?_)
    have X0_2_h3 : h3 (D 0) = some (.inr (3, [.int (M.1 0), .ref (D 1), .int (M.1 1), .int (M.1 2), .ref (D 2), .ref (D 3), .ref (D 4), .ref (D 5), .int (nI ((qt Q) + 1)), .int (M.1 4), .int (M.1 5), .int (M.1 6), .int (M.1 7), .ref (D 6), .ref (D 7), .ref (D 8), .ref (D 9), .ref (D 10), .ref (D 11), .ref (D 12), .ref (D 13), .int (M.1 8), .int (M.1 9), .int (M.1 10)])) := by rw [hE3]; exact up_s
    have hX4 : Mx (xG X) h3 D (upd M.1 3 (nI (qt Q + 1)), M.2) := by rw [hE3]; exact Mx.i hc.1 (j := 3) (Or.inl (by decide)) rfl
    have pf4 : PF M (upd M.1 3 (nI (qt Q + 1)), M.2) := PF.rf.i (by omega)
    have hc4 : PCx (xG X) h3 D t E (upd M.1 3 (nI (qt Q + 1)), M.2) (avQ Q) := PCx.go hc pf4 hX4 (VQ.av hc.2.1) (qK.av (isQ_lt hK hc.2.2.2.2.1 hk2 c_5)) hc.2.2.2.2.2.2.2.2.2.1 hc.2.2.2.2.2.2.2.2.2.2.1
    have pg4 := (PF.rf (M := M)).tr pf4
    have fg4 : FrD h h3 D := by rw [hE3]; exact FrD.w FrD.rf (i := 0) (by decide)
    have X0_5 : h3 (D 0) = some (cMd (upd M.1 3 (nI (qt Q + 1)), M.2).1 D) := hc4.1.m
    refine ww_iconst C dX4_takes_20 cI_1 ?_
    exact ww_zret C dX4_takes_21 nar_z1 ⟨(by rw [c_5]; rfl), (by rw [c_5]; exact ⟨rfl, (upd M.1 3 (nI (qt Q + 1)), M.2), pg4, hc4, fg4⟩)⟩
  · skip
    refine ww_iconst C dX4_takes_8 cI_0 ?_
    exact ww_zret C dX4_takes_9 nar_z0 ⟨(by rw [c_5]; rfl), (by rw [c_5]; exact ⟨rfl, M, PF.rf, hc, FrD.rf⟩)⟩
set_option maxHeartbeats 2000000 in
theorem ct_X4_deeper {l : Launch} {Γ : Gm} (hl : l.flags = flags0) (hΓ : GOK Γ) {z : ZR} {h : AH} {D : Nat → Nat} {t : TP} {E : PE} {M : MS} {Q : QS}  (hc : PCx Γ h D t E M Q) (hw : qw Q = false) (hlt : qt Q < tl t) : Ct l Γ yX4_deeper cX4_deeper 1 none 2 0 0 [.ref (D 0)] z h (Rn (PP Γ z h D t E M (dpQ Q))) := by
  refine Ct.of hl hΓ (by decide +kernel) (Nat.le_of_ble_eq_true rfl) (fun X e1 e2 C => ?_)
  subst e1; subst e2
  have C : Cx X cX4_deeper 1 "RingDominoModel" "deeper" none [] 2 := C
  have hd8 := hc.2.2.2.2.2.2.2.2.2.2.2.2 hw
  show WW X (Rn (PP (xG X) z h D t E M (dpQ Q))) z h 0 0 0 [(0, .ref (D 0))] []
  have X0_1 : h (D 0) = some (cMd M.1 D) := hc.1.m
  refine ww_aload_n C dX4_deeper_0 rfl 0 rfl rfl ?_
  refine gf_X4_135_X4 C dX4_deeper_1 (Or.inl X0_1) rfl ?_
  refine ww_st (st' := [.int (nI (qd Q))]) (by rw [show M.1 7 = nI (qd Q) from hc.2.1.1.2.2.2.2]) ?_
  refine ww_bipush C dX4_deeper_4 cB_8 ?_
  refine ww_icmp_ne_n (tgt := 16) C dX4_deeper_6 (by decide) (by omega) (by decide) (fun c_6 => ?_) (fun c_6 => ?_)
  · skip
    have X0_2 : h (D 0) = some (cMd M.1 D) := hc.1.m
    refine ww_aload_n C dX4_deeper_16 rfl 0 rfl rfl ?_
    refine ww_dup C dX4_deeper_17 rfl ?_
    refine gf_X4_120_X4 C dX4_deeper_18 (Or.inl X0_2) rfl ?_
    refine ww_st (st' := [.int (nI (qt Q)), .ref (D 0)]) (by rw [show M.1 3 = nI (qt Q) from hc.2.1.1.1]) ?_
    refine ww_iconst C dX4_deeper_21 cI_1 ?_
    refine ww_iaddn C dX4_deeper_22 ?_
    refine pf_X4_120_X4 (fs' := [.int (M.1 0), .ref (D 1), .int (M.1 1), .int (M.1 2), .ref (D 2), .ref (D 3), .ref (D 4), .ref (D 5), .int (nI ((qt Q) + 1)), .int (M.1 4), .int (M.1 5), .int (M.1 6), .int (M.1 7), .ref (D 6), .ref (D 7), .ref (D 8), .ref (D 9), .ref (D 10), .ref (D 11), .ref (D 12), .ref (D 13), .int (M.1 8), .int (M.1 9), .int (M.1 10)]) C dX4_deeper_23 X0_2 rfl rfl (Nat.le_of_ble_eq_true rfl) rfl ?_
    refine ww_gen (fun h3 hE3 => ?_)
    have X0_2_h3 : h3 (D 0) = some (.inr (3, [.int (M.1 0), .ref (D 1), .int (M.1 1), .int (M.1 2), .ref (D 2), .ref (D 3), .ref (D 4), .ref (D 5), .int (nI ((qt Q) + 1)), .int (M.1 4), .int (M.1 5), .int (M.1 6), .int (M.1 7), .ref (D 6), .ref (D 7), .ref (D 8), .ref (D 9), .ref (D 10), .ref (D 11), .ref (D 12), .ref (D 13), .int (M.1 8), .int (M.1 9), .int (M.1 10)])) := by rw [hE3]; exact up_s
    have hX4 : Mx (xG X) h3 D (upd M.1 3 (nI (qt Q + 1)), M.2) := by rw [hE3]; exact Mx.i hc.1 (j := 3) (Or.inl (by decide)) rfl
    have pf4 : PF M (upd M.1 3 (nI (qt Q + 1)), M.2) := PF.rf.i (by omega)
    have hc4 : PCx (xG X) h3 D t E (upd M.1 3 (nI (qt Q + 1)), M.2) (avQ Q) := PCx.go hc pf4 hX4 (VQ.av hc.2.1) (qK.av hlt) hc.2.2.2.2.2.2.2.2.2.1 hc.2.2.2.2.2.2.2.2.2.2.1
    have pg4 := (PF.rf (M := M)).tr pf4
    have fg4 : FrD h h3 D := by rw [hE3]; exact FrD.w FrD.rf (i := 0) (by decide)
    have X0_5 : h3 (D 0) = some (cMd (upd M.1 3 (nI (qt Q + 1)), M.2).1 D) := hc4.1.m
    refine ww_aload_n C dX4_deeper_26 rfl 0 rfl rfl ?_
    refine ww_dup C dX4_deeper_27 rfl ?_
    refine gf_X4_135_X4 C dX4_deeper_28 (Or.inl X0_5) rfl ?_
    refine ww_st (st' := [.int (nI (qd (avQ Q))), .ref (D 0)]) (by rw [show (upd M.1 3 (nI (qt Q + 1)), M.2).1 7 = nI (qd (avQ Q)) from hc4.2.1.1.2.2.2.2]) ?_
    refine ww_iconst C dX4_deeper_31 cI_1 ?_
    refine ww_iaddn C dX4_deeper_32 ?_
    refine pf_X4_135_X4 (fs' := [.int ((upd M.1 3 (nI (qt Q + 1)), M.2).1 0), .ref (D 1), .int ((upd M.1 3 (nI (qt Q + 1)), M.2).1 1), .int ((upd M.1 3 (nI (qt Q + 1)), M.2).1 2), .ref (D 2), .ref (D 3), .ref (D 4), .ref (D 5), .int ((upd M.1 3 (nI (qt Q + 1)), M.2).1 3), .int ((upd M.1 3 (nI (qt Q + 1)), M.2).1 4), .int ((upd M.1 3 (nI (qt Q + 1)), M.2).1 5), .int ((upd M.1 3 (nI (qt Q + 1)), M.2).1 6), .int (nI ((qd (avQ Q)) + 1)), .ref (D 6), .ref (D 7), .ref (D 8), .ref (D 9), .ref (D 10), .ref (D 11), .ref (D 12), .ref (D 13), .int ((upd M.1 3 (nI (qt Q + 1)), M.2).1 8), .int ((upd M.1 3 (nI (qt Q + 1)), M.2).1 9), .int ((upd M.1 3 (nI (qt Q + 1)), M.2).1 10)]) C dX4_deeper_33 X0_5 rfl rfl (Nat.le_of_ble_eq_true rfl) rfl ?_
    refine ww_gen (fun h6 hE6 => ?_)
    have X0_5_h6 : h6 (D 0) = some (.inr (3, [.int ((upd M.1 3 (nI (qt Q + 1)), M.2).1 0), .ref (D 1), .int ((upd M.1 3 (nI (qt Q + 1)), M.2).1 1), .int ((upd M.1 3 (nI (qt Q + 1)), M.2).1 2), .ref (D 2), .ref (D 3), .ref (D 4), .ref (D 5), .int ((upd M.1 3 (nI (qt Q + 1)), M.2).1 3), .int ((upd M.1 3 (nI (qt Q + 1)), M.2).1 4), .int ((upd M.1 3 (nI (qt Q + 1)), M.2).1 5), .int ((upd M.1 3 (nI (qt Q + 1)), M.2).1 6), .int (nI ((qd (avQ Q)) + 1)), .ref (D 6), .ref (D 7), .ref (D 8), .ref (D 9), .ref (D 10), .ref (D 11), .ref (D 12), .ref (D 13), .int ((upd M.1 3 (nI (qt Q + 1)), M.2).1 8), .int ((upd M.1 3 (nI (qt Q + 1)), M.2).1 9), .int ((upd M.1 3 (nI (qt Q + 1)), M.2).1 10)])) := by rw [hE6]; exact up_s
    have hX7 : Mx (xG X) h6 D (upd (upd M.1 3 (nI (qt Q + 1)), M.2).1 7 (nI (qd (avQ Q) + 1)), (upd M.1 3 (nI (qt Q + 1)), M.2).2) := by rw [hE6]; exact Mx.i hc4.1 (j := 7) (Or.inl (by decide)) rfl
    have pf7 : PF (upd M.1 3 (nI (qt Q + 1)), M.2) (upd (upd M.1 3 (nI (qt Q + 1)), M.2).1 7 (nI (qd (avQ Q) + 1)), (upd M.1 3 (nI (qt Q + 1)), M.2).2) := PF.rf.i (by omega)
    have hc7 : PCx (xG X) h6 D t E (upd (upd M.1 3 (nI (qt Q + 1)), M.2).1 7 (nI (qd (avQ Q) + 1)), (upd M.1 3 (nI (qt Q + 1)), M.2).2) (dnQ (avQ Q)) := PCx.god hc4 pf7 hX7 (VQ.dn hc4.2.1) hc4.2.2.2.2.1 rfl id hc4.2.2.2.2.2.2.2.2.2.2.1 (by exact ⟨by show qd Q + 1 ≤ 9; omega, fun _ => by show qd Q + 1 ≤ 8; omega⟩)
    have pg7 := pg4.tr pf7
    have fg7 : FrD h h6 D := by rw [hE6]; exact FrD.w fg4 (i := 0) (by decide)
    have X0_8 : h6 (D 0) = some (cMd (upd (upd M.1 3 (nI (qt Q + 1)), M.2).1 7 (nI (qd (avQ Q) + 1)), (upd M.1 3 (nI (qt Q + 1)), M.2).2).1 D) := hc7.1.m
    exact ww_vret C dX4_deeper_36 (by unfold dpQ; rw [if_neg c_6]; exact ⟨rfl, (upd (upd M.1 3 (nI (qt Q + 1)), M.2).1 7 (nI (qd (avQ Q) + 1)), (upd M.1 3 (nI (qt Q + 1)), M.2).2), pg7, hc7, fg7⟩)
  · skip
    have X0_9 : h (D 0) = some (cMd M.1 D) := hc.1.m
    refine ww_aload_n C dX4_deeper_9 rfl 0 rfl rfl ?_
    refine cv_X4_132_q (As := []) (rest := []) C dX4_deeper_10 (ct_X4_wrong (Cx.fl C) (Cx.ok C) hc ) (rc_X4 (Cx.ok C) (Or.inl X0_9)) rfl rfl (Nat.le_of_ble_eq_true rfl) (by omega) (Nat.zero_le _) (Nat.zero_le _) (fun z10 h10 q10 => ?_)
    obtain ⟨hq10, M10, pf10, hc10, fr10⟩ := q10; replace hq10 := hq10.symm; subst hq10
    have pg10 := (PF.rf (M := M)).tr pf10
    have fg10 := (FrD.rf (h := h) (D := D)).tr fr10
    have X0_11 : h10 (D 0) = some (cMd M10.1 D) := hc10.1.m
    refine ww_goto (tgt := 26) C dX4_deeper_13 (by decide) ?_
    have hwq : wrQ Q = ((qt Q, true, 1, qt Q, qd Q), Q.2) := by unfold wrQ; rw [hw]; rfl
    refine ww_aload_n C dX4_deeper_26 rfl 0 rfl rfl ?_
    refine ww_dup C dX4_deeper_27 rfl ?_
    refine gf_X4_135_X4 C dX4_deeper_28 (Or.inl X0_11) rfl ?_
    refine ww_st (st' := [.int (nI (qd (wrQ Q))), .ref (D 0)]) (by rw [show M10.1 7 = nI (qd (wrQ Q)) from hc10.2.1.1.2.2.2.2]) ?_
    refine ww_iconst C dX4_deeper_31 cI_1 ?_
    refine ww_iaddn C dX4_deeper_32 ?_
    refine pf_X4_135_X4 (fs' := [.int (M10.1 0), .ref (D 1), .int (M10.1 1), .int (M10.1 2), .ref (D 2), .ref (D 3), .ref (D 4), .ref (D 5), .int (M10.1 3), .int (M10.1 4), .int (M10.1 5), .int (M10.1 6), .int (nI ((qd (wrQ Q)) + 1)), .ref (D 6), .ref (D 7), .ref (D 8), .ref (D 9), .ref (D 10), .ref (D 11), .ref (D 12), .ref (D 13), .int (M10.1 8), .int (M10.1 9), .int (M10.1 10)]) C dX4_deeper_33 X0_11 rfl rfl (Nat.le_of_ble_eq_true rfl) rfl ?_
    refine ww_gen (fun h12 hE12 => ?_)
    have X0_11_h12 : h12 (D 0) = some (.inr (3, [.int (M10.1 0), .ref (D 1), .int (M10.1 1), .int (M10.1 2), .ref (D 2), .ref (D 3), .ref (D 4), .ref (D 5), .int (M10.1 3), .int (M10.1 4), .int (M10.1 5), .int (M10.1 6), .int (nI ((qd (wrQ Q)) + 1)), .ref (D 6), .ref (D 7), .ref (D 8), .ref (D 9), .ref (D 10), .ref (D 11), .ref (D 12), .ref (D 13), .int (M10.1 8), .int (M10.1 9), .int (M10.1 10)])) := by rw [hE12]; exact up_s
    have hX13 : Mx (xG X) h12 D (upd M10.1 7 (nI (qd (wrQ Q) + 1)), M10.2) := by rw [hE12]; exact Mx.i hc10.1 (j := 7) (Or.inl (by decide)) rfl
    have pf13 : PF M10 (upd M10.1 7 (nI (qd (wrQ Q) + 1)), M10.2) := PF.rf.i (by omega)
    have hc13 : PCx (xG X) h12 D t E (upd M10.1 7 (nI (qd (wrQ Q) + 1)), M10.2) (dnQ (wrQ Q)) := PCx.god hc10 pf13 hX13 (VQ.dn hc10.2.1) hc10.2.2.2.2.1 rfl id hc10.2.2.2.2.2.2.2.2.2.2.1 (by rw [hwq]; exact ⟨by show qd Q + 1 ≤ 9; omega, fun q => by cases q⟩)
    have pg13 := pg10.tr pf13
    have fg13 : FrD h h12 D := by rw [hE12]; exact FrD.w fg10 (i := 0) (by decide)
    have X0_14 : h12 (D 0) = some (cMd (upd M10.1 7 (nI (qd (wrQ Q) + 1)), M10.2).1 D) := hc13.1.m
    exact ww_vret C dX4_deeper_36 (by unfold dpQ; rw [if_pos c_6]; exact ⟨rfl, (upd M10.1 7 (nI (qd (wrQ Q) + 1)), M10.2), pg13, hc13, fg13⟩)
set_option maxHeartbeats 2000000 in
theorem ct_X4_mark {l : Launch} {Γ : Gm} (hl : l.flags = flags0) (hΓ : GOK Γ) {z : ZR} {h : AH} {D : Nat → Nat} {t : TP} {E : PE} {M : MS} {Q : QS} {c : Nat} (hc : PCx Γ h D t E M Q) (hcc : c ≤ 5) : Ct l Γ yX4_mark cX4_mark 2 none 1 0 0 [.ref (D 0), .int (nI c)] z h (Rn (PP Γ z h D t E M (mkQ c Q))) := by
  refine Ct.of hl hΓ (by decide +kernel) (Nat.le_of_ble_eq_true rfl) (fun X e1 e2 C => ?_)
  subst e1; subst e2
  have C : Cx X cX4_mark 2 "RingDominoModel" "mark" none [] 1 := C
  have he5 := hc.2.2.2.2.2.2.2.2.2.2.1.1
  show WW X (Rn (PP (xG X) z h D t E M (mkQ c Q))) z h 0 0 0 [(0, .ref (D 0)), (1, .int (nI c))] []
  have X0_1 : h (D 0) = some (cMd M.1 D) := hc.1.m
  refine ww_aload_n C dX4_mark_0 rfl 0 rfl rfl ?_
  refine gf_X4_116_X4 C dX4_mark_1 (Or.inl X0_1) rfl ?_
  refine ww_st (st' := [.int (bI (qw Q))]) (by rw [show M.1 4 = bI (qw Q) from hc.2.1.1.2.1]) ?_
  refine ww_if_ne_b (tgt := 14) C dX4_mark_4 (by decide) (fun c_4 => ?_) (fun c_4 => ?_)
  · skip
    exact ww_vret C dX4_mark_14 (by unfold mkQ; rw [c_4]; exact ⟨rfl, M, PF.rf, hc, FrD.rf⟩)
  · skip
    refine ww_aload_n C dX4_mark_7 rfl 0 rfl rfl ?_
    refine gf_X4_123_X4 C dX4_mark_8 (Or.inl X0_1) rfl ?_
    refine ww_st (st' := [.int (nI (qe Q))]) (by rw [show M.1 5 = nI (qe Q) from hc.2.1.1.2.2.1]) ?_
    refine ww_if_eq_n (tgt := 15) C dX4_mark_11 (by decide) (by omega) (fun c_11 => ?_) (fun c_11 => ?_)
    · skip
      refine ww_aload_n C dX4_mark_15 rfl 0 rfl rfl ?_
      refine ww_iload_n C dX4_mark_16 rfl 1 rfl ?_
      refine pf_X4_123_X4 (fs' := [.int (M.1 0), .ref (D 1), .int (M.1 1), .int (M.1 2), .ref (D 2), .ref (D 3), .ref (D 4), .ref (D 5), .int (M.1 3), .int (M.1 4), .int (nI c), .int (M.1 6), .int (M.1 7), .ref (D 6), .ref (D 7), .ref (D 8), .ref (D 9), .ref (D 10), .ref (D 11), .ref (D 12), .ref (D 13), .int (M.1 8), .int (M.1 9), .int (M.1 10)]) C dX4_mark_17 X0_1 rfl rfl (Nat.le_of_ble_eq_true rfl) rfl ?_
      refine ww_gen (fun h2 hE2 => ?_)
      have X0_1_h2 : h2 (D 0) = some (.inr (3, [.int (M.1 0), .ref (D 1), .int (M.1 1), .int (M.1 2), .ref (D 2), .ref (D 3), .ref (D 4), .ref (D 5), .int (M.1 3), .int (M.1 4), .int (nI c), .int (M.1 6), .int (M.1 7), .ref (D 6), .ref (D 7), .ref (D 8), .ref (D 9), .ref (D 10), .ref (D 11), .ref (D 12), .ref (D 13), .int (M.1 8), .int (M.1 9), .int (M.1 10)])) := by rw [hE2]; exact up_s
      refine ww_aload_n C dX4_mark_20 rfl 0 rfl rfl ?_
      refine ww_aload_n C dX4_mark_21 rfl 0 rfl rfl ?_
      refine gf_X4_120_X4 C dX4_mark_22 (Or.inl X0_1_h2) rfl ?_
      refine ww_st (st' := [.int (nI (qt Q)), .ref (D 0)]) (by show [Value.int (upd M.1 5 (nI c) 3), .ref (D 0)] = [_, _]; rw [upd_ne (by decide), show M.1 3 = nI (qt Q) from hc.2.1.1.1]) ?_
      refine pf_X4_126_X4 (fs' := [.int (M.1 0), .ref (D 1), .int (M.1 1), .int (M.1 2), .ref (D 2), .ref (D 3), .ref (D 4), .ref (D 5), .int (M.1 3), .int (M.1 4), .int (nI c), .int (nI (qt Q)), .int (M.1 7), .ref (D 6), .ref (D 7), .ref (D 8), .ref (D 9), .ref (D 10), .ref (D 11), .ref (D 12), .ref (D 13), .int (M.1 8), .int (M.1 9), .int (M.1 10)]) C dX4_mark_25 X0_1_h2 rfl rfl (Nat.le_of_ble_eq_true rfl) rfl ?_
      refine ww_gen (fun h3 hE3 => ?_)
      have X0_1_h3 : h3 (D 0) = some (.inr (3, [.int (M.1 0), .ref (D 1), .int (M.1 1), .int (M.1 2), .ref (D 2), .ref (D 3), .ref (D 4), .ref (D 5), .int (M.1 3), .int (M.1 4), .int (nI c), .int (nI (qt Q)), .int (M.1 7), .ref (D 6), .ref (D 7), .ref (D 8), .ref (D 9), .ref (D 10), .ref (D 11), .ref (D 12), .ref (D 13), .int (M.1 8), .int (M.1 9), .int (M.1 10)])) := by rw [hE3]; exact up_s
      have hX9 : Mx (xG X) h3 D (upd (upd M.1 5 (nI c)) 6 (nI (qt Q)), M.2) := by rw [hE3, hE2]; exact Mx.i (Mx.i hc.1 (j := 5) (Or.inl (by decide)) rfl) (j := 6) (Or.inl (by decide)) rfl
      have pf9 : PF M (upd (upd M.1 5 (nI c)) 6 (nI (qt Q)), M.2) := (PF.rf.i (by omega)).i (by omega)
      have hw : mkQ c Q = ((qt Q, qw Q, c, qt Q, qd Q), Q.2) := by unfold mkQ; rw [c_4, c_11]; rfl
      have hc9 : PCx (xG X) h3 D t E (upd (upd M.1 5 (nI c)) 6 (nI (qt Q)), M.2) (mkQ c Q) := PCx.go hc pf9 hX9 (VQ.mk hc.2.1 c_4 c_11) (qK.mk hc.2.2.2.2.1) (by rw [hw]; exact hc.2.2.2.2.2.2.2.2.2.1) (by rw [hw]; exact ⟨hcc, fun q => by { have q : qw Q = true := q; rw [c_4] at q; cases q }, fun _ => hc.2.2.2.2.1⟩)
      exact ww_vret C dX4_mark_28 ⟨rfl, _, pf9, hc9, by rw [hE3, hE2]; exact FrD.w (FrD.w FrD.rf (i := 0) (by decide)) (i := 0) (by decide)⟩
    · skip
      exact ww_vret C dX4_mark_14 (by unfold mkQ; rw [c_4, decide_eq_false (by omega)]; exact ⟨rfl, M, PF.rf, hc, FrD.rf⟩)
set_option maxHeartbeats 2000000 in
theorem ct_X4_node {l : Launch} {Γ : Gm} (hl : l.flags = flags0) (hΓ : GOK Γ) {z : ZR} {h : AH} {D : Nat → Nat} {t : TP} {E : PE} {M : MS} {Q : QS} {s a b : Nat} (hc : PCx Γ h D t E M Q) (hn : qn Q < 800) : Ct l Γ yX4_node cX4_node 5 (some .int) 1 0 0 [.ref (D 0), .int (nI s), .int (nI a), .int (nI b)] z h (Rv (fun v z' h' => v = .int (nI (ndQ s a b Q).1) ∧ PP Γ z h D t E M (ndQ s a b Q).2 z' h')) := by
  refine Ct.of hl hΓ (by decide +kernel) (Nat.le_of_ble_eq_true rfl) (fun X e1 e2 C => ?_)
  subst e1; subst e2
  have C : Cx X cX4_node 5 "RingDominoModel" "node" (some .int) [] 1 := C
  show WW X (Rv (fun v z' h' => v = .int (nI (ndQ s a b Q).1) ∧ PP (xG X) z h D t E M (ndQ s a b Q).2 z' h')) z h 0 0 0 [(0, .ref (D 0)), (1, .int (nI s)), (2, .int (nI a)), (3, .int (nI b))] []
  have X0_1 : h (D 0) = some (cMd M.1 D) := hc.1.m
  have X8_1 : h (D 8) = some (cTd (M.1 25) (M.1 26) (M.1 27) (M.1 28) (M.1 29) (fun i => D (30 + i))) := hc.1.1 8 (by decide)
  have Y37_1 : h (D 37) = some (cI (xG X) 800 (M.2.1 37)) := hc.1.1 37 (by decide)
  have Y38_1 : h (D 38) = some (cI (xG X) 800 (M.2.1 38)) := hc.1.1 38 (by decide)
  have Y39_1 : h (D 39) = some (cI (xG X) 800 (M.2.1 39)) := hc.1.1 39 (by decide)
  refine ww_aload_n C dX4_node_0 rfl 0 rfl rfl ?_
  refine gf_X4_39_X4 C dX4_node_1 (Or.inl X0_1) rfl ?_
  refine gf_X4_138_X5 C dX4_node_4 (Or.inl X8_1) rfl ?_
  refine ww_st (st' := [.int (nI (qn Q))]) (by rw [show M.1 29 = nI (qn Q) from hc.2.1.2.1.2.2]) ?_
  refine ww_istore (lv' := [(4, .int (nI (qn Q))), (0, .ref (D 0)), (1, .int (nI s)), (2, .int (nI a)), (3, .int (nI b))]) C dX4_node_7 (by decide) rfl ?_
  refine ww_aload_n C dX4_node_9 rfl 1 rfl rfl ?_
  refine gf_X4_39_X4 C dX4_node_10 (Or.inl X0_1) rfl ?_
  refine gf_X4_141_X5 C dX4_node_13 (Or.inl X8_1) rfl ?_
  refine ww_iload C dX4_node_16 0 rfl ?_
  refine ww_iload_n C dX4_node_18 rfl 2 rfl ?_
  refine ww_iast C dX4_node_19 Y37_1 (by omega) (by decide) ?_
  refine ww_gen (fun h2 hE2 => ?_)
  have X0_1_h2 : h2 (D 0) = some (.inr (3, [.int (M.1 0), .ref (D 1), .int (M.1 1), .int (M.1 2), .ref (D 2), .ref (D 3), .ref (D 4), .ref (D 5), .int (M.1 3), .int (M.1 4), .int (M.1 5), .int (M.1 6), .int (M.1 7), .ref (D 6), .ref (D 7), .ref (D 8), .ref (D 9), .ref (D 10), .ref (D 11), .ref (D 12), .ref (D 13), .int (M.1 8), .int (M.1 9), .int (M.1 10)])) := by rw [hE2, up_n (fun q => by cases hc.1.2 0 37 (by decide) (by decide) q)]; exact X0_1
  have X8_1_h2 : h2 (D 8) = some (.inr (4, [.int (M.1 25), .int (M.1 26), .int (M.1 27), .ref (D 30), .int (M.1 28), .ref (D 31), .ref (D 32), .ref (D 33), .ref (D 34), .ref (D 35), .ref (D 36), .int (M.1 29), .ref (D 37), .ref (D 38), .ref (D 39)])) := by rw [hE2, up_n (fun q => by cases hc.1.2 8 37 (by decide) (by decide) q)]; exact X8_1
  have Y38_1_h2 : h2 (D 38) = some (.inl (gA (xG X) 0, (800, .inl (M.2.1 38)))) := by rw [hE2, up_n (Ne.symm (fun q => by cases hc.1.2 37 38 (by decide) (by decide) q))]; exact Y38_1
  have Y39_1_h2 : h2 (D 39) = some (.inl (gA (xG X) 0, (800, .inl (M.2.1 39)))) := by rw [hE2, up_n (Ne.symm (fun q => by cases hc.1.2 37 39 (by decide) (by decide) q))]; exact Y39_1
  have Y37_1_h2 : h2 (D 37) = some (.inl (gA (xG X) 0, (800, .inl (upd (M.2.1 37) (qn Q) (nI s))))) := by rw [hE2]; exact up_s
  refine ww_aload_n C dX4_node_20 rfl 1 rfl rfl ?_
  refine gf_X4_39_X4 C dX4_node_21 (Or.inl X0_1_h2) rfl ?_
  refine gf_X4_144_X5 C dX4_node_24 (Or.inl X8_1_h2) rfl ?_
  refine ww_iload C dX4_node_27 0 rfl ?_
  refine ww_iload_n C dX4_node_29 rfl 3 rfl ?_
  refine ww_iast C dX4_node_30 Y38_1_h2 (by omega) (by decide) ?_
  refine ww_gen (fun h3 hE3 => ?_)
  have X0_1_h3 : h3 (D 0) = some (.inr (3, [.int (M.1 0), .ref (D 1), .int (M.1 1), .int (M.1 2), .ref (D 2), .ref (D 3), .ref (D 4), .ref (D 5), .int (M.1 3), .int (M.1 4), .int (M.1 5), .int (M.1 6), .int (M.1 7), .ref (D 6), .ref (D 7), .ref (D 8), .ref (D 9), .ref (D 10), .ref (D 11), .ref (D 12), .ref (D 13), .int (M.1 8), .int (M.1 9), .int (M.1 10)])) := by rw [hE3, up_n (fun q => by cases hc.1.2 0 38 (by decide) (by decide) q)]; exact X0_1_h2
  have X8_1_h3 : h3 (D 8) = some (.inr (4, [.int (M.1 25), .int (M.1 26), .int (M.1 27), .ref (D 30), .int (M.1 28), .ref (D 31), .ref (D 32), .ref (D 33), .ref (D 34), .ref (D 35), .ref (D 36), .int (M.1 29), .ref (D 37), .ref (D 38), .ref (D 39)])) := by rw [hE3, up_n (fun q => by cases hc.1.2 8 38 (by decide) (by decide) q)]; exact X8_1_h2
  have Y37_1_h3 : h3 (D 37) = some (.inl (gA (xG X) 0, (800, .inl (upd (M.2.1 37) (qn Q) (nI s))))) := by rw [hE3, up_n (fun q => by cases hc.1.2 37 38 (by decide) (by decide) q)]; exact Y37_1_h2
  have Y39_1_h3 : h3 (D 39) = some (.inl (gA (xG X) 0, (800, .inl (M.2.1 39)))) := by rw [hE3, up_n (Ne.symm (fun q => by cases hc.1.2 38 39 (by decide) (by decide) q))]; exact Y39_1_h2
  have Y38_1_h3 : h3 (D 38) = some (.inl (gA (xG X) 0, (800, .inl (upd (M.2.1 38) (qn Q) (nI a))))) := by rw [hE3]; exact up_s
  refine ww_aload_n C dX4_node_31 rfl 1 rfl rfl ?_
  refine gf_X4_39_X4 C dX4_node_32 (Or.inl X0_1_h3) rfl ?_
  refine gf_X4_147_X5 C dX4_node_35 (Or.inl X8_1_h3) rfl ?_
  refine ww_iload C dX4_node_38 0 rfl ?_
  refine ww_iload_n C dX4_node_40 rfl 4 rfl ?_
  refine ww_iast C dX4_node_41 Y39_1_h3 (by omega) (by decide) ?_
  refine ww_gen (fun h4 hE4 => ?_)
  have X0_1_h4 : h4 (D 0) = some (.inr (3, [.int (M.1 0), .ref (D 1), .int (M.1 1), .int (M.1 2), .ref (D 2), .ref (D 3), .ref (D 4), .ref (D 5), .int (M.1 3), .int (M.1 4), .int (M.1 5), .int (M.1 6), .int (M.1 7), .ref (D 6), .ref (D 7), .ref (D 8), .ref (D 9), .ref (D 10), .ref (D 11), .ref (D 12), .ref (D 13), .int (M.1 8), .int (M.1 9), .int (M.1 10)])) := by rw [hE4, up_n (fun q => by cases hc.1.2 0 39 (by decide) (by decide) q)]; exact X0_1_h3
  have X8_1_h4 : h4 (D 8) = some (.inr (4, [.int (M.1 25), .int (M.1 26), .int (M.1 27), .ref (D 30), .int (M.1 28), .ref (D 31), .ref (D 32), .ref (D 33), .ref (D 34), .ref (D 35), .ref (D 36), .int (M.1 29), .ref (D 37), .ref (D 38), .ref (D 39)])) := by rw [hE4, up_n (fun q => by cases hc.1.2 8 39 (by decide) (by decide) q)]; exact X8_1_h3
  have Y37_1_h4 : h4 (D 37) = some (.inl (gA (xG X) 0, (800, .inl (upd (M.2.1 37) (qn Q) (nI s))))) := by rw [hE4, up_n (fun q => by cases hc.1.2 37 39 (by decide) (by decide) q)]; exact Y37_1_h3
  have Y38_1_h4 : h4 (D 38) = some (.inl (gA (xG X) 0, (800, .inl (upd (M.2.1 38) (qn Q) (nI a))))) := by rw [hE4, up_n (fun q => by cases hc.1.2 38 39 (by decide) (by decide) q)]; exact Y38_1_h3
  have Y39_1_h4 : h4 (D 39) = some (.inl (gA (xG X) 0, (800, .inl (upd (M.2.1 39) (qn Q) (nI b))))) := by rw [hE4]; exact up_s
  refine ww_aload_n C dX4_node_42 rfl 1 rfl rfl ?_
  refine gf_X4_39_X4 C dX4_node_43 (Or.inl X0_1_h4) rfl ?_
  refine ww_dup C dX4_node_46 rfl ?_
  refine gf_X4_138_X5 C dX4_node_47 (Or.inl X8_1_h4) rfl ?_
  refine ww_st (st' := [.int (nI (qn Q)), .ref (D 8)]) (by rw [show M.1 29 = nI (qn Q) from hc.2.1.2.1.2.2]) ?_
  refine ww_iconst C dX4_node_50 cI_1 ?_
  refine ww_iaddn C dX4_node_51 ?_
  refine pf_X4_138_X5 (fs' := [.int (M.1 25), .int (M.1 26), .int (M.1 27), .ref (D 30), .int (M.1 28), .ref (D 31), .ref (D 32), .ref (D 33), .ref (D 34), .ref (D 35), .ref (D 36), .int (nI ((qn Q) + 1)), .ref (D 37), .ref (D 38), .ref (D 39)]) C dX4_node_52 X8_1_h4 rfl rfl (Nat.le_of_ble_eq_true rfl) rfl ?_
  refine ww_gen (fun h5 hE5 => ?_)
  have X0_1_h5 : h5 (D 0) = some (.inr (3, [.int (M.1 0), .ref (D 1), .int (M.1 1), .int (M.1 2), .ref (D 2), .ref (D 3), .ref (D 4), .ref (D 5), .int (M.1 3), .int (M.1 4), .int (M.1 5), .int (M.1 6), .int (M.1 7), .ref (D 6), .ref (D 7), .ref (D 8), .ref (D 9), .ref (D 10), .ref (D 11), .ref (D 12), .ref (D 13), .int (M.1 8), .int (M.1 9), .int (M.1 10)])) := by rw [hE5, up_n (fun q => by cases hc.1.2 0 8 (by decide) (by decide) q)]; exact X0_1_h4
  have Y37_1_h5 : h5 (D 37) = some (.inl (gA (xG X) 0, (800, .inl (upd (M.2.1 37) (qn Q) (nI s))))) := by rw [hE5, up_n (Ne.symm (fun q => by cases hc.1.2 8 37 (by decide) (by decide) q))]; exact Y37_1_h4
  have Y38_1_h5 : h5 (D 38) = some (.inl (gA (xG X) 0, (800, .inl (upd (M.2.1 38) (qn Q) (nI a))))) := by rw [hE5, up_n (Ne.symm (fun q => by cases hc.1.2 8 38 (by decide) (by decide) q))]; exact Y38_1_h4
  have Y39_1_h5 : h5 (D 39) = some (.inl (gA (xG X) 0, (800, .inl (upd (M.2.1 39) (qn Q) (nI b))))) := by rw [hE5, up_n (Ne.symm (fun q => by cases hc.1.2 8 39 (by decide) (by decide) q))]; exact Y39_1_h4
  have X8_1_h5 : h5 (D 8) = some (.inr (4, [.int (M.1 25), .int (M.1 26), .int (M.1 27), .ref (D 30), .int (M.1 28), .ref (D 31), .ref (D 32), .ref (D 33), .ref (D 34), .ref (D 35), .ref (D 36), .int (nI ((qn Q) + 1)), .ref (D 37), .ref (D 38), .ref (D 39)])) := by rw [hE5]; exact up_s
  refine ww_iload C dX4_node_55 0 rfl ?_
  have hX9 : Mx (xG X) h5 D (ndM M (qn Q) (nI s) (nI a) (nI b)) := by rw [hE5, hE4, hE3, hE2]; exact Mx.i (Mx.r (Mx.r (Mx.r hc.1 (i := 37) (by decide)) (i := 38) (by decide)) (i := 39) (by decide)) (j := 29) (Or.inr (by decide)) rfl
  have hc9 : PCx (xG X) h5 D t E (ndM M (qn Q) (nI s) (nI a) (nI b)) (ndQ s a b Q).2 := PCx.go hc (ndM_f PF.rf) hX9 (VQ.nd hc.2.1) (qK.nd hc.2.2.2.2.1) hn hc.2.2.2.2.2.2.2.2.2.2.1
  exact ww_iret C dX4_node_57 ⟨rfl, rfl, _, ndM_f PF.rf, hc9, by rw [hE5, hE4, hE3, hE2]; exact FrD.w (FrD.w (FrD.w (FrD.w FrD.rf (i := 37) (by decide)) (i := 38) (by decide)) (i := 39) (by decide)) (i := 8) (by decide)⟩
end MO18
