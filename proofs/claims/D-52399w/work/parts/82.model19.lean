section MO19
set_option maxRecDepth 100000
theorem tL_le {t : TP} {a : Nat} (h : a < tcn t) : tP t a + tL t a ≤ t.2 := by
  have h1 := (tcn_m h).1
  have h2 := tkE_le h1
  have h3 := tkE_ge (t := t) (a := tps t a)
  unfold tP tL
  rw [if_neg (by omega)]
  omega
theorem nI_ne_m1 {k : Nat} (h : k < 2 ^ 31) : ¬ nI k = -1 := fun q => by
  have h1 : (nI k).toInt = (-1 : Int32).toInt := by rw [q]
  rw [nI_toInt h] at h1
  have : (-1 : Int32).toInt = -1 := rfl
  omega
theorem max0 {k : Nat} (h : k < 2 ^ 31) : (if nI k ≤ nI 0 then nI 0 else nI k) = nI k := by
  by_cases q : nI k ≤ nI 0
  · rw [if_pos q]
    have := (nI_leI h (by decide)).mp q
    rw [show k = 0 by omega]
  · rw [if_neg q]
set_option maxHeartbeats 2000000 in
theorem ct_X4_isSameName {l : Launch} {Γ : Gm} (hl : l.flags = flags0) (hΓ : GOK Γ) {z : ZR} {h : AH} {D : Nat → Nat} {t : TP} {M : MS} {a b : Nat} (hX : Mx Γ h D M) (hT : TkV M t) (ht : TPo t) (ha : a < tcn t) (hb : b < tcn t) : Ct l Γ yX4_isSameName cX4_isSameName 4 (some .boolean) 1 0 0 [.ref (D 0), .int (nI a), .int (nI b)] z h (RdP z h (some (.int (bI (sNm t a b))))) := by
  refine Ct.of hl hΓ (by decide +kernel) (Nat.le_of_ble_eq_true rfl) (fun X e1 e2 C => ?_)
  subst e1; subst e2
  have C : Cx X cX4_isSameName 4 "RingDominoModel" "isSameName" (some .boolean) [] 1 := C
  obtain ⟨t1, t2, t3, t4, t5, t6⟩ := id hT
  have hcn := tcn_lt t
  have la := tL_le ha
  have lb := tL_le hb
  have h20 := ht.1
  show WW X (RdP z h (some (.int (bI (sNm t a b))))) z h 0 0 0 [(0, .ref (D 0)), (1, .int (nI a)), (2, .int (nI b))] []
  have X0 : h (D 0) = some (cMd M.1 D) := hX.m
  have Y1 : h (D 1) = some (cI (xG X) 2000 (M.2.1 1)) := hX.1 1 (by decide)
  have Y4 : h (D 4) = some (cI (xG X) 402 (M.2.1 4)) := hX.1 4 (by decide)
  have Y5 : h (D 5) = some (cI (xG X) 402 (M.2.1 5)) := hX.1 5 (by decide)
  refine ww_aload_n C dX4_isSameName_0 rfl 0 rfl rfl ?_
  refine gf_X4_26_X4 C dX4_isSameName_1 (Or.inl X0) rfl ?_
  refine ww_iload_n C dX4_isSameName_4 rfl 1 rfl ?_
  refine ww_iald C dX4_isSameName_5 (Or.inl Y5) (by omega) (by decide) ?_
  refine ww_st (st' := [.int (nI (tL t a))]) (by rw [t5 a ha]) ?_
  refine ww_aload_n C dX4_isSameName_6 rfl 0 rfl rfl ?_
  refine gf_X4_26_X4 C dX4_isSameName_7 (Or.inl X0) rfl ?_
  refine ww_iload_n C dX4_isSameName_10 rfl 2 rfl ?_
  refine ww_iald C dX4_isSameName_11 (Or.inl Y5) (by omega) (by decide) ?_
  refine ww_st (st' := [.int (nI (tL t b)), .int (nI (tL t a))]) (by rw [t5 b hb]) ?_
  refine ww_icmp_eq_n (tgt := 17) C dX4_isSameName_12 (by decide) (by omega) (by omega) (fun c_12 => ?_) (fun c_12 => ?_)
  · skip
    refine ww_iconst C dX4_isSameName_17 cI_0 ?_
    refine ww_istore_n (lv' := [(3, .int (nI 0)), (0, .ref (D 0)), (1, .int (nI a)), (2, .int (nI b))]) C dX4_isSameName_18 rfl (by decide) rfl ?_
    refine loop_up (N := (tL t a)) (M := fun j => ff (fun j => decide (¬ t.1 (tP t a + j) = t.1 (tP t b + j))) (tL t a) 0 = ff (fun j => decide (¬ t.1 (tP t a + j) = t.1 (tP t b + j))) (tL t a - j) j → WW X (RdP z h (some (.int (bI (sNm t a b))))) z h 0 0 19 [(3, .int (nI j)), (0, .ref (D 0)), (1, .int (nI a)), (2, .int (nI b))] []) ?_ ?_ 0 (Nat.zero_le _) rfl
    · intro hv; show WW X (RdP z h (some (.int (bI (sNm t a b))))) z h 0 0 19 [(3, .int (nI (tL t a))), (0, .ref (D 0)), (1, .int (nI a)), (2, .int (nI b))] []
      refine ww_iload_n C dX4_isSameName_19 rfl 0 rfl ?_
      refine ww_aload_n C dX4_isSameName_20 rfl 1 rfl rfl ?_
      refine gf_X4_26_X4 C dX4_isSameName_21 (Or.inl X0) rfl ?_
      refine ww_iload_n C dX4_isSameName_24 rfl 2 rfl ?_
      refine ww_iald C dX4_isSameName_25 (Or.inl Y5) (by omega) (by decide) ?_
      refine ww_st (st' := [.int (nI (tL t a)), .int (nI (tL t a))]) (by rw [t5 a ha]) ?_
      refine ww_icmp_ge_t (tgt := 66) C dX4_isSameName_26 (by decide) (nI_le (Nat.le_refl _) (by omega)) ?_
      refine ww_iconst C dX4_isSameName_66 cI_1 ?_
      exact ww_zret C dX4_isSameName_67 nar_z1 (RdP.i (by unfold sNm; rw [decide_eq_true c_12, hv, ff_0]; try rfl))
    · intro j hi ih hv
      show WW X (RdP z h (some (.int (bI (sNm t a b))))) z h 0 0 19 [(3, .int (nI j)), (0, .ref (D 0)), (1, .int (nI a)), (2, .int (nI b))] []
      refine ww_iload_n C dX4_isSameName_19 rfl 0 rfl ?_
      refine ww_aload_n C dX4_isSameName_20 rfl 1 rfl rfl ?_
      refine gf_X4_26_X4 C dX4_isSameName_21 (Or.inl X0) rfl ?_
      refine ww_iload_n C dX4_isSameName_24 rfl 2 rfl ?_
      refine ww_iald C dX4_isSameName_25 (Or.inl Y5) (by omega) (by decide) ?_
      refine ww_st (st' := [.int (nI (tL t a)), .int (nI j)]) (by rw [t5 a ha]) ?_
      refine ww_icmp_ge_f (tgt := 66) C dX4_isSameName_26 (by decide) (nI_ge hi (by omega)) ?_
      refine ww_aload_n C dX4_isSameName_29 rfl 1 rfl rfl ?_
      refine gf_X4_9_X4 C dX4_isSameName_30 (Or.inl X0) rfl ?_
      refine ww_aload_n C dX4_isSameName_33 rfl 1 rfl rfl ?_
      refine gf_X4_23_X4 C dX4_isSameName_34 (Or.inl X0) rfl ?_
      refine ww_iload_n C dX4_isSameName_37 rfl 2 rfl ?_
      refine ww_iald C dX4_isSameName_38 (Or.inl Y4) (by omega) (by decide) ?_
      refine ww_st (st' := [.int (nI (tP t a)), .ref (D 1)]) (by rw [t4 a (by omega)]) ?_
      refine ww_iload_n C dX4_isSameName_39 rfl 0 rfl ?_
      refine ww_iaddn C dX4_isSameName_40 ?_
      refine ww_iald C dX4_isSameName_41 (Or.inl Y1) (by omega) (by decide) ?_
      refine ww_st (st' := [.int (nI (t.1 (tP t a + j)))]) (by rw [t2 (tP t a + j) (by omega)]) ?_
      refine ww_aload_n C dX4_isSameName_42 rfl 1 rfl rfl ?_
      refine gf_X4_9_X4 C dX4_isSameName_43 (Or.inl X0) rfl ?_
      refine ww_aload_n C dX4_isSameName_46 rfl 1 rfl rfl ?_
      refine gf_X4_23_X4 C dX4_isSameName_47 (Or.inl X0) rfl ?_
      refine ww_iload_n C dX4_isSameName_50 rfl 3 rfl ?_
      refine ww_iald C dX4_isSameName_51 (Or.inl Y4) (by omega) (by decide) ?_
      refine ww_st (st' := [.int (nI (tP t b)), .ref (D 1), .int (nI (t.1 (tP t a + j)))]) (by rw [t4 b (by omega)]) ?_
      refine ww_iload_n C dX4_isSameName_52 rfl 0 rfl ?_
      refine ww_iaddn C dX4_isSameName_53 ?_
      refine ww_iald C dX4_isSameName_54 (Or.inl Y1) (by omega) (by decide) ?_
      refine ww_st (st' := [.int (nI (t.1 (tP t b + j))), .int (nI (t.1 (tP t a + j)))]) (by rw [t2 (tP t b + j) (by omega)]) ?_
      have b1 := ht.2 (tP t a + j) (by omega)
      have b2 := ht.2 (tP t b + j) (by omega)
      refine ww_icmp_eq_n (tgt := 60) C dX4_isSameName_55 (by decide) (by omega) (by omega) (fun c_55 => ?_) (fun c_55 => ?_)
      · skip
        have hp : (fun j => decide (¬ t.1 (tP t a + j) = t.1 (tP t b + j))) j = false := decide_eq_false (fun q => q c_55)
        refine ww_iinc (lv' := [(3, .int (nI (j + 1))), (0, .ref (D 0)), (1, .int (nI a)), (2, .int (nI b))]) C dX4_isSameName_60 0 rfl (inc_n _) (by decide) rfl ?_
        refine ww_goto (tgt := 19) C dX4_isSameName_63 (by decide) ?_
        exact ih (hv.trans (ff_f hi hp))
      · skip
        have hp : (fun j => decide (¬ t.1 (tP t a + j) = t.1 (tP t b + j))) j = true := decide_eq_true c_55
        refine ww_iconst C dX4_isSameName_58 cI_0 ?_
        exact ww_zret C dX4_isSameName_59 nar_z0 (RdP.i (by unfold sNm; rw [decide_eq_true c_12, hv, ff_t hi hp]; try rfl))
  · skip
    refine ww_iconst C dX4_isSameName_15 cI_0 ?_
    exact ww_zret C dX4_isSameName_16 nar_z0 (RdP.i (by unfold sNm; rw [decide_eq_false c_12]; try rfl))
set_option maxHeartbeats 2000000 in
theorem ct_X4_known {l : Launch} {Γ : Gm} (hl : l.flags = flags0) (hΓ : GOK Γ) {z : ZR} {h : AH} {D : Nat → Nat} {t : TP} {E : PE} {M : MS} {Q : QS} (hc : PCx Γ h D t E M Q) (hw : qw Q = false) (h30 : kQ E Q = 30) : Ct l Γ yX4_known cX4_known 2 (some .int) 2 0 0 [.ref (D 0)] z h (RdP z h (some (.int (oI (E.2.2 (qt Q)))))) := by
  refine Ct.of hl hΓ (by decide +kernel) (Nat.le_of_ble_eq_true rfl) (fun X e1 e2 C => ?_)
  subst e1; subst e2
  have C : Cx X cX4_known 2 "RingDominoModel" "known" (some .int) [] 2 := C
  obtain ⟨c1, c2, c3, c4, c5, c6, c7, c8, c9, c10, c11, c12, c13⟩ := id hc
  have hN := c7 hw
  obtain ⟨v1, v2, v3, v4, v5⟩ := c2.2.2 hw
  have htc := tl_tc t
  have hcn := tcn_lt t
  have hlt : qt Q < tl t := hc.K.lt c5 (by have h30 : E.1 (qt Q) = 30 := h30; rw [h30]; decide)
  show WW X (RdP z h (some (.int (oI (E.2.2 (qt Q)))))) z h 0 0 0 [(0, .ref (D 0))] []
  have X0 : h (D 0) = some (cMd M.1 D) := c1.m
  have X8 : h (D 8) = some (cTd (M.1 25) (M.1 26) (M.1 27) (M.1 28) (M.1 29) (fun i => D (30 + i))) := c1.1 8 (by decide)
  have Y6 : h (D 6) = some (cI (xG X) 16 (M.2.1 6)) := c1.1 6 (by decide)
  have hE2 : E.2.2 (qt Q) = ff (fun j => sNm t (Q.2.2.2.2 j) (qt Q)) (qk Q) 0 := by rw [c4]; rfl
  refine ww_iconst C dX4_known_0 cI_0 ?_
  refine ww_istore_n (lv' := [(1, .int (nI 0)), (0, .ref (D 0))]) C dX4_known_1 rfl (by decide) rfl ?_
  refine loop_up (N := (qk Q)) (M := fun j => ff (fun j => sNm t (Q.2.2.2.2 j) (qt Q)) (qk Q) 0 = ff (fun j => sNm t (Q.2.2.2.2 j) (qt Q)) (qk Q - j) j → WW X (RdP z h (some (.int (oI (E.2.2 (qt Q)))))) z h 0 0 2 [(1, .int (nI j)), (0, .ref (D 0))] []) ?_ ?_ 0 (Nat.zero_le _) rfl
  · intro hv; show WW X (RdP z h (some (.int (oI (E.2.2 (qt Q)))))) z h 0 0 2 [(1, .int (nI (qk Q))), (0, .ref (D 0))] []
    refine ww_iload_n C dX4_known_2 rfl 0 rfl ?_
    refine ww_aload_n C dX4_known_3 rfl 1 rfl rfl ?_
    refine gf_X4_39_X4 C dX4_known_4 (Or.inl X0) rfl ?_
    refine gf_X4_150_X5 C dX4_known_7 (Or.inl X8) rfl ?_
    refine ww_st (st' := [.int (nI (qk Q)), .int (nI (qk Q))]) (by rw [show M.1 27 = nI (qk Q) from c2.2.1.1]) ?_
    refine ww_icmp_ge_t (tgt := 38) C dX4_known_10 (by decide) (nI_le (Nat.le_refl _) (by omega)) ?_
    refine ww_iconst C dX4_known_38 cI_m1 ?_
    exact ww_iret C dX4_known_39 (RdP.i (by rw [hE2, hv, ff_0]; try rfl))
  · intro j hi ih hv
    show WW X (RdP z h (some (.int (oI (E.2.2 (qt Q)))))) z h 0 0 2 [(1, .int (nI j)), (0, .ref (D 0))] []
    obtain ⟨n1, n2⟩ := hN j hi
    refine ww_iload_n C dX4_known_2 rfl 0 rfl ?_
    refine ww_aload_n C dX4_known_3 rfl 1 rfl rfl ?_
    refine gf_X4_39_X4 C dX4_known_4 (Or.inl X0) rfl ?_
    refine gf_X4_150_X5 C dX4_known_7 (Or.inl X8) rfl ?_
    refine ww_st (st' := [.int (nI (qk Q)), .int (nI j)]) (by rw [show M.1 27 = nI (qk Q) from c2.2.1.1]) ?_
    refine ww_icmp_ge_f (tgt := 38) C dX4_known_10 (by decide) (nI_ge hi (by omega)) ?_
    refine ww_aload_n C dX4_known_13 rfl 1 rfl rfl ?_
    refine ww_aload_n C dX4_known_14 rfl 1 rfl rfl ?_
    refine gf_X4_29_X4 C dX4_known_15 (Or.inl X0) rfl ?_
    refine ww_iload_n C dX4_known_18 rfl 0 rfl ?_
    refine ww_iald C dX4_known_19 (Or.inl Y6) (by omega) (by decide) ?_
    refine ww_st (st' := [.int (nI (Q.2.2.2.2 j)), .ref (D 0)]) (by rw [v4 j hi]) ?_
    refine ww_aload_n C dX4_known_20 rfl 1 rfl rfl ?_
    refine gf_X4_120_X4 C dX4_known_21 (Or.inl X0) rfl ?_
    refine ww_st (st' := [.int (nI (qt Q)), .int (nI (Q.2.2.2.2 j)), .ref (D 0)]) (by rw [show M.1 3 = nI (qt Q) from c2.1.1]) ?_
    refine cv_X4_153_r (As := [.int (nI (Q.2.2.2.2 j)), .int (nI (qt Q))]) (rest := []) C dX4_known_24 (ct_X4_isSameName (Cx.fl C) (Cx.ok C) (t := t) c1 c3 c6 (by omega) (by omega)) (rc_X4 (Cx.ok C) (Or.inl X0)) rfl rfl (Nat.le_of_ble_eq_true rfl) (by decide) (Nat.zero_le _) (Nat.zero_le _) ?_
    refine ww_if_eq_b (tgt := 32) C dX4_known_27 (by decide) (fun c_27 => ?_) (fun c_27 => ?_)
    · skip
      refine ww_iinc (lv' := [(1, .int (nI (j + 1))), (0, .ref (D 0))]) C dX4_known_32 0 rfl (inc_n _) (by decide) rfl ?_
      refine ww_goto (tgt := 2) C dX4_known_35 (by decide) ?_
      exact ih (hv.trans (ff_f hi c_27))
    · skip
      refine ww_iload_n C dX4_known_30 rfl 0 rfl ?_
      exact ww_iret C dX4_known_31 (RdP.i (by rw [hE2, hv, ff_t hi c_27]; try rfl))
set_option maxHeartbeats 2000000 in
theorem ct_X4_name {l : Launch} {Γ : Gm} (hl : l.flags = flags0) (hΓ : GOK Γ) {z : ZR} {h : AH} {D : Nat → Nat} {t : TP} {E : PE} {M : MS} {Q : QS} (hc : PCx Γ h D t E M Q) : Ct l Γ yX4_name cX4_name 2 (some .int) 3 0 0 [.ref (D 0)] z h (Rv (fun v z' h' => v = .int (nI (nmQ E Q).1) ∧ PP Γ z h D t E M (nmQ E Q).2 z' h')) := by
  refine Ct.of hl hΓ (by decide +kernel) (Nat.le_of_ble_eq_true rfl) (fun X e1 e2 C => ?_)
  subst e1; subst e2
  have C : Cx X cX4_name 2 "RingDominoModel" "name" (some .int) [] 3 := C
  obtain ⟨c1, c2, c3, c4, c5, c6, c7, c8, c9, c10, c11, c12, c13⟩ := id hc
  show WW X (Rv (fun v z' h' => v = .int (nI (nmQ E Q).1) ∧ PP (xG X) z h D t E M (nmQ E Q).2 z' h')) z h 0 0 0 [(0, .ref (D 0))] []
  have X0_1 : h (D 0) = some (cMd M.1 D) := hc.1.m
  refine ww_aload_n C dX4_name_0 rfl 0 rfl rfl ?_
  refine ww_bipush C dX4_name_1 cB_30 ?_
  refine cv_X4_129_r (As := [.int (nI 30)]) (rest := []) C dX4_name_3 (ct_X4_is (Cx.fl C) (Cx.ok C) (k := 30) hc (by decide)) (rc_X4 (Cx.ok C) (Or.inl X0_1)) rfl rfl (Nat.le_of_ble_eq_true rfl) (by omega) (Nat.zero_le _) (Nat.zero_le _) ?_
  refine ww_if_eq_b (tgt := 16) C dX4_name_6 (by decide) (fun c_6 => ?_) (fun c_6 => ?_)
  · skip
    have X0_2 : h (D 0) = some (cMd M.1 D) := hc.1.m
    refine ww_iconst C dX4_name_16 cI_0 ?_
    refine ww_istore_n (lv' := [(1, .int (nI 0)), (0, .ref (D 0))]) C dX4_name_17 rfl (by decide) rfl ?_
    have hn : nmQ E Q = (0, tkQ E 30 Q) := by unfold nmQ; rw [c_6]
    refine ww_iload_n C dX4_name_18 rfl 0 rfl ?_
    refine ww_iconst C dX4_name_19 cI_m1 ?_
    refine ww_icmp_ne_t (tgt := 28) C dX4_name_20 (by decide) (fun q => by cases q) ?_
    refine ww_aload_n C dX4_name_28 rfl 1 rfl rfl ?_
    refine ww_bipush C dX4_name_29 cB_30 ?_
    refine cv_X4_164_q (As := [.int (nI 30)]) (rest := []) C dX4_name_31 (ct_X4_take (Cx.fl C) (Cx.ok C) hc (k := 30) (by decide) (by decide)) (rc_X4 (Cx.ok C) (Or.inl X0_2)) rfl rfl (Nat.le_of_ble_eq_true rfl) (by omega) (Nat.zero_le _) (Nat.zero_le _) (fun z3 h3 q3 => ?_)
    obtain ⟨hq3, M3, pf3, hc3, fr3⟩ := q3; replace hq3 := hq3.symm; subst hq3
    have pg3 := (PF.rf (M := M)).tr pf3
    have fg3 := (FrD.rf (h := h) (D := D)).tr fr3
    have X0_4 : h3 (D 0) = some (cMd M3.1 D) := hc3.1.m
    refine ww_iconst C dX4_name_34 cI_0 ?_
    refine ww_iload_n C dX4_name_35 rfl 0 rfl ?_
    refine cs_X4_167_r (As := [.int (nI 0), .int (nI 0)]) (rest := []) C dX4_name_36 (ct_J14_maxI (Cx.fl C) (Cx.ok C)) rfl rfl (Nat.le_of_ble_eq_true rfl) (by decide) (Nat.zero_le _) (Nat.zero_le _) ?_
    exact ww_iret C dX4_name_39 ⟨(by rw [hn]; try rfl), (by rw [hn]; exact ⟨rfl, M3, pg3, hc3, fg3⟩)⟩
  · skip
    have X0_5 : h (D 0) = some (cMd M.1 D) := hc.1.m
    obtain ⟨i1, i2⟩ := isQ_t c_6
    have hEl : ∀ k, E.2.2 (qt Q) = some k → k < 16 := fun k q => by rw [c4] at q; have h1 : k < 0 + qk Q := (ff_lt _ _ _ q).1; omega
    refine ww_aload_n C dX4_name_9 rfl 0 rfl rfl ?_
    refine cv_X4_157_r (As := []) (rest := []) C dX4_name_10 (ct_X4_known (Cx.fl C) (Cx.ok C) hc i1 i2) (rc_X4 (Cx.ok C) (Or.inl X0_5)) rfl rfl (Nat.le_of_ble_eq_true rfl) (by decide) (Nat.zero_le _) (Nat.zero_le _) ?_
    refine ww_goto (tgt := 17) C dX4_name_13 (by decide) ?_
    refine ww_istore_n (lv' := [(1, .int (oI (E.2.2 (qt Q)))), (0, .ref (D 0))]) C dX4_name_17 rfl (by decide) rfl ?_
    refine ww_iload_n C dX4_name_18 rfl 0 rfl ?_
    refine ww_iconst C dX4_name_19 cI_m1 ?_
    cases hk : E.2.2 (qt Q) with
    | none =>
      have hn : nmQ E Q = (0, tkQ E 30 (mkQ 3 Q)) := by unfold nmQ; rw [c_6]; simp only [hk]; rfl
      refine ww_icmp_ne_f (tgt := 28) C dX4_name_20 (by decide) rfl ?_
      refine ww_aload_n C dX4_name_23 rfl 1 rfl rfl ?_
      refine ww_iconst C dX4_name_24 cI_3 ?_
      refine cv_X4_160_q (As := [.int (nI 3)]) (rest := []) C dX4_name_25 (ct_X4_mark (Cx.fl C) (Cx.ok C) hc (c := 3) (by decide)) (rc_X4 (Cx.ok C) (Or.inl X0_5)) rfl rfl (Nat.le_of_ble_eq_true rfl) (by omega) (Nat.zero_le _) (Nat.zero_le _) (fun z6 h6 q6 => ?_)
      obtain ⟨hq6, M6, pf6, hc6, fr6⟩ := q6; replace hq6 := hq6.symm; subst hq6
      have pg6 := (PF.rf (M := M)).tr pf6
      have fg6 := (FrD.rf (h := h) (D := D)).tr fr6
      have X0_7 : h6 (D 0) = some (cMd M6.1 D) := hc6.1.m
      refine ww_aload_n C dX4_name_28 rfl 1 rfl rfl ?_
      refine ww_bipush C dX4_name_29 cB_30 ?_
      refine cv_X4_164_q (As := [.int (nI 30)]) (rest := []) C dX4_name_31 (ct_X4_take (Cx.fl C) (Cx.ok C) hc6 (k := 30) (by decide) (by decide)) (rc_X4 (Cx.ok C) (Or.inl X0_7)) rfl rfl (Nat.le_of_ble_eq_true rfl) (by omega) (Nat.zero_le _) (Nat.zero_le _) (fun z8 h8 q8 => ?_)
      obtain ⟨hq8, M8, pf8, hc8, fr8⟩ := q8; replace hq8 := hq8.symm; subst hq8
      have pg8 := pg6.tr pf8
      have fg8 := fg6.tr fr8
      have X0_9 : h8 (D 0) = some (cMd M8.1 D) := hc8.1.m
      refine ww_iconst C dX4_name_34 cI_0 ?_
      refine ww_iload_n C dX4_name_35 rfl 0 rfl ?_
      refine cs_X4_167_r (As := [.int (nI 0), .int (oI none)]) (rest := []) C dX4_name_36 (ct_J14_maxI (Cx.fl C) (Cx.ok C)) rfl rfl (Nat.le_of_ble_eq_true rfl) (by decide) (Nat.zero_le _) (Nat.zero_le _) ?_
      exact ww_iret C dX4_name_39 ⟨(by rw [hn]; try rfl), (by rw [hn]; exact ⟨rfl, M8, pg8, hc8, fg8⟩)⟩
    | some k =>
      have hk16 := hEl k hk
      have hn : nmQ E Q = (k, tkQ E 30 Q) := by unfold nmQ; rw [c_6]; simp only [hk]; rfl
      refine ww_icmp_ne_t (tgt := 28) C dX4_name_20 (by decide) (fun q => nI_ne_m1 (by omega) q) ?_
      refine ww_aload_n C dX4_name_28 rfl 1 rfl rfl ?_
      refine ww_bipush C dX4_name_29 cB_30 ?_
      refine cv_X4_164_q (As := [.int (nI 30)]) (rest := []) C dX4_name_31 (ct_X4_take (Cx.fl C) (Cx.ok C) hc (k := 30) (by decide) (by decide)) (rc_X4 (Cx.ok C) (Or.inl X0_5)) rfl rfl (Nat.le_of_ble_eq_true rfl) (by omega) (Nat.zero_le _) (Nat.zero_le _) (fun z10 h10 q10 => ?_)
      obtain ⟨hq10, M10, pf10, hc10, fr10⟩ := q10; replace hq10 := hq10.symm; subst hq10
      have pg10 := (PF.rf (M := M)).tr pf10
      have fg10 := (FrD.rf (h := h) (D := D)).tr fr10
      have X0_11 : h10 (D 0) = some (cMd M10.1 D) := hc10.1.m
      refine ww_iconst C dX4_name_34 cI_0 ?_
      refine ww_iload_n C dX4_name_35 rfl 0 rfl ?_
      refine cs_X4_167_r (As := [.int (nI 0), .int (nI k)]) (rest := []) C dX4_name_36 (ct_J14_maxI (Cx.fl C) (Cx.ok C)) rfl rfl (Nat.le_of_ble_eq_true rfl) (by decide) (Nat.zero_le _) (Nat.zero_le _) ?_
      exact ww_iret C dX4_name_39 ⟨(by rw [hn]; show Value.int _ = Value.int (nI k); rw [max0 (by omega)]), (by rw [hn]; exact ⟨rfl, M10, pg10, hc10, fg10⟩)⟩
end MO19
