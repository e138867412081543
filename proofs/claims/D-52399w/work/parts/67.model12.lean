section MO12
set_option maxRecDepth 100000
set_option maxHeartbeats 2000000 in
theorem ct_X4_trim {l : Launch} {Γ : Gm} (hl : l.flags = flags0) (hΓ : GOK Γ) {z : ZR} {h : AH} {M : MS} {D : Nat → Nat} {x : Int32} (hX : Mx Γ h D M) : Ct l Γ yX4_trim cX4_trim 2 (some .int) 2 0 0 [.ref (D 0), .int x] z h (Rv (fun v z' h' => z' = z ∧ FrD h h' D ∧ (match decide (nI 0 ≤ x) && decide (x ≤ M.1 1) with | true => v = .int x ∧ Mx Γ h' D (upd (upd M.1 0 (nI 0)) 1 x, M.2) | false => v = .int (nI 0) ∧ Mx Γ h' D (upd M.1 0 (nI 1), M.2)))) := by
  refine Ct.of hl hΓ (by decide +kernel) (Nat.le_of_ble_eq_true rfl) (fun X e1 e2 C => ?_)
  subst e1; subst e2
  have C : Cx X cX4_trim 2 "RingDominoModel" "trim" (some .int) [] 2 := C
  have X0 := hX.m
  show WW X (Rv (fun v z' h' => z' = z ∧ FrD h h' D ∧ (match decide (nI 0 ≤ x) && decide (x ≤ M.1 1) with | true => v = .int x ∧ Mx (xG X) h' D (upd (upd M.1 0 (nI 0)) 1 x, M.2) | false => v = .int (nI 0) ∧ Mx (xG X) h' D (upd M.1 0 (nI 1), M.2)))) z h 0 0 0 [(0, .ref (D 0)), (1, .int x)] []
  refine ww_aload_n C dX4_trim_0 rfl 0 rfl rfl ?_
  refine ww_iconst C dX4_trim_1 cI_0 ?_
  refine pf_X4_65_X4 (fs' := [.int (nI 0), .ref (D 1), .int (M.1 1), .int (M.1 2), .ref (D 2), .ref (D 3), .ref (D 4), .ref (D 5), .int (M.1 3), .int (M.1 4), .int (M.1 5), .int (M.1 6), .int (M.1 7), .ref (D 6), .ref (D 7), .ref (D 8), .ref (D 9), .ref (D 10), .ref (D 11), .ref (D 12), .ref (D 13), .int (M.1 8), .int (M.1 9), .int (M.1 10)]) C dX4_trim_2 X0 rfl rfl (Nat.le_of_ble_eq_true rfl) rfl ?_
  refine ww_gen (fun h1 hE1 => ?_)
  have X0_h1 : h1 (D 0) = some (.inr (3, [.int (nI 0), .ref (D 1), .int (M.1 1), .int (M.1 2), .ref (D 2), .ref (D 3), .ref (D 4), .ref (D 5), .int (M.1 3), .int (M.1 4), .int (M.1 5), .int (M.1 6), .int (M.1 7), .ref (D 6), .ref (D 7), .ref (D 8), .ref (D 9), .ref (D 10), .ref (D 11), .ref (D 12), .ref (D 13), .int (M.1 8), .int (M.1 9), .int (M.1 10)])) := by rw [hE1]; exact up_s
  have hX1 : Mx (xG X) h1 D (upd M.1 0 (nI 0), M.2) := by rw [hE1]; exact hX.thr _
  have X1 := hX1.m
  have hF1 : FrD h h1 D := by rw [hE1]; exact FrD.w FrD.rf (i := 0) (by decide)
  refine ww_iload_n C dX4_trim_5 rfl 1 rfl ?_
  refine ww_iconst C dX4_trim_6 cI_0 ?_
  refine ww_aload_n C dX4_trim_7 rfl 0 rfl rfl ?_
  refine gf_X4_72_X4 C dX4_trim_8 (Or.inl X1) rfl ?_
  refine cs_X4_68_r (As := [.int x, .int (nI 0), .int ((upd M.1 0 (nI 0)) 1)]) (rest := []) C dX4_trim_11 (ct_X4_isIn (Cx.fl C) (Cx.ok C)) rfl rfl (Nat.le_of_ble_eq_true rfl) (by decide) (Nat.zero_le _) (Nat.zero_le _) ?_
  have hu1 : upd M.1 0 (nI 0) 1 = M.1 1 := rfl
  refine ww_if_ne_b (tgt := 23) C dX4_trim_14 (by decide) (fun c_14 => ?_) (fun c_14 => ?_)
  · skip
    refine ww_aload_n C dX4_trim_23 rfl 0 rfl rfl ?_
    refine ww_iload_n C dX4_trim_24 rfl 1 rfl ?_
    refine pf_X4_72_X4 (fs' := [.int ((upd M.1 0 (nI 0)) 0), .ref (D 1), .int x, .int ((upd M.1 0 (nI 0)) 2), .ref (D 2), .ref (D 3), .ref (D 4), .ref (D 5), .int ((upd M.1 0 (nI 0)) 3), .int ((upd M.1 0 (nI 0)) 4), .int ((upd M.1 0 (nI 0)) 5), .int ((upd M.1 0 (nI 0)) 6), .int ((upd M.1 0 (nI 0)) 7), .ref (D 6), .ref (D 7), .ref (D 8), .ref (D 9), .ref (D 10), .ref (D 11), .ref (D 12), .ref (D 13), .int ((upd M.1 0 (nI 0)) 8), .int ((upd M.1 0 (nI 0)) 9), .int ((upd M.1 0 (nI 0)) 10)]) C dX4_trim_25 X1 rfl rfl (Nat.le_of_ble_eq_true rfl) rfl ?_
    refine ww_gen (fun h2 hE2 => ?_)
    have X1_h2 : h2 (D 0) = some (.inr (3, [.int ((upd M.1 0 (nI 0)) 0), .ref (D 1), .int x, .int ((upd M.1 0 (nI 0)) 2), .ref (D 2), .ref (D 3), .ref (D 4), .ref (D 5), .int ((upd M.1 0 (nI 0)) 3), .int ((upd M.1 0 (nI 0)) 4), .int ((upd M.1 0 (nI 0)) 5), .int ((upd M.1 0 (nI 0)) 6), .int ((upd M.1 0 (nI 0)) 7), .ref (D 6), .ref (D 7), .ref (D 8), .ref (D 9), .ref (D 10), .ref (D 11), .ref (D 12), .ref (D 13), .int ((upd M.1 0 (nI 0)) 8), .int ((upd M.1 0 (nI 0)) 9), .int ((upd M.1 0 (nI 0)) 10)])) := by rw [hE2]; exact up_s
    refine ww_iload_n C dX4_trim_28 rfl 1 rfl ?_
    exact ww_iret C dX4_trim_29 ⟨rfl, by rw [hE2]; exact FrD.w hF1 (i := 0) (by decide), by rw [show (decide (nI 0 ≤ x) && decide (x ≤ M.1 1)) = true from c_14]; exact ⟨rfl, by rw [hE2]; exact Mx.i hX1 (j := 1) (Or.inl (by decide)) rfl⟩⟩
  · skip
    refine ww_aload_n C dX4_trim_17 rfl 0 rfl rfl ?_
    refine ww_iconst C dX4_trim_18 cI_1 ?_
    refine cv_X4_254_q (As := [.int (nI 1)]) (rest := []) C dX4_trim_19 (ct_X4_no (Cx.fl C) (Cx.ok C) X1) (rc_X4 (Cx.ok C) (Or.inl X1)) rfl rfl (Nat.le_of_ble_eq_true rfl) (by decide) (Nat.zero_le _) (Nat.zero_le _) (fun v z9 h9 q => ?_)
    obtain ⟨rfl, hq1, hq2⟩ := q; replace hq1 := hq1.symm; subst hq1
    exact ww_iret C dX4_trim_22 ⟨rfl, by rw [hq2]; exact FrD.w hF1 (i := 0) (by decide), by rw [show (decide (nI 0 ≤ x) && decide (x ≤ M.1 1)) = false from c_14]; exact ⟨rfl, by rw [hq2, hE1, up_up, upd_upd]; exact hX.thr _⟩⟩
set_option maxHeartbeats 2000000 in
theorem ct_X4_looksToProve {l : Launch} {Γ : Gm} (hl : l.flags = flags0) (hΓ : GOK Γ) {z : ZR} {h : AH} {B : GB} {M : MS} {D : Nat → Nat} {x : Int32} (hz : zle (cst Γ) z) (hX : Mx Γ h D M) (hb : MBd M 30 40 B) (hC : BC B) : Ct l Γ yX4_looksToProve cX4_looksToProve 4 (some .int) 8 0 0 [.ref (D 0), .int x] z h (Rv (Mq Γ z h D M (aLok B x))) := by
  refine Ct.of hl hΓ (by decide +kernel) (Nat.le_of_ble_eq_true rfl) (fun X e1 e2 C => ?_)
  subst e1; subst e2
  have C : Cx X cX4_looksToProve 4 "RingDominoModel" "looksToProve" (some .int) [] 8 := C
  have hB := hC.1
  obtain ⟨⟨⟨c1, c2⟩, ⟨r1, r2⟩⟩, t1, bl1, bu1, bp1, bn1⟩ := id hB
  have hzz := BO.z hB
  have hz0 : 0 < Bz B := Nat.mul_pos (by omega) (by omega)
  have X0 := hX.m
  have hR := Mx.n (z := z) hX hb
  have hP : MrP (xG X) z h (D 0) (D 10) B := ⟨_, D, Or.inl X0, hR⟩
  obtain ⟨o, nn, rn, nu, tu, S, Ht, Hn, hnu, Hs, Ha, Hc, Hu, htu⟩ := id hR
  show WW X (Rv (Mq (xG X) z h D M (aLok B x))) z h 0 0 0 [(0, .ref (D 0)), (1, .int x)] []
  refine ww_aload_n C dX4_looksToProve_0 rfl 0 rfl rfl ?_
  refine ww_iconst C dX4_looksToProve_1 cI_0 ?_
  refine pf_X4_65_X4 (fs' := [.int (nI 0), .ref (D 1), .int (M.1 1), .int (M.1 2), .ref (D 2), .ref (D 3), .ref (D 4), .ref (D 5), .int (M.1 3), .int (M.1 4), .int (M.1 5), .int (M.1 6), .int (M.1 7), .ref (D 6), .ref (D 7), .ref (D 8), .ref (D 9), .ref (D 10), .ref (D 11), .ref (D 12), .ref (D 13), .int (M.1 8), .int (M.1 9), .int (M.1 10)]) C dX4_looksToProve_2 X0 rfl rfl (Nat.le_of_ble_eq_true rfl) rfl ?_
  refine ww_gen (fun h1 hE1 => ?_)
  have X0_h1 : h1 (D 0) = some (.inr (3, [.int (nI 0), .ref (D 1), .int (M.1 1), .int (M.1 2), .ref (D 2), .ref (D 3), .ref (D 4), .ref (D 5), .int (M.1 3), .int (M.1 4), .int (M.1 5), .int (M.1 6), .int (M.1 7), .ref (D 6), .ref (D 7), .ref (D 8), .ref (D 9), .ref (D 10), .ref (D 11), .ref (D 12), .ref (D 13), .int (M.1 8), .int (M.1 9), .int (M.1 10)])) := by rw [hE1]; exact up_s
  have hX1 : Mx (xG X) h1 D (upd M.1 0 (nI 0), M.2) := by rw [hE1]; exact hX.thr _
  have hb1 : MBd (upd M.1 0 (nI 0), M.2) 30 40 B := hb.thr
  have hR1 := Mx.n (z := z) hX1 hb1
  have hP1 : MrP (xG X) z h1 (D 0) (D 10) B := ⟨_, D, Or.inl hX1.m, hR1⟩
  obtain ⟨o1, nn1, rn1, nu1, tu1, S1, Ht1, Hn1, hnu1, Hs1, Ha1, Hc1, Hu1, htu1⟩ := id hR1
  have hE0 : h1 = up h (D 0) (cMd (upd M.1 0 (nI 0)) D) := hE1
  have X1 := hX1.m
  refine ww_aload_n C dX4_looksToProve_5 rfl 0 rfl rfl ?_
  refine ww_iload_n C dX4_looksToProve_6 rfl 1 rfl ?_
  refine cv_X4_400_r (As := [.int x]) (rest := []) C dX4_looksToProve_7 (ct_X4_isTile (Cx.fl C) (Cx.ok C) hz hP1 hC) (rc_X4 (Cx.ok C) (Or.inl X1)) rfl rfl (Nat.le_of_ble_eq_true rfl) (by decide) (Nat.zero_le _) (Nat.zero_le _) ?_
  refine ww_if_ne_b (tgt := 19) C dX4_looksToProve_10 (by decide) (fun c_10 => ?_) (fun c_10 => ?_)
  · skip
    obtain ⟨c, hc, hxc, hix⟩ := ixB_t (by omega) c_10
    subst hxc
    refine ww_aload_n C dX4_looksToProve_19 rfl 0 rfl rfl ?_
    refine ww_iload_n C dX4_looksToProve_20 rfl 1 rfl ?_
    refine cv_X4_409_r (As := [.int (nI c)]) (rest := []) C dX4_looksToProve_21 (ct_X4_leftover (Cx.fl C) (Cx.ok C) hz (Or.inl X1) hR1 hC hc) (rc_X4 (Cx.ok C) (Or.inl X1)) rfl rfl (Nat.le_of_ble_eq_true rfl) (by decide) (Nat.zero_le _) (Nat.zero_le _) ?_
    refine ww_if_ne_b (tgt := 33) C dX4_looksToProve_24 (by decide) (fun c_24 => ?_) (fun c_24 => ?_)
    · skip
      refine ww_iconst C dX4_looksToProve_33 cI_0 ?_
      refine ww_istore_n (lv' := [(2, .int (nI 0)), (0, .ref (D 0)), (1, .int (nI c))]) C dX4_looksToProve_34 rfl (by decide) rfl ?_
      refine ww_iconst C dX4_looksToProve_35 cI_0 ?_
      refine ww_istore_n (lv' := [(3, .int (nI 0)), (2, .int (nI 0)), (0, .ref (D 0)), (1, .int (nI c))]) C dX4_looksToProve_36 rfl (by decide) rfl ?_
      refine loop_up (N := (Bz B)) (M := fun x => WW X (Rv (Mq (xG X) z h D M (aLok B (nI c)))) z h1 0 0 37 [(3, .int (nI x)), (2, .int (nI (cnt (fun y => !(hasT B (some y)) && decide (0 < arN B y)) x))), (0, .ref (D 0)), (1, .int (nI c))] []) ?_ ?_ 0 (Nat.zero_le _)
      · show WW X (Rv (Mq (xG X) z h D M (aLok B (nI c)))) z h1 0 0 37 [(3, .int (nI (Bz B))), (2, .int (nI (cnt (fun y => !(hasT B (some y)) && decide (0 < arN B y)) (Bz B)))), (0, .ref (D 0)), (1, .int (nI c))] []
        have n0 := hnu1 c 0 hc (by decide)
        have n1 := hnu1 c 1 hc (by decide)
        have n2 := hnu1 c 2 hc (by decide)
        have b0 := bn1 c hc 0 (by decide)
        have b1 := bn1 c hc 1 (by decide)
        have b2 := bn1 c hc 2 (by decide)
        refine ww_iload_n C dX4_looksToProve_37 rfl 0 rfl ?_
        refine ww_aload_n C dX4_looksToProve_38 rfl 2 rfl rfl ?_
        refine cv_X4_307_r (As := []) (rest := [.int (nI (Bz B))]) C dX4_looksToProve_39 (ct_X4_cells (Cx.fl C) (Cx.ok C) hz hP1 hC) (rc_X4 (Cx.ok C) (Or.inl X1)) rfl rfl (Nat.le_of_ble_eq_true rfl) (by decide) (Nat.zero_le _) (Nat.zero_le _) ?_
        refine ww_icmp_ge_t (tgt := 84) C dX4_looksToProve_42 (by decide) (nI_le (Nat.le_refl _) (by omega)) ?_
        refine ww_aload_n C dX4_looksToProve_84 rfl 2 rfl rfl ?_
        refine gf_X4_35_X4 C dX4_looksToProve_85 (Or.inl X1) rfl ?_
        refine gf_X4_214_X5 C dX4_looksToProve_88 Ht1 rfl ?_
        refine ww_iconst C dX4_looksToProve_91 cI_3 ?_
        refine ww_iload_n C dX4_looksToProve_92 rfl 3 rfl ?_
        refine ww_imuln C dX4_looksToProve_93 ?_
        refine ww_iald C dX4_looksToProve_94 Hn1 (by omega) (by decide) ?_
        refine ww_st (st' := [.int (nI (Bn B c 0))]) (by rw [← n0]; rfl) ?_
        refine ww_aload_n C dX4_looksToProve_95 rfl 2 rfl rfl ?_
        refine gf_X4_35_X4 C dX4_looksToProve_96 (Or.inl X1) rfl ?_
        refine gf_X4_214_X5 C dX4_looksToProve_99 Ht1 rfl ?_
        refine ww_iconst C dX4_looksToProve_102 cI_3 ?_
        refine ww_iload_n C dX4_looksToProve_103 rfl 3 rfl ?_
        refine ww_imuln C dX4_looksToProve_104 ?_
        refine ww_iconst C dX4_looksToProve_105 cI_1 ?_
        refine ww_iaddn C dX4_looksToProve_106 ?_
        refine ww_iald C dX4_looksToProve_107 Hn1 (by omega) (by decide) ?_
        refine ww_st (st' := [.int (nI (Bn B c 1)), .int (nI (Bn B c 0))]) (by rw [← n1]) ?_
        refine ww_icmp_ne_n (tgt := 142) C dX4_looksToProve_108 (by decide) (by omega) (by omega) (fun c_108 => ?_) (fun c_108 => ?_)
        · skip
          refine ww_iconst C dX4_looksToProve_142 cI_0 ?_
          refine ww_istore_n (lv' := [(3, .int (nI 0)), (2, .int (nI (cnt (fun y => !(hasT B (some y)) && decide (0 < arN B y)) (Bz B)))), (0, .ref (D 0)), (1, .int (nI c))]) C dX4_looksToProve_143 rfl (by decide) rfl ?_
          refine ww_iload_n C dX4_looksToProve_144 rfl 0 rfl ?_
          refine ww_if_eq_t (tgt := 152) C dX4_looksToProve_145 (by decide) rfl ?_
          refine ww_bipush C dX4_looksToProve_152 cB_6 ?_
          refine ww_iload_n C dX4_looksToProve_154 rfl 1 rfl ?_
          refine ww_imuln C dX4_looksToProve_155 ?_
          exact ww_iret C dX4_looksToProve_156 (Mq.of hX (by unfold aLok; rw [hix]; simp only [c_24]; unfold lkN alN; rw [decide_eq_false c_108, Bool.false_and]; try rfl) (by rw [hE0]; unfold aLok; rw [hix]; simp only [c_24]; try rfl))
        · skip
          refine ww_aload_n C dX4_looksToProve_111 rfl 2 rfl rfl ?_
          refine gf_X4_35_X4 C dX4_looksToProve_112 (Or.inl X1) rfl ?_
          refine gf_X4_214_X5 C dX4_looksToProve_115 Ht1 rfl ?_
          refine ww_iconst C dX4_looksToProve_118 cI_3 ?_
          refine ww_iload_n C dX4_looksToProve_119 rfl 3 rfl ?_
          refine ww_imuln C dX4_looksToProve_120 ?_
          refine ww_iald C dX4_looksToProve_121 Hn1 (by omega) (by decide) ?_
          refine ww_st (st' := [.int (nI (Bn B c 0))]) (by rw [← n0]; rfl) ?_
          refine ww_aload_n C dX4_looksToProve_122 rfl 2 rfl rfl ?_
          refine gf_X4_35_X4 C dX4_looksToProve_123 (Or.inl X1) rfl ?_
          refine gf_X4_214_X5 C dX4_looksToProve_126 Ht1 rfl ?_
          refine ww_iconst C dX4_looksToProve_129 cI_3 ?_
          refine ww_iload_n C dX4_looksToProve_130 rfl 3 rfl ?_
          refine ww_imuln C dX4_looksToProve_131 ?_
          refine ww_iconst C dX4_looksToProve_132 cI_2 ?_
          refine ww_iaddn C dX4_looksToProve_133 ?_
          refine ww_iald C dX4_looksToProve_134 Hn1 (by omega) (by decide) ?_
          refine ww_st (st' := [.int (nI (Bn B c 2)), .int (nI (Bn B c 0))]) (by rw [← n2]) ?_
          refine ww_tern_icmp_ne_n C dX4_looksToProve_135 dX4_looksToProve_138 dX4_looksToProve_139 dX4_looksToProve_142 (by omega) (by omega) ?_
          refine ww_istore_n (lv' := [(3, .int (bI (decide ((Bn B c 0) = (Bn B c 2))))), (2, .int (nI (cnt (fun y => !(hasT B (some y)) && decide (0 < arN B y)) (Bz B)))), (0, .ref (D 0)), (1, .int (nI c))]) C dX4_looksToProve_143 rfl (by decide) rfl ?_
          refine ww_iload_n C dX4_looksToProve_144 rfl 0 rfl ?_
          refine ww_if_eq_b (tgt := 152) C dX4_looksToProve_145 (by decide) (fun c_145 => ?_) (fun c_145 => ?_)
          · skip
            have hal : (decide (Bn B c 0 = Bn B c 1) && decide (Bn B c 1 = Bn B c 2)) = false := by rw [← c_108]; simpa using c_145
            refine ww_bipush C dX4_looksToProve_152 cB_6 ?_
            refine ww_iload_n C dX4_looksToProve_154 rfl 1 rfl ?_
            refine ww_imuln C dX4_looksToProve_155 ?_
            exact ww_iret C dX4_looksToProve_156 (Mq.of hX (by unfold aLok; rw [hix]; simp only [c_24]; unfold lkN alN; rw [hal]; try rfl) (by rw [hE0]; unfold aLok; rw [hix]; simp only [c_24]; try rfl))
          · skip
            have hal : (decide (Bn B c 0 = Bn B c 1) && decide (Bn B c 1 = Bn B c 2)) = true := by rw [← c_108]; simpa using c_145
            refine ww_iload_n C dX4_looksToProve_148 rfl 1 rfl ?_
            refine ww_goto (tgt := 156) C dX4_looksToProve_149 (by decide) ?_
            exact ww_iret C dX4_looksToProve_156 (Mq.of hX (by unfold aLok; rw [hix]; simp only [c_24]; unfold lkN alN; rw [hal]; try rfl) (by rw [hE0]; unfold aLok; rw [hix]; simp only [c_24]; try rfl))
      · intro x hi ih
        show WW X (Rv (Mq (xG X) z h D M (aLok B (nI c)))) z h1 0 0 37 [(3, .int (nI x)), (2, .int (nI (cnt (fun y => !(hasT B (some y)) && decide (0 < arN B y)) x))), (0, .ref (D 0)), (1, .int (nI c))] []
        have harx := arN_le B x
        refine ww_iload_n C dX4_looksToProve_37 rfl 0 rfl ?_
        refine ww_aload_n C dX4_looksToProve_38 rfl 2 rfl rfl ?_
        refine cv_X4_307_r (As := []) (rest := [.int (nI x)]) C dX4_looksToProve_39 (ct_X4_cells (Cx.fl C) (Cx.ok C) hz hP1 hC) (rc_X4 (Cx.ok C) (Or.inl X1)) rfl rfl (Nat.le_of_ble_eq_true rfl) (by decide) (Nat.zero_le _) (Nat.zero_le _) ?_
        refine ww_icmp_ge_f (tgt := 84) C dX4_looksToProve_42 (by decide) (nI_ge hi (by omega)) ?_
        refine ww_iload_n C dX4_looksToProve_45 rfl 1 rfl ?_
        refine ww_aload_n C dX4_looksToProve_46 rfl 2 rfl rfl ?_
        refine gf_X4_48_X4 C dX4_looksToProve_47 (Or.inl X1) rfl ?_
        refine gf_X4_280_X6 C dX4_looksToProve_50 Hs1 rfl ?_
        refine ww_iload_n C dX4_looksToProve_53 rfl 0 rfl ?_
        refine ww_iald C dX4_looksToProve_54 Ha1 (by omega) (by decide) ?_
        refine ww_iconst C dX4_looksToProve_55 cI_m1 ?_
        refine ww_icmp_ne_o (tgt := 75) C dX4_looksToProve_56 (by decide) (hC.a x) (fun c_56 => ?_) (fun c_56 => ?_)
        · skip
          have hT : (fun y => !(hasT B (some y)) && decide (0 < arN B y)) x = false := by show (!(hasT B (some x)) && _) = false; rw [← atO_is, Option.isSome_iff_ne_none.mpr c_56]; rfl
          refine ww_iconst C dX4_looksToProve_75 cI_0 ?_
          refine ww_iaddn C dX4_looksToProve_76 ?_
          refine ww_istore_n (lv' := [(2, .int (nI ((cnt (fun y => !(hasT B (some y)) && decide (0 < arN B y)) x) + 0))), (3, .int (nI x)), (0, .ref (D 0)), (1, .int (nI c))]) C dX4_looksToProve_77 rfl (by decide) rfl ?_
          refine ww_iinc (lv' := [(3, .int (nI (x + 1))), (2, .int (nI ((cnt (fun y => !(hasT B (some y)) && decide (0 < arN B y)) x) + 0))), (0, .ref (D 0)), (1, .int (nI c))]) C dX4_looksToProve_78 1 rfl (inc_n _) (by decide) rfl ?_
          refine ww_goto (tgt := 37) C dX4_looksToProve_81 (by decide) ?_
          exact ww_lv (lv' := [(3, .int (nI (x + 1))), (2, .int (nI (cnt (fun y => !(hasT B (some y)) && decide (0 < arN B y)) (x + 1)))), (0, .ref (D 0)), (1, .int (nI c))]) (by rw [cnt_f (f := (fun y => !(hasT B (some y)) && decide (0 < arN B y))) hT]; try rfl) ih
        · skip
          have hT : (fun y => !(hasT B (some y)) && decide (0 < arN B y)) x = decide (0 < arN B x) := by show (!(hasT B (some x)) && _) = _; rw [← atO_is, c_56]; rfl
          refine ww_aload_n C dX4_looksToProve_59 rfl 2 rfl rfl ?_
          refine ww_aload_n C dX4_looksToProve_60 rfl 2 rfl rfl ?_
          refine gf_X4_48_X4 C dX4_looksToProve_61 (Or.inl X1) rfl ?_
          refine ww_iload_n C dX4_looksToProve_64 rfl 0 rfl ?_
          refine cv_X4_299_r (As := [.ref (D 10), .int (nI x)]) (rest := [.int (nI (cnt (fun y => !(hasT B (some y)) && decide (0 < arN B y)) x))]) C dX4_looksToProve_65 (ct_X4_tilesBeside (Cx.fl C) (Cx.ok C) hz hP1 hC (by omega)) (rc_X4 (Cx.ok C) (Or.inl X1)) rfl rfl (Nat.le_of_ble_eq_true rfl) (by decide) (Nat.zero_le _) (Nat.zero_le _) ?_
          refine ww_tern_if_le_n C dX4_looksToProve_68 dX4_looksToProve_71 dX4_looksToProve_72 dX4_looksToProve_75 (by omega) ?_
          refine ww_iaddb C dX4_looksToProve_76 ?_
          refine ww_istore_n (lv' := [(2, .int (nI ((cnt (fun y => !(hasT B (some y)) && decide (0 < arN B y)) x) + (if decide (0 < (arN B x)) then 1 else 0)))), (3, .int (nI x)), (0, .ref (D 0)), (1, .int (nI c))]) C dX4_looksToProve_77 rfl (by decide) rfl ?_
          refine ww_iinc (lv' := [(3, .int (nI (x + 1))), (2, .int (nI ((cnt (fun y => !(hasT B (some y)) && decide (0 < arN B y)) x) + (if decide (0 < (arN B x)) then 1 else 0)))), (0, .ref (D 0)), (1, .int (nI c))]) C dX4_looksToProve_78 1 rfl (inc_n _) (by decide) rfl ?_
          refine ww_goto (tgt := 37) C dX4_looksToProve_81 (by decide) ?_
          exact ww_lv (lv' := [(3, .int (nI (x + 1))), (2, .int (nI (cnt (fun y => !(hasT B (some y)) && decide (0 < arN B y)) x + (if (fun y => !(hasT B (some y)) && decide (0 < arN B y)) x then 1 else 0)))), (0, .ref (D 0)), (1, .int (nI c))]) (by rw [hT]; try rfl) ih
    · skip
      refine ww_aload_n C dX4_looksToProve_27 rfl 0 rfl rfl ?_
      refine ww_iconst C dX4_looksToProve_28 cI_2 ?_
      refine cv_X4_254_q (As := [.int (nI 2)]) (rest := []) C dX4_looksToProve_29 (ct_X4_no (Cx.fl C) (Cx.ok C) X1) (rc_X4 (Cx.ok C) (Or.inl X1)) rfl rfl (Nat.le_of_ble_eq_true rfl) (by decide) (Nat.zero_le _) (Nat.zero_le _) (fun v z9 h9 q => ?_)
      obtain ⟨rfl, hq1, hq2⟩ := q; replace hq1 := hq1.symm; subst hq1
      exact ww_iret C dX4_looksToProve_32 (Mq.of hX (by unfold aLok; rw [hix]; simp only [c_24]; try rfl) (by rw [hq2, hE0, up_up, upd_upd]; unfold aLok; rw [hix]; simp only [c_24]; try rfl))
  · skip
    have hix := ixB_f c_10
    refine ww_aload_n C dX4_looksToProve_13 rfl 0 rfl rfl ?_
    refine ww_iconst C dX4_looksToProve_14 cI_1 ?_
    refine cv_X4_254_q (As := [.int (nI 1)]) (rest := []) C dX4_looksToProve_15 (ct_X4_no (Cx.fl C) (Cx.ok C) X1) (rc_X4 (Cx.ok C) (Or.inl X1)) rfl rfl (Nat.le_of_ble_eq_true rfl) (by decide) (Nat.zero_le _) (Nat.zero_le _) (fun v z9 h9 q => ?_)
    obtain ⟨rfl, hq1, hq2⟩ := q; replace hq1 := hq1.symm; subst hq1
    exact ww_iret C dX4_looksToProve_18 (Mq.of hX (by unfold aLok; rw [hix]; try rfl) (by rw [hq2, hE0, up_up, upd_upd]; unfold aLok; rw [hix]; try rfl))
end MO12
