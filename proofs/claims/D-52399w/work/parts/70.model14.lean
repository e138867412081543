section MO14
set_option maxRecDepth 100000
def tryM (M : MS) (b a : Nat) (B : GB) (k x t : Nat) : MS := match ftN B k x t with
  | false => M
  | true => putM M b a k x t
theorem cel_lt {B : GB} {u v : Nat} (hu : u < Br B) (hv : v < Bc B) : u * Bc B + v < Bz B := by
  have h1 : (u + 1) * Bc B ≤ Br B * Bc B := Nat.mul_le_mul_right _ hu
  have h2 : Bz B = Br B * Bc B := Nat.mul_comm _ _
  rw [Nat.succ_mul] at h1
  omega
set_option maxHeartbeats 2000000 in
theorem ct_X4_isPut {l : Launch} {Γ : Gm} (hl : l.flags = flags0) (hΓ : GOK Γ) {z : ZR} {h : AH} {B : GB} {M : MS} {D : Nat → Nat} {k : Nat} {x y t : Int32} (hz : zle (cst Γ) z) (hX : Mx Γ h D M) (hb : MBd M 30 40 B) (hC : BC B) (hk : k < Bt B) : Ct l Γ yX4_isPut cX4_isPut 8 (some .boolean) 6 0 0 [.ref (D 0), .ref (D 10), .int (nI k), .int x, .int y, .int t] z h (Rv (fun v z' h' => v = .int (bI (ftN B k (fmN y (Br B) * Bc B + fmN x (Bc B)) (fmN t 6))) ∧ z' = z ∧ Mx Γ h' D (tryM M 30 40 B k (fmN y (Br B) * Bc B + fmN x (Bc B)) (fmN t 6)) ∧ FrD h h' D)) := by
  refine Ct.of hl hΓ (by decide +kernel) (Nat.le_of_ble_eq_true rfl) (fun X e1 e2 C => ?_)
  subst e1; subst e2
  have C : Cx X cX4_isPut 8 "RingDominoModel" "isPut" (some .boolean) [] 6 := C
  have hB := hC.1
  obtain ⟨⟨⟨c1, c2⟩, ⟨r1, r2⟩⟩, t1, bl1, bu1, bp1, bn1⟩ := id hB
  have hzz := BO.z hB
  have X0 := hX.m
  have hR := Mx.n (z := z) hX hb
  have hP : MrP (xG X) z h (D 0) (D 10) B := ⟨_, D, Or.inl X0, hR⟩
  obtain ⟨o, nn, rn, nu, tu, S, Ht, -⟩ := id hR
  have Xs : h (D 10) = some (cSt (fun i => D (40 + i)) (M.1 30) (M.1 31)) := hX.1 10 (by decide)
  have f1 := fm_lt (x := y) (m := Br B) (by omega)
  have f2 := fm_lt (x := x) (m := Bc B) (by omega)
  have f3 := fm_lt (x := t) (m := 6) (by omega)
  have hcz := cel_lt f1 f2
  show WW X (Rv (fun v z' h' => v = .int (bI (ftN B k (fmN y (Br B) * Bc B + fmN x (Bc B)) (fmN t 6))) ∧ z' = z ∧ Mx (xG X) h' D (tryM M 30 40 B k (fmN y (Br B) * Bc B + fmN x (Bc B)) (fmN t 6)) ∧ FrD h h' D)) z h 0 0 0 [(0, .ref (D 0)), (1, .ref (D 10)), (2, .int (nI k)), (3, .int x), (4, .int y), (5, .int t)] []
  refine ww_iload C dX4_isPut_0 4 rfl ?_
  refine ww_aload_n C dX4_isPut_2 rfl 0 rfl rfl ?_
  refine gf_X4_35_X4 C dX4_isPut_3 (Or.inl X0) rfl ?_
  refine gf_X4_248_X5 C dX4_isPut_6 Ht rfl ?_
  refine cs_X4_361_r (As := [.int y, .int (nI (Br B))]) (rest := []) C dX4_isPut_9 (ct_J14_floorMod (Cx.fl C) (Cx.ok C) (by omega) (by omega)) rfl rfl (Nat.le_of_ble_eq_true rfl) (by decide) (Nat.zero_le _) (Nat.zero_le _) ?_
  refine ww_aload_n C dX4_isPut_12 rfl 0 rfl rfl ?_
  refine gf_X4_35_X4 C dX4_isPut_13 (Or.inl X0) rfl ?_
  refine gf_X4_245_X5 C dX4_isPut_16 Ht rfl ?_
  refine ww_imuln C dX4_isPut_19 ?_
  refine ww_iload_n C dX4_isPut_20 rfl 3 rfl ?_
  refine ww_aload_n C dX4_isPut_21 rfl 0 rfl rfl ?_
  refine gf_X4_35_X4 C dX4_isPut_22 (Or.inl X0) rfl ?_
  refine gf_X4_245_X5 C dX4_isPut_25 Ht rfl ?_
  refine cs_X4_361_r (As := [.int x, .int (nI (Bc B))]) (rest := [.int (nI ((fmN y (Br B)) * (Bc B)))]) C dX4_isPut_28 (ct_J14_floorMod (Cx.fl C) (Cx.ok C) (by omega) (by omega)) rfl rfl (Nat.le_of_ble_eq_true rfl) (by decide) (Nat.zero_le _) (Nat.zero_le _) ?_
  refine ww_iaddn C dX4_isPut_31 ?_
  refine ww_istore (lv' := [(6, .int (nI (((fmN y (Br B)) * (Bc B)) + (fmN x (Bc B))))), (0, .ref (D 0)), (1, .ref (D 10)), (2, .int (nI k)), (3, .int x), (4, .int y), (5, .int t)]) C dX4_isPut_32 (by decide) rfl ?_
  refine ww_iload C dX4_isPut_34 6 rfl ?_
  refine ww_bipush C dX4_isPut_36 cB_6 ?_
  refine cs_X4_361_r (As := [.int t, .int (nI 6)]) (rest := []) C dX4_isPut_38 (ct_J14_floorMod (Cx.fl C) (Cx.ok C) (by omega) (by omega)) rfl rfl (Nat.le_of_ble_eq_true rfl) (by decide) (Nat.zero_le _) (Nat.zero_le _) ?_
  refine ww_istore (lv' := [(7, .int (nI (fmN t 6))), (6, .int (nI (((fmN y (Br B)) * (Bc B)) + (fmN x (Bc B))))), (0, .ref (D 0)), (1, .ref (D 10)), (2, .int (nI k)), (3, .int x), (4, .int y), (5, .int t)]) C dX4_isPut_41 (by decide) rfl ?_
  refine ww_aload_n C dX4_isPut_43 rfl 2 rfl rfl ?_
  refine ww_aload_n C dX4_isPut_44 rfl 3 rfl rfl ?_
  refine ww_iload_n C dX4_isPut_45 rfl 4 rfl ?_
  refine ww_iload C dX4_isPut_46 1 rfl ?_
  refine ww_iload C dX4_isPut_48 0 rfl ?_
  refine cv_X4_310_r (As := [.ref (D 10), .int (nI k), .int (nI (((fmN y (Br B)) * (Bc B)) + (fmN x (Bc B)))), .int (nI (fmN t 6))]) (rest := []) C dX4_isPut_50 (ct_X4_fits_2 (Cx.fl C) (Cx.ok C) hz hP hC hk (by omega) f3) (rc_X4 (Cx.ok C) (Or.inl X0)) rfl rfl (Nat.le_of_ble_eq_true rfl) (by decide) (Nat.zero_le _) (Nat.zero_le _) ?_
  refine ww_if_ne_b (tgt := 58) C dX4_isPut_53 (by decide) (fun c_53 => ?_) (fun c_53 => ?_)
  · skip
    refine ww_aload_n C dX4_isPut_58 rfl 3 rfl rfl ?_
    refine ww_iload_n C dX4_isPut_59 rfl 4 rfl ?_
    refine ww_iload C dX4_isPut_60 1 rfl ?_
    refine ww_iload C dX4_isPut_62 0 rfl ?_
    refine cv_X4_364_q (As := [.int (nI k), .int (nI (((fmN y (Br B)) * (Bc B)) + (fmN x (Bc B)))), .int (nI (fmN t 6))]) (rest := []) C dX4_isPut_64 (ct_X6_put (Cx.fl C) (Cx.ok C) hX (by omega) (by omega)) (rc_X6 (Cx.ok C) (Or.inl Xs)) rfl rfl (Nat.le_of_ble_eq_true rfl) (by decide) (Nat.zero_le _) (Nat.zero_le _) (fun z9 h9 q => ?_)
    obtain ⟨hq1, hq2, hq3⟩ := q; replace hq1 := hq1.symm; subst hq1
    refine ww_iconst C dX4_isPut_67 cI_1 ?_
    exact ww_zret C dX4_isPut_68 nar_z1 ⟨by rw [c_53]; rfl, rfl, by unfold tryM; rw [c_53]; exact hq2, hq3⟩
  · skip
    refine ww_iconst C dX4_isPut_56 cI_0 ?_
    exact ww_zret C dX4_isPut_57 nar_z0 ⟨by rw [c_53]; rfl, rfl, by unfold tryM; rw [c_53]; exact hX, FrD.rf⟩
set_option maxHeartbeats 2000000 in
theorem ct_X4_isPut_a {l : Launch} {Γ : Gm} (hl : l.flags = flags0) (hΓ : GOK Γ) {z : ZR} {h : AH} {B : GB} {M : MS} {D : Nat → Nat} {k : Nat} {x y t : Int32} (hz : zle (cst Γ) z) (hX : Mx Γ h D M) (hb : MBd M 32 43 B) (hC : BC B) (hk : k < Bt B) : Ct l Γ yX4_isPut cX4_isPut 8 (some .boolean) 6 0 0 [.ref (D 0), .ref (D 11), .int (nI k), .int x, .int y, .int t] z h (Rv (fun v z' h' => v = .int (bI (ftN B k (fmN y (Br B) * Bc B + fmN x (Bc B)) (fmN t 6))) ∧ z' = z ∧ Mx Γ h' D (tryM M 32 43 B k (fmN y (Br B) * Bc B + fmN x (Bc B)) (fmN t 6)) ∧ FrD h h' D)) := by
  refine Ct.of hl hΓ (by decide +kernel) (Nat.le_of_ble_eq_true rfl) (fun X e1 e2 C => ?_)
  subst e1; subst e2
  have C : Cx X cX4_isPut 8 "RingDominoModel" "isPut" (some .boolean) [] 6 := C
  have hB := hC.1
  obtain ⟨⟨⟨c1, c2⟩, ⟨r1, r2⟩⟩, t1, bl1, bu1, bp1, bn1⟩ := id hB
  have hzz := BO.z hB
  have X0 := hX.m
  have hR := Mx.a (z := z) hX hb
  have hP : MrP (xG X) z h (D 0) (D 11) B := ⟨_, D, Or.inl X0, hR⟩
  obtain ⟨o, nn, rn, nu, tu, S, Ht, -⟩ := id hR
  have Xs : h (D 11) = some (cSt (fun i => D (43 + i)) (M.1 32) (M.1 33)) := hX.1 11 (by decide)
  have f1 := fm_lt (x := y) (m := Br B) (by omega)
  have f2 := fm_lt (x := x) (m := Bc B) (by omega)
  have f3 := fm_lt (x := t) (m := 6) (by omega)
  have hcz := cel_lt f1 f2
  show WW X (Rv (fun v z' h' => v = .int (bI (ftN B k (fmN y (Br B) * Bc B + fmN x (Bc B)) (fmN t 6))) ∧ z' = z ∧ Mx (xG X) h' D (tryM M 32 43 B k (fmN y (Br B) * Bc B + fmN x (Bc B)) (fmN t 6)) ∧ FrD h h' D)) z h 0 0 0 [(0, .ref (D 0)), (1, .ref (D 11)), (2, .int (nI k)), (3, .int x), (4, .int y), (5, .int t)] []
  refine ww_iload C dX4_isPut_0 4 rfl ?_
  refine ww_aload_n C dX4_isPut_2 rfl 0 rfl rfl ?_
  refine gf_X4_35_X4 C dX4_isPut_3 (Or.inl X0) rfl ?_
  refine gf_X4_248_X5 C dX4_isPut_6 Ht rfl ?_
  refine cs_X4_361_r (As := [.int y, .int (nI (Br B))]) (rest := []) C dX4_isPut_9 (ct_J14_floorMod (Cx.fl C) (Cx.ok C) (by omega) (by omega)) rfl rfl (Nat.le_of_ble_eq_true rfl) (by decide) (Nat.zero_le _) (Nat.zero_le _) ?_
  refine ww_aload_n C dX4_isPut_12 rfl 0 rfl rfl ?_
  refine gf_X4_35_X4 C dX4_isPut_13 (Or.inl X0) rfl ?_
  refine gf_X4_245_X5 C dX4_isPut_16 Ht rfl ?_
  refine ww_imuln C dX4_isPut_19 ?_
  refine ww_iload_n C dX4_isPut_20 rfl 3 rfl ?_
  refine ww_aload_n C dX4_isPut_21 rfl 0 rfl rfl ?_
  refine gf_X4_35_X4 C dX4_isPut_22 (Or.inl X0) rfl ?_
  refine gf_X4_245_X5 C dX4_isPut_25 Ht rfl ?_
  refine cs_X4_361_r (As := [.int x, .int (nI (Bc B))]) (rest := [.int (nI ((fmN y (Br B)) * (Bc B)))]) C dX4_isPut_28 (ct_J14_floorMod (Cx.fl C) (Cx.ok C) (by omega) (by omega)) rfl rfl (Nat.le_of_ble_eq_true rfl) (by decide) (Nat.zero_le _) (Nat.zero_le _) ?_
  refine ww_iaddn C dX4_isPut_31 ?_
  refine ww_istore (lv' := [(6, .int (nI (((fmN y (Br B)) * (Bc B)) + (fmN x (Bc B))))), (0, .ref (D 0)), (1, .ref (D 11)), (2, .int (nI k)), (3, .int x), (4, .int y), (5, .int t)]) C dX4_isPut_32 (by decide) rfl ?_
  refine ww_iload C dX4_isPut_34 6 rfl ?_
  refine ww_bipush C dX4_isPut_36 cB_6 ?_
  refine cs_X4_361_r (As := [.int t, .int (nI 6)]) (rest := []) C dX4_isPut_38 (ct_J14_floorMod (Cx.fl C) (Cx.ok C) (by omega) (by omega)) rfl rfl (Nat.le_of_ble_eq_true rfl) (by decide) (Nat.zero_le _) (Nat.zero_le _) ?_
  refine ww_istore (lv' := [(7, .int (nI (fmN t 6))), (6, .int (nI (((fmN y (Br B)) * (Bc B)) + (fmN x (Bc B))))), (0, .ref (D 0)), (1, .ref (D 11)), (2, .int (nI k)), (3, .int x), (4, .int y), (5, .int t)]) C dX4_isPut_41 (by decide) rfl ?_
  refine ww_aload_n C dX4_isPut_43 rfl 2 rfl rfl ?_
  refine ww_aload_n C dX4_isPut_44 rfl 3 rfl rfl ?_
  refine ww_iload_n C dX4_isPut_45 rfl 4 rfl ?_
  refine ww_iload C dX4_isPut_46 1 rfl ?_
  refine ww_iload C dX4_isPut_48 0 rfl ?_
  refine cv_X4_310_r (As := [.ref (D 11), .int (nI k), .int (nI (((fmN y (Br B)) * (Bc B)) + (fmN x (Bc B)))), .int (nI (fmN t 6))]) (rest := []) C dX4_isPut_50 (ct_X4_fits_2 (Cx.fl C) (Cx.ok C) hz hP hC hk (by omega) f3) (rc_X4 (Cx.ok C) (Or.inl X0)) rfl rfl (Nat.le_of_ble_eq_true rfl) (by decide) (Nat.zero_le _) (Nat.zero_le _) ?_
  refine ww_if_ne_b (tgt := 58) C dX4_isPut_53 (by decide) (fun c_53 => ?_) (fun c_53 => ?_)
  · skip
    refine ww_aload_n C dX4_isPut_58 rfl 3 rfl rfl ?_
    refine ww_iload_n C dX4_isPut_59 rfl 4 rfl ?_
    refine ww_iload C dX4_isPut_60 1 rfl ?_
    refine ww_iload C dX4_isPut_62 0 rfl ?_
    refine cv_X4_364_q (As := [.int (nI k), .int (nI (((fmN y (Br B)) * (Bc B)) + (fmN x (Bc B)))), .int (nI (fmN t 6))]) (rest := []) C dX4_isPut_64 (ct_X6_put_a (Cx.fl C) (Cx.ok C) hX (by omega) (by omega)) (rc_X6 (Cx.ok C) (Or.inl Xs)) rfl rfl (Nat.le_of_ble_eq_true rfl) (by decide) (Nat.zero_le _) (Nat.zero_le _) (fun z9 h9 q => ?_)
    obtain ⟨hq1, hq2, hq3⟩ := q; replace hq1 := hq1.symm; subst hq1
    refine ww_iconst C dX4_isPut_67 cI_1 ?_
    exact ww_zret C dX4_isPut_68 nar_z1 ⟨by rw [c_53]; rfl, rfl, by unfold tryM; rw [c_53]; exact hq2, hq3⟩
  · skip
    refine ww_iconst C dX4_isPut_56 cI_0 ?_
    exact ww_zret C dX4_isPut_57 nar_z0 ⟨by rw [c_53]; rfl, rfl, by unfold tryM; rw [c_53]; exact hX, FrD.rf⟩
end MO14
