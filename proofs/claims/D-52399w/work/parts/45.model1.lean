section MO1
set_option maxRecDepth 100000
set_option maxHeartbeats 2000000 in
theorem ct_X4_isIn {l : Launch} {Γ : Gm} (hl : l.flags = flags0) (hΓ : GOK Γ) {z : ZR} {h : AH} {x a b : Int32}  : Ct l Γ yX4_isIn cX4_isIn 3 (some .boolean) 1 0 0 [.int x, .int a, .int b] z h (RdP z h (some (.int (bI (decide (a ≤ x) && decide (x ≤ b)))))) := by
  refine Ct.of hl hΓ (by decide +kernel) (Nat.le_of_ble_eq_true rfl) (fun X e1 e2 C => ?_)
  subst e1; subst e2
  have C : Cx X cX4_isIn 3 "RingDominoModel" "isIn" (some .boolean) [] 1 := C
  show WW X (RdP z h (some (.int (bI (decide (a ≤ x) && decide (x ≤ b)))))) z h 0 0 0 [(0, .int x), (1, .int a), (2, .int b)] []
  refine ww_iload_n C dX4_isIn_0 rfl 0 rfl ?_
  refine ww_iload_n C dX4_isIn_1 rfl 1 rfl ?_
  refine ww_icmp_lt (tgt := 14) C dX4_isIn_2 (by decide) (fun c_2 => ?_) (fun c_2 => ?_)
  · skip
    refine ww_iconst C dX4_isIn_14 cI_0 ?_
    exact ww_zret C dX4_isIn_15 nar_z0 (RdP.i (by rw [decide_eq_false (Int32.not_le.mpr c_2)]; try rfl))
  · skip
    refine ww_iload_n C dX4_isIn_5 rfl 0 rfl ?_
    refine ww_iload_n C dX4_isIn_6 rfl 2 rfl ?_
    refine ww_icmp_gt (tgt := 14) C dX4_isIn_7 (by decide) (fun c_7 => ?_) (fun c_7 => ?_)
    · skip
      refine ww_iconst C dX4_isIn_14 cI_0 ?_
      exact ww_zret C dX4_isIn_15 nar_z0 (RdP.i (by rw [decide_eq_false (Int32.not_le.mpr c_7), Bool.and_false]; try rfl))
    · skip
      refine ww_iconst C dX4_isIn_10 cI_1 ?_
      refine ww_goto (tgt := 15) C dX4_isIn_11 (by decide) ?_
      exact ww_zret C dX4_isIn_15 nar_z1 (RdP.i (by rw [decide_eq_true (Int32.not_lt.mp c_7), decide_eq_true (Int32.not_lt.mp c_2)]; try rfl))
set_option maxHeartbeats 2000000 in
theorem ct_X4_cells {l : Launch} {Γ : Gm} (hl : l.flags = flags0) (hΓ : GOK Γ) {z : ZR} {h : AH} {m s : Nat} {B : GB} (hz : zle (cst Γ) z) (hR : MrP Γ z h m s B) (hC : BC B) : Ct l Γ yX4_cells cX4_cells 1 (some .int) 1 0 0 [.ref m] z h (RdP z h (some (.int (nI (Bz B))))) := by
  refine Ct.of hl hΓ (by decide +kernel) (Nat.le_of_ble_eq_true rfl) (fun X e1 e2 C => ?_)
  subst e1; subst e2
  have C : Cx X cX4_cells 1 "RingDominoModel" "cells" (some .int) [] 1 := C
  obtain ⟨I, D, Hm, o, nn, rn, nu, tu, S, Ht, Hn, hnu, Hs, Ha, Hc, Hu, htu⟩ := id hR
  have hB := hC.1
  obtain ⟨⟨⟨c1, c2⟩, ⟨r1, r2⟩⟩, t1, bl1, bu1, bp1, bn1⟩ := id hB
  have hzz := BO.z hB
  show WW X (RdP z h (some (.int (nI (Bz B))))) z h 0 0 0 [(0, .ref m)] []
  refine ww_aload_n C dX4_cells_0 rfl 0 rfl rfl ?_
  refine gf_X4_35_X4 C dX4_cells_1 Hm rfl ?_
  refine gf_X4_245_X5 C dX4_cells_4 Ht rfl ?_
  refine ww_aload_n C dX4_cells_7 rfl 0 rfl rfl ?_
  refine gf_X4_35_X4 C dX4_cells_8 Hm rfl ?_
  refine gf_X4_248_X5 C dX4_cells_11 Ht rfl ?_
  refine ww_imuln C dX4_cells_14 ?_
  exact ww_iret C dX4_cells_15 (RdP.i (by rfl))
set_option maxHeartbeats 2000000 in
theorem ct_X4_beside {l : Launch} {Γ : Gm} (hl : l.flags = flags0) (hΓ : GOK Γ) {z : ZR} {h : AH} {m s : Nat} {B : GB} {x e : Nat} (hz : zle (cst Γ) z) (hR : MrP Γ z h m s B) (hC : BC B) (hx : x < 49) (he : e < 6) : Ct l Γ yX4_beside cX4_beside 5 (some .int) 2 0 0 [.ref m, .int (nI x), .int (nI e)] z h (RdP z h (some (.int (oI (bes (Bc B) (Br B) x e))))) := by
  refine Ct.of hl hΓ (by decide +kernel) (Nat.le_of_ble_eq_true rfl) (fun X e1 e2 C => ?_)
  subst e1; subst e2
  have C : Cx X cX4_beside 5 "RingDominoModel" "beside" (some .int) [] 2 := C
  obtain ⟨I, D, Hm, o, nn, rn, nu, tu, S, Ht, Hn, hnu, Hs, Ha, Hc, Hu, htu⟩ := id hR
  have hB := hC.1
  obtain ⟨⟨⟨c1, c2⟩, ⟨r1, r2⟩⟩, t1, bl1, bu1, bp1, bn1⟩ := id hB
  have hzz := BO.z hB
  show WW X (RdP z h (some (.int (oI (bes (Bc B) (Br B) x e))))) z h 0 0 0 [(0, .ref m), (1, .int (nI x)), (2, .int (nI e))] []
  have hbe := bes_m ⟨c1, c2⟩ ⟨r1, r2⟩ hx he
  unfold besM at hbe
  refine ww_iload_n C dX4_beside_0 rfl 1 rfl ?_
  refine ww_aload_n C dX4_beside_1 rfl 0 rfl rfl ?_
  refine gf_X4_35_X4 C dX4_beside_2 Hm rfl ?_
  refine gf_X4_245_X5 C dX4_beside_5 Ht rfl ?_
  refine ww_iremn C dX4_beside_8 (by omega) (by omega) (by omega) ?_
  refine ww_gsv C (sv_34 (Cx.ok C)) q3117 (fun _ q => q) dX4_beside_9 ?_
  refine ww_iload_n C dX4_beside_12 rfl 2 rfl ?_
  refine ww_iald C dX4_beside_13 (Or.inr (cst_dx hz)) (by omega) (by decide) ?_
  refine ww_iadd C dX4_beside_14 ?_
  refine ww_istore_n (lv' := [(3, .int ((nI (x % (Bc B))) + (dxI e))), (0, .ref m), (1, .int (nI x)), (2, .int (nI e))]) C dX4_beside_15 rfl (by decide) rfl ?_
  refine ww_iload_n C dX4_beside_16 rfl 2 rfl ?_
  refine ww_aload_n C dX4_beside_17 rfl 1 rfl rfl ?_
  refine gf_X4_35_X4 C dX4_beside_18 Hm rfl ?_
  refine gf_X4_245_X5 C dX4_beside_21 Ht rfl ?_
  refine ww_idivn C dX4_beside_24 (by omega) (by omega) (by omega) ?_
  refine ww_gsv C (sv_35 (Cx.ok C)) q3119 (fun _ q => q) dX4_beside_25 ?_
  refine ww_iload_n C dX4_beside_28 rfl 3 rfl ?_
  refine ww_iald C dX4_beside_29 (Or.inr (cst_dy hz)) (by omega) (by decide) ?_
  refine ww_iadd C dX4_beside_30 ?_
  refine ww_istore (lv' := [(4, .int ((nI (x / (Bc B))) + (dyI e))), (3, .int ((nI (x % (Bc B))) + (dxI e))), (0, .ref m), (1, .int (nI x)), (2, .int (nI e))]) C dX4_beside_31 (by decide) rfl ?_
  refine ww_iload_n C dX4_beside_33 rfl 1 rfl ?_
  refine ww_iconst C dX4_beside_34 cI_0 ?_
  refine ww_aload_n C dX4_beside_35 rfl 2 rfl rfl ?_
  refine gf_X4_35_X4 C dX4_beside_36 Hm rfl ?_
  refine gf_X4_245_X5 C dX4_beside_39 Ht rfl ?_
  refine ww_iconst C dX4_beside_42 cI_1 ?_
  refine ww_isubn C dX4_beside_43 (by omega) ?_
  refine cs_X4_68_r (As := [.int ((nI (x % (Bc B))) + (dxI e)), .int (nI 0), .int (nI ((Bc B) - 1))]) (rest := []) C dX4_beside_44 (ct_X4_isIn (Cx.fl C) (Cx.ok C)) rfl rfl (Nat.le_of_ble_eq_true rfl) (by decide) (Nat.zero_le _) (Nat.zero_le _) ?_
  refine ww_if_eq_b (tgt := 83) C dX4_beside_47 (by decide) (fun c_47 => ?_) (fun c_47 => ?_)
  · skip
    refine ww_iconst C dX4_beside_83 cI_m1 ?_
    exact ww_iret C dX4_beside_84 (RdP.i (by rw [hbe, c_47]; try rfl))
  · skip
    refine ww_iload C dX4_beside_50 0 rfl ?_
    refine ww_iconst C dX4_beside_52 cI_0 ?_
    refine ww_aload_n C dX4_beside_53 rfl 2 rfl rfl ?_
    refine gf_X4_35_X4 C dX4_beside_54 Hm rfl ?_
    refine gf_X4_248_X5 C dX4_beside_57 Ht rfl ?_
    refine ww_iconst C dX4_beside_60 cI_1 ?_
    refine ww_isubn C dX4_beside_61 (by omega) ?_
    refine cs_X4_68_r (As := [.int ((nI (x / (Bc B))) + (dyI e)), .int (nI 0), .int (nI ((Br B) - 1))]) (rest := []) C dX4_beside_62 (ct_X4_isIn (Cx.fl C) (Cx.ok C)) rfl rfl (Nat.le_of_ble_eq_true rfl) (by decide) (Nat.zero_le _) (Nat.zero_le _) ?_
    refine ww_if_eq_b (tgt := 83) C dX4_beside_65 (by decide) (fun c_65 => ?_) (fun c_65 => ?_)
    · skip
      refine ww_iconst C dX4_beside_83 cI_m1 ?_
      exact ww_iret C dX4_beside_84 (RdP.i (by rw [hbe, c_65, Bool.and_false]; try rfl))
    · skip
      refine ww_iload C dX4_beside_68 0 rfl ?_
      refine ww_aload_n C dX4_beside_70 rfl 2 rfl rfl ?_
      refine gf_X4_35_X4 C dX4_beside_71 Hm rfl ?_
      refine gf_X4_245_X5 C dX4_beside_74 Ht rfl ?_
      refine ww_imul C dX4_beside_77 ?_
      refine ww_iload_n C dX4_beside_78 rfl 1 rfl ?_
      refine ww_iadd C dX4_beside_79 ?_
      refine ww_goto (tgt := 84) C dX4_beside_80 (by decide) ?_
      exact ww_iret C dX4_beside_84 (RdP.i (by rw [hbe, c_47, c_65]; try rfl))
set_option maxHeartbeats 2000000 in
theorem ct_X4_tileBeside {l : Launch} {Γ : Gm} (hl : l.flags = flags0) (hΓ : GOK Γ) {z : ZR} {h : AH} {m s : Nat} {B : GB} {x e : Nat} (hz : zle (cst Γ) z) (hR : MrP Γ z h m s B) (hC : BC B) (hx : x < 49) (he : e < 6) : Ct l Γ yX4_tileBeside cX4_tileBeside 5 (some .int) 3 0 0 [.ref m, .ref s, .int (nI x), .int (nI e)] z h (RdP z h (some (.int (oI (tbO B x e))))) := by
  refine Ct.of hl hΓ (by decide +kernel) (Nat.le_of_ble_eq_true rfl) (fun X e1 e2 C => ?_)
  subst e1; subst e2
  have C : Cx X cX4_tileBeside 5 "RingDominoModel" "tileBeside" (some .int) [] 3 := C
  obtain ⟨I, D, Hm, o, nn, rn, nu, tu, S, Ht, Hn, hnu, Hs, Ha, Hc, Hu, htu⟩ := id hR
  have hB := hC.1
  obtain ⟨⟨⟨c1, c2⟩, ⟨r1, r2⟩⟩, t1, bl1, bu1, bp1, bn1⟩ := id hB
  have hzz := BO.z hB
  show WW X (RdP z h (some (.int (oI (tbO B x e))))) z h 0 0 0 [(0, .ref m), (1, .ref s), (2, .int (nI x)), (3, .int (nI e))] []
  have hbe : ∀ y, bes (Bc B) (Br B) x e = some y → y < 49 := fun y q => Nat.lt_of_lt_of_le (bes_lt ⟨c1, c2⟩ ⟨r1, r2⟩ hx he q) hzz
  refine ww_aload_n C dX4_tileBeside_0 rfl 0 rfl rfl ?_
  refine ww_iload_n C dX4_tileBeside_1 rfl 2 rfl ?_
  refine ww_iload_n C dX4_tileBeside_2 rfl 3 rfl ?_
  refine cv_X4_277_r (As := [.int (nI x), .int (nI e)]) (rest := []) C dX4_tileBeside_3 (ct_X4_beside (Cx.fl C) (Cx.ok C) hz hR hC hx he) (rc_X4 (Cx.ok C) Hm) rfl rfl (Nat.le_of_ble_eq_true rfl) (by decide) (Nat.zero_le _) (Nat.zero_le _) ?_
  refine ww_istore (lv' := [(4, .int (oI (bes (Bc B) (Br B) x e))), (0, .ref m), (1, .ref s), (2, .int (nI x)), (3, .int (nI e))]) C dX4_tileBeside_6 (by decide) rfl ?_
  refine ww_iload C dX4_tileBeside_8 0 rfl ?_
  refine ww_iconst C dX4_tileBeside_10 cI_m1 ?_
  refine ww_icmp_ne_o (tgt := 18) C dX4_tileBeside_11 (by decide) (fun y q => Nat.lt_trans (hbe y q) (by decide)) (fun c_11 => ?_) (fun c_11 => ?_)
  · skip
    obtain ⟨y, hy⟩ := Option.ne_none_iff_exists'.mp c_11
    have hy49 := hbe y hy
    refine ww_lv (lv' := [(4, .int (nI y)), (0, .ref m), (1, .ref s), (2, .int (nI x)), (3, .int (nI e))]) (by rw [hy]; rfl) ?_
    refine ww_aload_n C dX4_tileBeside_18 rfl 2 rfl rfl ?_
    refine gf_X4_280_X6 C dX4_tileBeside_19 Hs rfl ?_
    refine ww_iload C dX4_tileBeside_22 0 rfl ?_
    refine ww_iald C dX4_tileBeside_24 Ha (by omega) (by decide) ?_
    exact ww_iret C dX4_tileBeside_25 (RdP.i (by unfold tbO; rw [hy]))
  · skip
    refine ww_iconst C dX4_tileBeside_14 cI_m1 ?_
    refine ww_goto (tgt := 25) C dX4_tileBeside_15 (by decide) ?_
    exact ww_iret C dX4_tileBeside_25 (RdP.i (by unfold tbO; rw [c_11]; try rfl))
set_option maxHeartbeats 2000000 in
theorem ct_X4_numberOf {l : Launch} {Γ : Gm} (hl : l.flags = flags0) (hΓ : GOK Γ) {z : ZR} {h : AH} {m s : Nat} {B : GB} {k t e : Nat} (hz : zle (cst Γ) z) (hR : MrP Γ z h m s B) (hC : BC B) (hk : k < Bt B) (ht : t < 6) (he : e < 6) : Ct l Γ yX4_numberOf cX4_numberOf 4 (some .int) 1 0 0 [.ref m, .int (nI k), .int (nI t), .int (nI e)] z h (RdP z h (some (.int (nI (Bn B k (ed e t)))))) := by
  refine Ct.of hl hΓ (by decide +kernel) (Nat.le_of_ble_eq_true rfl) (fun X e1 e2 C => ?_)
  subst e1; subst e2
  have C : Cx X cX4_numberOf 4 "RingDominoModel" "numberOf" (some .int) [] 1 := C
  obtain ⟨I, D, Hm, o, nn, rn, nu, tu, S, Ht, Hn, hnu, Hs, Ha, Hc, Hu, htu⟩ := id hR
  have hB := hC.1
  obtain ⟨⟨⟨c1, c2⟩, ⟨r1, r2⟩⟩, t1, bl1, bu1, bp1, bn1⟩ := id hB
  have hzz := BO.z hB
  have hlt := ed_lt e t
  have hnk := hnu k _ hk hlt
  unfold ed at hlt
  show WW X (RdP z h (some (.int (nI (Bn B k (ed e t)))))) z h 0 0 0 [(0, .ref m), (1, .int (nI k)), (2, .int (nI t)), (3, .int (nI e))] []
  refine ww_aload_n C dX4_numberOf_0 rfl 0 rfl rfl ?_
  refine gf_X4_35_X4 C dX4_numberOf_1 Hm rfl ?_
  refine gf_X4_214_X5 C dX4_numberOf_4 Ht rfl ?_
  refine ww_iconst C dX4_numberOf_7 cI_3 ?_
  refine ww_iload_n C dX4_numberOf_8 rfl 1 rfl ?_
  refine ww_imuln C dX4_numberOf_9 ?_
  refine ww_iload_n C dX4_numberOf_10 rfl 3 rfl ?_
  refine ww_iload_n C dX4_numberOf_11 rfl 2 rfl ?_
  refine ww_isub C dX4_numberOf_12 ?_
  refine ww_bipush C dX4_numberOf_13 cB_6 ?_
  refine ww_iadd C dX4_numberOf_15 ?_
  refine ww_st (st' := [.int (nI (e + 6 - t)), .int (nI (3 * k)), .ref (D 20)]) (by rw [ed_i he ht]) ?_
  refine ww_bipush C dX4_numberOf_16 cB_6 ?_
  refine ww_iremn C dX4_numberOf_18 (by omega) (by decide) (by decide) ?_
  refine ww_iconst C dX4_numberOf_19 cI_2 ?_
  refine ww_idivn C dX4_numberOf_20 (by omega) (by decide) (by decide) ?_
  refine ww_iaddn C dX4_numberOf_21 ?_
  refine ww_iald C dX4_numberOf_22 Hn (by omega) (by decide) ?_
  exact ww_iret C dX4_numberOf_23 (RdP.i (by exact hnk))
set_option maxHeartbeats 2000000 in
theorem ct_X4_numberAt {l : Launch} {Γ : Gm} (hl : l.flags = flags0) (hΓ : GOK Γ) {z : ZR} {h : AH} {m s : Nat} {B : GB} {x e : Nat} (hz : zle (cst Γ) z) (hR : MrP Γ z h m s B) (hC : BC B) (hx : x < 49) (he : e < 6) (hp : 0 < Bl B x) : Ct l Γ yX4_numberAt cX4_numberAt 4 (some .int) 2 0 0 [.ref m, .ref s, .int (nI x), .int (nI e)] z h (RdP z h (some (.int (nI (nmA B x e))))) := by
  refine Ct.of hl hΓ (by decide +kernel) (Nat.le_of_ble_eq_true rfl) (fun X e1 e2 C => ?_)
  subst e1; subst e2
  have C : Cx X cX4_numberAt 4 "RingDominoModel" "numberAt" (some .int) [] 2 := C
  obtain ⟨I, D, Hm, o, nn, rn, nu, tu, S, Ht, Hn, hnu, Hs, Ha, Hc, Hu, htu⟩ := id hR
  have hB := hC.1
  obtain ⟨⟨⟨c1, c2⟩, ⟨r1, r2⟩⟩, t1, bl1, bu1, bp1, bn1⟩ := id hB
  have hzz := BO.z hB
  show WW X (RdP z h (some (.int (nI (nmA B x e))))) z h 0 0 0 [(0, .ref m), (1, .ref s), (2, .int (nI x)), (3, .int (nI e))] []
  obtain ⟨k, hk⟩ : ∃ k, Bl B x = k + 1 := ⟨Bl B x - 1, by omega⟩
  have hak := atO_s.mpr hk
  obtain ⟨hkt, hkp, -⟩ := hC.t hak
  have htk := htu k x hkp
  have hut := bu1 k hkt
  refine ww_aload_n C dX4_numberAt_0 rfl 0 rfl rfl ?_
  refine ww_aload_n C dX4_numberAt_1 rfl 1 rfl rfl ?_
  refine gf_X4_280_X6 C dX4_numberAt_2 Hs rfl ?_
  refine ww_iload_n C dX4_numberAt_5 rfl 2 rfl ?_
  refine ww_iald C dX4_numberAt_6 Ha (by omega) (by decide) ?_
  refine ww_st (st' := [.int (nI k), .ref m]) (by rw [hak]; rfl) ?_
  refine ww_aload_n C dX4_numberAt_7 rfl 1 rfl rfl ?_
  refine gf_X4_283_X6 C dX4_numberAt_8 Hs rfl ?_
  refine ww_aload_n C dX4_numberAt_11 rfl 1 rfl rfl ?_
  refine gf_X4_280_X6 C dX4_numberAt_12 Hs rfl ?_
  refine ww_iload_n C dX4_numberAt_15 rfl 2 rfl ?_
  refine ww_iald C dX4_numberAt_16 Ha (by omega) (by decide) ?_
  refine ww_st (st' := [.int (nI k), .ref (S 2), .int (nI k), .ref m]) (by rw [hak]; rfl) ?_
  refine ww_iald C dX4_numberAt_17 Hu (by omega) (by decide) ?_
  refine ww_st (st' := [.int (nI (Bu B k)), .int (nI k), .ref m]) (by rw [htk]) ?_
  refine ww_iload_n C dX4_numberAt_18 rfl 3 rfl ?_
  refine cv_X4_286_r (As := [.int (nI k), .int (nI (Bu B k)), .int (nI e)]) (rest := []) C dX4_numberAt_19 (ct_X4_numberOf (Cx.fl C) (Cx.ok C) hz hR hC hkt hut he) (rc_X4 (Cx.ok C) Hm) rfl rfl (Nat.le_of_ble_eq_true rfl) (by decide) (Nat.zero_le _) (Nat.zero_le _) ?_
  exact ww_iret C dX4_numberAt_22 (RdP.i (by unfold nmA; rw [hk]; try rfl))
set_option maxHeartbeats 2000000 in
theorem ct_X4_against {l : Launch} {Γ : Gm} (hl : l.flags = flags0) (hΓ : GOK Γ) {z : ZR} {h : AH} {m s : Nat} {B : GB} {k x t : Nat} (hz : zle (cst Γ) z) (hR : MrP Γ z h m s B) (hC : BC B) (hk : k < Bt B) (hx : x < 49) (ht : t < 6) : Ct l Γ yX4_against cX4_against 7 (some .int) 4 0 0 [.ref m, .ref s, .int (nI k), .int (nI x), .int (nI t)] z h (RdP z h (some (.int (oI (agN B k x t))))) := by
  refine Ct.of hl hΓ (by decide +kernel) (Nat.le_of_ble_eq_true rfl) (fun X e1 e2 C => ?_)
  subst e1; subst e2
  have C : Cx X cX4_against 7 "RingDominoModel" "against" (some .int) [] 4 := C
  obtain ⟨I, D, Hm, o, nn, rn, nu, tu, S, Ht, Hn, hnu, Hs, Ha, Hc, Hu, htu⟩ := id hR
  have hB := hC.1
  obtain ⟨⟨⟨c1, c2⟩, ⟨r1, r2⟩⟩, t1, bl1, bu1, bp1, bn1⟩ := id hB
  have hzz := BO.z hB
  show WW X (RdP z h (some (.int (oI (agN B k x t))))) z h 0 0 0 [(0, .ref m), (1, .ref s), (2, .int (nI k)), (3, .int (nI x)), (4, .int (nI t))] []
  refine ww_iconst C dX4_against_0 cI_0 ?_
  refine ww_istore (lv' := [(5, .int (nI 0)), (0, .ref m), (1, .ref s), (2, .int (nI k)), (3, .int (nI x)), (4, .int (nI t))]) C dX4_against_1 (by decide) rfl ?_
  refine loop_up (N := 6) (M := fun j => agN B k x t = ff (agP B k x t) (6 - j) j → WW X (RdP z h (some (.int (oI (agN B k x t))))) z h 0 0 3 [(5, .int (nI j)), (0, .ref m), (1, .ref s), (2, .int (nI k)), (3, .int (nI x)), (4, .int (nI t))] []) ?_ ?_ 0 (Nat.zero_le _) rfl
  · intro hv; show WW X (RdP z h (some (.int (oI (agN B k x t))))) z h 0 0 3 [(5, .int (nI 6)), (0, .ref m), (1, .ref s), (2, .int (nI k)), (3, .int (nI x)), (4, .int (nI t))] []
    refine ww_iload C dX4_against_3 0 rfl ?_
    refine ww_bipush C dX4_against_5 cB_6 ?_
    refine ww_icmp_ge_t (tgt := 67) C dX4_against_7 (by decide) (nI_le (Nat.le_refl _) (by decide)) ?_
    refine ww_iconst C dX4_against_67 cI_m1 ?_
    exact ww_iret C dX4_against_68 (RdP.i (by rw [hv]; try rfl))
  · intro j hi ih hv
    show WW X (RdP z h (some (.int (oI (agN B k x t))))) z h 0 0 3 [(5, .int (nI j)), (0, .ref m), (1, .ref s), (2, .int (nI k)), (3, .int (nI x)), (4, .int (nI t))] []
    refine ww_iload C dX4_against_3 0 rfl ?_
    refine ww_bipush C dX4_against_5 cB_6 ?_
    refine ww_icmp_ge_f (tgt := 67) C dX4_against_7 (by decide) (nI_ge hi (by decide)) ?_
    refine ww_aload_n C dX4_against_10 rfl 1 rfl rfl ?_
    refine ww_aload_n C dX4_against_11 rfl 2 rfl rfl ?_
    refine ww_iload_n C dX4_against_12 rfl 4 rfl ?_
    refine ww_iload C dX4_against_13 0 rfl ?_
    refine cv_X4_289_r (As := [.ref s, .int (nI x), .int (nI j)]) (rest := []) C dX4_against_15 (ct_X4_tileBeside (Cx.fl C) (Cx.ok C) hz hR hC hx hi) (rc_X4 (Cx.ok C) Hm) rfl rfl (Nat.le_of_ble_eq_true rfl) (by decide) (Nat.zero_le _) (Nat.zero_le _) ?_
    refine ww_istore (lv' := [(6, .int (oI (tbO B x j))), (5, .int (nI j)), (0, .ref m), (1, .ref s), (2, .int (nI k)), (3, .int (nI x)), (4, .int (nI t))]) C dX4_against_18 (by decide) rfl ?_
    refine ww_iload C dX4_against_20 0 rfl ?_
    refine ww_iconst C dX4_against_22 cI_m1 ?_
    refine ww_icmp_eq_o (tgt := 61) C dX4_against_23 (by decide) (hC.b x j) (fun c_23 => ?_) (fun c_23 => ?_)
    · skip
      have hh : hasT B (bes (Bc B) (Br B) x j) = false := by rw [← tbO_is, c_23]; rfl
      have hp : agP B k x t j = false := by unfold agP; rw [hh]; rfl
      refine ww_iinc (lv' := [(5, .int (nI (j + 1))), (6, .int (oI (tbO B x j))), (0, .ref m), (1, .ref s), (2, .int (nI k)), (3, .int (nI x)), (4, .int (nI t))]) C dX4_against_61 1 rfl (inc_n _) (by decide) rfl ?_
      refine ww_goto (tgt := 3) C dX4_against_64 (by decide) ?_
      refine ww_sub [0, 2, 3, 4, 5, 6] rfl ?_
      exact ih (hv.trans (ff_f hi hp))
    · skip
      obtain ⟨i, hi1⟩ := Option.ne_none_iff_exists'.mp c_23
      obtain ⟨y, hy, hyi⟩ : ∃ y, bes (Bc B) (Br B) x j = some y ∧ atO B y = some i := by
        cases q : bes (Bc B) (Br B) x j with
        | none => unfold tbO at hi1; rw [q] at hi1; cases hi1
        | some y => unfold tbO at hi1; rw [q] at hi1; exact ⟨y, rfl, hi1⟩
      obtain ⟨hkt, hkp, hki⟩ := hC.t hyi
      have htk := htu i y hkp
      have hut := bu1 i hkt
      have hnm : nmA B y ((j + 3) % 6) = Bn B i (ed ((j + 3) % 6) (Bu B i)) := by unfold nmA; rw [hki]; rfl
      have hnl := bn1 i hkt (ed ((j + 3) % 6) (Bu B i)) (ed_lt _ _)
      have hnk := bn1 k hk (ed j t) (ed_lt _ _)
      have hh : hasT B (bes (Bc B) (Br B) x j) = true := by rw [← tbO_is, hi1]; rfl
      refine ww_lv (lv' := [(6, .int (nI i)), (5, .int (nI j)), (0, .ref m), (1, .ref s), (2, .int (nI k)), (3, .int (nI x)), (4, .int (nI t))]) (by rw [hi1]; rfl) ?_
      refine ww_aload_n C dX4_against_26 rfl 2 rfl rfl ?_
      refine ww_iload C dX4_against_27 0 rfl ?_
      refine ww_aload_n C dX4_against_29 rfl 3 rfl rfl ?_
      refine gf_X4_283_X6 C dX4_against_30 Hs rfl ?_
      refine ww_iload C dX4_against_33 0 rfl ?_
      refine ww_iald C dX4_against_35 Hu (by omega) (by decide) ?_
      refine ww_st (st' := [.int (nI (Bu B i)), .int (nI i), .ref m]) (by rw [htk]) ?_
      refine ww_iload C dX4_against_36 1 rfl ?_
      refine ww_iconst C dX4_against_38 cI_3 ?_
      refine ww_iaddn C dX4_against_39 ?_
      refine ww_bipush C dX4_against_40 cB_6 ?_
      refine ww_iremn C dX4_against_42 (by omega) (by decide) (by decide) ?_
      refine cv_X4_286_r (As := [.int (nI i), .int (nI (Bu B i)), .int (nI ((j + 3) % 6))]) (rest := []) C dX4_against_43 (ct_X4_numberOf (Cx.fl C) (Cx.ok C) hz hR hC hkt hut (by omega)) (rc_X4 (Cx.ok C) Hm) rfl rfl (Nat.le_of_ble_eq_true rfl) (by decide) (Nat.zero_le _) (Nat.zero_le _) ?_
      refine ww_aload_n C dX4_against_46 rfl 2 rfl rfl ?_
      refine ww_iload_n C dX4_against_47 rfl 4 rfl ?_
      refine ww_iload C dX4_against_48 6 rfl ?_
      refine ww_iload C dX4_against_50 1 rfl ?_
      refine cv_X4_286_r (As := [.int (nI k), .int (nI t), .int (nI j)]) (rest := [.int (nI (Bn B i (ed ((j + 3) % 6) (Bu B i))))]) C dX4_against_52 (ct_X4_numberOf (Cx.fl C) (Cx.ok C) hz hR hC hk ht hi) (rc_X4 (Cx.ok C) Hm) rfl rfl (Nat.le_of_ble_eq_true rfl) (by decide) (Nat.zero_le _) (Nat.zero_le _) ?_
      refine ww_icmp_eq_n (tgt := 61) C dX4_against_55 (by decide) (by omega) (by omega) (fun c_55 => ?_) (fun c_55 => ?_)
      · skip
        have hp : agP B k x t j = false := by unfold agP; rw [hh, hy]; show (_ && decide (nmA B y _ ≠ _)) = false; rw [hnm, decide_eq_false (fun q => q c_55), Bool.and_false]
        refine ww_iinc (lv' := [(5, .int (nI (j + 1))), (6, .int (nI i)), (0, .ref m), (1, .ref s), (2, .int (nI k)), (3, .int (nI x)), (4, .int (nI t))]) C dX4_against_61 1 rfl (inc_n _) (by decide) rfl ?_
        refine ww_goto (tgt := 3) C dX4_against_64 (by decide) ?_
        refine ww_sub [0, 2, 3, 4, 5, 6] rfl ?_
        exact ih (hv.trans (ff_f hi hp))
      · skip
        have hp : agP B k x t j = true := by unfold agP; rw [hh, hy]; show (_ && decide (nmA B y _ ≠ _)) = true; rw [hnm, decide_eq_true c_55]; rfl
        refine ww_iload C dX4_against_58 1 rfl ?_
        exact ww_iret C dX4_against_60 (RdP.i (by rw [hv, ff_t hi hp]; try rfl))
set_option maxHeartbeats 2000000 in
theorem ct_X4_tilesBeside {l : Launch} {Γ : Gm} (hl : l.flags = flags0) (hΓ : GOK Γ) {z : ZR} {h : AH} {m s : Nat} {B : GB} {x : Nat} (hz : zle (cst Γ) z) (hR : MrP Γ z h m s B) (hC : BC B) (hx : x < 49) : Ct l Γ yX4_tilesBeside cX4_tilesBeside 5 (some .int) 4 0 0 [.ref m, .ref s, .int (nI x)] z h (RdP z h (some (.int (nI (arN B x))))) := by
  refine Ct.of hl hΓ (by decide +kernel) (Nat.le_of_ble_eq_true rfl) (fun X e1 e2 C => ?_)
  subst e1; subst e2
  have C : Cx X cX4_tilesBeside 5 "RingDominoModel" "tilesBeside" (some .int) [] 4 := C
  obtain ⟨I, D, Hm, o, nn, rn, nu, tu, S, Ht, Hn, hnu, Hs, Ha, Hc, Hu, htu⟩ := id hR
  have hB := hC.1
  obtain ⟨⟨⟨c1, c2⟩, ⟨r1, r2⟩⟩, t1, bl1, bu1, bp1, bn1⟩ := id hB
  have hzz := BO.z hB
  show WW X (RdP z h (some (.int (nI (arN B x))))) z h 0 0 0 [(0, .ref m), (1, .ref s), (2, .int (nI x))] []
  refine ww_iconst C dX4_tilesBeside_0 cI_0 ?_
  refine ww_istore_n (lv' := [(3, .int (nI 0)), (0, .ref m), (1, .ref s), (2, .int (nI x))]) C dX4_tilesBeside_1 rfl (by decide) rfl ?_
  refine ww_iconst C dX4_tilesBeside_2 cI_0 ?_
  refine ww_istore (lv' := [(4, .int (nI 0)), (3, .int (nI 0)), (0, .ref m), (1, .ref s), (2, .int (nI x))]) C dX4_tilesBeside_3 (by decide) rfl ?_
  refine loop_up (N := 6) (M := fun j => WW X (RdP z h (some (.int (nI (arN B x))))) z h 0 0 5 [(4, .int (nI j)), (3, .int (nI (cnt (fun e => hasT B (bes (Bc B) (Br B) x e)) j))), (0, .ref m), (1, .ref s), (2, .int (nI x))] []) ?_ ?_ 0 (Nat.zero_le _)
  · show WW X (RdP z h (some (.int (nI (arN B x))))) z h 0 0 5 [(4, .int (nI 6)), (3, .int (nI (cnt (fun e => hasT B (bes (Bc B) (Br B) x e)) 6))), (0, .ref m), (1, .ref s), (2, .int (nI x))] []
    refine ww_iload C dX4_tilesBeside_5 0 rfl ?_
    refine ww_bipush C dX4_tilesBeside_7 cB_6 ?_
    refine ww_icmp_ge_t (tgt := 38) C dX4_tilesBeside_9 (by decide) (nI_le (Nat.le_refl _) (by decide)) ?_
    refine ww_iload_n C dX4_tilesBeside_38 rfl 1 rfl ?_
    exact ww_iret C dX4_tilesBeside_39 (RdP.i (by rfl))
  · intro j hi ih
    show WW X (RdP z h (some (.int (nI (arN B x))))) z h 0 0 5 [(4, .int (nI j)), (3, .int (nI (cnt (fun e => hasT B (bes (Bc B) (Br B) x e)) j))), (0, .ref m), (1, .ref s), (2, .int (nI x))] []
    refine ww_iload C dX4_tilesBeside_5 0 rfl ?_
    refine ww_bipush C dX4_tilesBeside_7 cB_6 ?_
    refine ww_icmp_ge_f (tgt := 38) C dX4_tilesBeside_9 (by decide) (nI_ge hi (by decide)) ?_
    refine ww_iload_n C dX4_tilesBeside_12 rfl 1 rfl ?_
    refine ww_aload_n C dX4_tilesBeside_13 rfl 2 rfl rfl ?_
    refine ww_aload_n C dX4_tilesBeside_14 rfl 3 rfl rfl ?_
    refine ww_iload_n C dX4_tilesBeside_15 rfl 4 rfl ?_
    refine ww_iload C dX4_tilesBeside_16 0 rfl ?_
    refine cv_X4_289_r (As := [.ref s, .int (nI x), .int (nI j)]) (rest := [.int (nI (cnt (fun e => hasT B (bes (Bc B) (Br B) x e)) j))]) C dX4_tilesBeside_18 (ct_X4_tileBeside (Cx.fl C) (Cx.ok C) hz hR hC hx hi) (rc_X4 (Cx.ok C) Hm) rfl rfl (Nat.le_of_ble_eq_true rfl) (by decide) (Nat.zero_le _) (Nat.zero_le _) ?_
    refine ww_iconst C dX4_tilesBeside_21 cI_m1 ?_
    refine ww_icmp_ne_o (tgt := 29) C dX4_tilesBeside_22 (by decide) (hC.b x j) (fun c_22 => ?_) (fun c_22 => ?_)
    · skip
      have hh : hasT B (bes (Bc B) (Br B) x j) = true := by rw [← tbO_is]; exact Option.isSome_iff_ne_none.mpr c_22
      refine ww_iconst C dX4_tilesBeside_29 cI_1 ?_
      refine ww_iaddn C dX4_tilesBeside_30 ?_
      refine ww_istore_n (lv' := [(3, .int (nI ((cnt (fun e => hasT B (bes (Bc B) (Br B) x e)) j) + 1))), (4, .int (nI j)), (0, .ref m), (1, .ref s), (2, .int (nI x))]) C dX4_tilesBeside_31 rfl (by decide) rfl ?_
      refine ww_iinc (lv' := [(4, .int (nI (j + 1))), (3, .int (nI ((cnt (fun e => hasT B (bes (Bc B) (Br B) x e)) j) + 1))), (0, .ref m), (1, .ref s), (2, .int (nI x))]) C dX4_tilesBeside_32 1 rfl (inc_n _) (by decide) rfl ?_
      refine ww_goto (tgt := 5) C dX4_tilesBeside_35 (by decide) ?_
      exact ww_lv (lv' := [(4, .int (nI (j + 1))), (3, .int (nI (cnt (fun e => hasT B (bes (Bc B) (Br B) x e)) (j + 1)))), (0, .ref m), (1, .ref s), (2, .int (nI x))]) (by rw [cnt_t (f := (fun e => hasT B (bes (Bc B) (Br B) x e))) hh]; try rfl) ih
    · skip
      have hh : hasT B (bes (Bc B) (Br B) x j) = false := by rw [← tbO_is, c_22]; rfl
      refine ww_iconst C dX4_tilesBeside_25 cI_0 ?_
      refine ww_goto (tgt := 30) C dX4_tilesBeside_26 (by decide) ?_
      refine ww_iaddn C dX4_tilesBeside_30 ?_
      refine ww_istore_n (lv' := [(3, .int (nI ((cnt (fun e => hasT B (bes (Bc B) (Br B) x e)) j) + 0))), (4, .int (nI j)), (0, .ref m), (1, .ref s), (2, .int (nI x))]) C dX4_tilesBeside_31 rfl (by decide) rfl ?_
      refine ww_iinc (lv' := [(4, .int (nI (j + 1))), (3, .int (nI ((cnt (fun e => hasT B (bes (Bc B) (Br B) x e)) j) + 0))), (0, .ref m), (1, .ref s), (2, .int (nI x))]) C dX4_tilesBeside_32 1 rfl (inc_n _) (by decide) rfl ?_
      refine ww_goto (tgt := 5) C dX4_tilesBeside_35 (by decide) ?_
      exact ww_lv (lv' := [(4, .int (nI (j + 1))), (3, .int (nI (cnt (fun e => hasT B (bes (Bc B) (Br B) x e)) (j + 1)))), (0, .ref m), (1, .ref s), (2, .int (nI x))]) (by rw [cnt_f (f := (fun e => hasT B (bes (Bc B) (Br B) x e))) hh]; try rfl) ih
set_option maxHeartbeats 2000000 in
theorem ct_X4_fits_2 {l : Launch} {Γ : Gm} (hl : l.flags = flags0) (hΓ : GOK Γ) {z : ZR} {h : AH} {m s : Nat} {B : GB} {k x t : Nat} (hz : zle (cst Γ) z) (hR : MrP Γ z h m s B) (hC : BC B) (hk : k < Bt B) (hx : x < 49) (ht : t < 6) : Ct l Γ yX4_fits_2 cX4_fits_2 5 (some .boolean) 5 0 0 [.ref m, .ref s, .int (nI k), .int (nI x), .int (nI t)] z h (RdP z h (some (.int (bI (ftN B k x t))))) := by
  refine Ct.of hl hΓ (by decide +kernel) (Nat.le_of_ble_eq_true rfl) (fun X e1 e2 C => ?_)
  subst e1; subst e2
  have C : Cx X cX4_fits_2 5 "RingDominoModel" "fits" (some .boolean) [] 5 := C
  obtain ⟨I, D, Hm, o, nn, rn, nu, tu, S, Ht, Hn, hnu, Hs, Ha, Hc, Hu, htu⟩ := id hR
  have hB := hC.1
  obtain ⟨⟨⟨c1, c2⟩, ⟨r1, r2⟩⟩, t1, bl1, bu1, bp1, bn1⟩ := id hB
  have hzz := BO.z hB
  show WW X (RdP z h (some (.int (bI (ftN B k x t))))) z h 0 0 0 [(0, .ref m), (1, .ref s), (2, .int (nI k)), (3, .int (nI x)), (4, .int (nI t))] []
  have hbp : ∀ y, Bp B k = some y → y < 2 ^ 31 := fun y q => Nat.lt_trans (bp1 k y q) (by decide)
  have hpl := plN_le B
  have har := arN_le B x
  have hag : ∀ y, agN B k x t = some y → y < 2 ^ 31 := fun y q => Nat.lt_of_lt_of_le (ff_lt _ _ _ q).1 (by decide)
  refine ww_aload_n C dX4_fits_2_0 rfl 1 rfl rfl ?_
  refine gf_X4_293_X6 C dX4_fits_2_1 Hs rfl ?_
  refine ww_iload_n C dX4_fits_2_4 rfl 2 rfl ?_
  refine ww_iald C dX4_fits_2_5 Hc (by omega) (by decide) ?_
  refine ww_iconst C dX4_fits_2_6 cI_m1 ?_
  refine ww_icmp_ne_o (tgt := 20) C dX4_fits_2_7 (by decide) hbp (fun c_7 => ?_) (fun c_7 => ?_)
  · skip
    refine ww_iconst C dX4_fits_2_20 cI_0 ?_
    exact ww_zret C dX4_fits_2_21 nar_z0 (RdP.i (by unfold ftN; rw [show (Bp B k).isNone = false from by rw [← Option.not_isSome, Option.isSome_iff_ne_none.mpr c_7]; rfl]; try rfl))
  · skip
    refine ww_aload_n C dX4_fits_2_10 rfl 1 rfl rfl ?_
    refine gf_X4_280_X6 C dX4_fits_2_11 Hs rfl ?_
    refine ww_iload_n C dX4_fits_2_14 rfl 3 rfl ?_
    refine ww_iald C dX4_fits_2_15 Ha (by omega) (by decide) ?_
    refine ww_iconst C dX4_fits_2_16 cI_m1 ?_
    refine ww_icmp_eq_o (tgt := 22) C dX4_fits_2_17 (by decide) (hC.a x) (fun c_17 => ?_) (fun c_17 => ?_)
    · skip
      have h1 : (Bp B k).isNone = true := by rw [c_7]; rfl
      have h2 : hasT B (some x) = false := by rw [← atO_is, c_17]; rfl
      refine ww_aload_n C dX4_fits_2_22 rfl 1 rfl rfl ?_
      refine gf_X4_296_X6 C dX4_fits_2_23 Hs rfl ?_
      refine ww_if_ne_n (tgt := 31) C dX4_fits_2_26 (by decide) (by omega) (fun c_26 => ?_) (fun c_26 => ?_)
      · skip
        refine ww_aload_n C dX4_fits_2_31 rfl 0 rfl rfl ?_
        refine ww_aload_n C dX4_fits_2_32 rfl 1 rfl rfl ?_
        refine ww_iload_n C dX4_fits_2_33 rfl 3 rfl ?_
        refine cv_X4_299_r (As := [.ref s, .int (nI x)]) (rest := []) C dX4_fits_2_34 (ct_X4_tilesBeside (Cx.fl C) (Cx.ok C) hz hR hC hx) (rc_X4 (Cx.ok C) Hm) rfl rfl (Nat.le_of_ble_eq_true rfl) (by decide) (Nat.zero_le _) (Nat.zero_le _) ?_
        refine ww_if_le_n (tgt := 57) C dX4_fits_2_37 (by decide) (by omega) (fun c_37 => ?_) (fun c_37 => ?_)
        · skip
          refine ww_iconst C dX4_fits_2_57 cI_0 ?_
          exact ww_zret C dX4_fits_2_58 nar_z0 (RdP.i (by unfold ftN; rw [h1, h2, decide_eq_true c_37, decide_eq_true c_26]; try rfl))
        · skip
          refine ww_aload_n C dX4_fits_2_40 rfl 0 rfl rfl ?_
          refine ww_aload_n C dX4_fits_2_41 rfl 1 rfl rfl ?_
          refine ww_iload_n C dX4_fits_2_42 rfl 2 rfl ?_
          refine ww_iload_n C dX4_fits_2_43 rfl 3 rfl ?_
          refine ww_iload C dX4_fits_2_44 4 rfl ?_
          refine cv_X4_303_r (As := [.ref s, .int (nI k), .int (nI x), .int (nI t)]) (rest := []) C dX4_fits_2_46 (ct_X4_against (Cx.fl C) (Cx.ok C) hz hR hC hk hx ht) (rc_X4 (Cx.ok C) Hm) rfl rfl (Nat.le_of_ble_eq_true rfl) (by decide) (Nat.zero_le _) (Nat.zero_le _) ?_
          refine ww_iconst C dX4_fits_2_49 cI_m1 ?_
          refine ww_tern_icmp_ne_o C dX4_fits_2_50 dX4_fits_2_53 dX4_fits_2_54 dX4_fits_2_57 hag ?_
          exact ww_zret C dX4_fits_2_58 (nar_bI _) (RdP.i (by unfold ftN; rw [h1, h2, decide_eq_false (by omega : ¬ arN B x = 0)]; try rfl))
      · skip
        refine ww_iconst C dX4_fits_2_29 cI_1 ?_
        exact ww_zret C dX4_fits_2_30 nar_z1 (RdP.i (by unfold ftN; rw [h1, h2, decide_eq_false (by omega : ¬ 0 < plN B), ag_0 hB hx c_26, Bool.and_false]; try rfl))
    · skip
      refine ww_iconst C dX4_fits_2_20 cI_0 ?_
      exact ww_zret C dX4_fits_2_21 nar_z0 (RdP.i (by unfold ftN; rw [show hasT B (some x) = true from by rw [← atO_is]; exact Option.isSome_iff_ne_none.mpr c_17]; simp [bI]; try rfl))
set_option maxHeartbeats 2000000 in
theorem ct_X4_ways {l : Launch} {Γ : Gm} (hl : l.flags = flags0) (hΓ : GOK Γ) {z : ZR} {h : AH} {m s : Nat} {B : GB} {k : Nat} (hz : zle (cst Γ) z) (hR : MrP Γ z h m s B) (hC : BC B) (hk : k < Bt B) : Ct l Γ yX4_ways cX4_ways 6 (some .int) 6 0 0 [.ref m, .ref s, .int (nI k)] z h (RdP z h (some (.int (nI (wyN B k))))) := by
  refine Ct.of hl hΓ (by decide +kernel) (Nat.le_of_ble_eq_true rfl) (fun X e1 e2 C => ?_)
  subst e1; subst e2
  have C : Cx X cX4_ways 6 "RingDominoModel" "ways" (some .int) [] 6 := C
  obtain ⟨I, D, Hm, o, nn, rn, nu, tu, S, Ht, Hn, hnu, Hs, Ha, Hc, Hu, htu⟩ := id hR
  have hB := hC.1
  obtain ⟨⟨⟨c1, c2⟩, ⟨r1, r2⟩⟩, t1, bl1, bu1, bp1, bn1⟩ := id hB
  have hzz := BO.z hB
  show WW X (RdP z h (some (.int (nI (wyN B k))))) z h 0 0 0 [(0, .ref m), (1, .ref s), (2, .int (nI k))] []
  refine ww_iconst C dX4_ways_0 cI_0 ?_
  refine ww_istore_n (lv' := [(3, .int (nI 0)), (0, .ref m), (1, .ref s), (2, .int (nI k))]) C dX4_ways_1 rfl (by decide) rfl ?_
  refine ww_iconst C dX4_ways_2 cI_0 ?_
  refine ww_istore (lv' := [(4, .int (nI 0)), (3, .int (nI 0)), (0, .ref m), (1, .ref s), (2, .int (nI k))]) C dX4_ways_3 (by decide) rfl ?_
  refine loop_up (N := (Bz B)) (M := fun x => WW X (RdP z h (some (.int (nI (wyN B k))))) z h 0 0 5 [(4, .int (nI x)), (3, .int (nI (sumN (fun y => cnt (fun t => ftN B k y t) 6) x))), (0, .ref m), (1, .ref s), (2, .int (nI k))] []) ?_ ?_ 0 (Nat.zero_le _)
  · show WW X (RdP z h (some (.int (nI (wyN B k))))) z h 0 0 5 [(4, .int (nI (Bz B))), (3, .int (nI (sumN (fun y => cnt (fun t => ftN B k y t) 6) (Bz B)))), (0, .ref m), (1, .ref s), (2, .int (nI k))] []
    refine ww_iload C dX4_ways_5 0 rfl ?_
    refine ww_aload_n C dX4_ways_7 rfl 2 rfl rfl ?_
    refine cv_X4_307_r (As := []) (rest := [.int (nI (Bz B))]) C dX4_ways_8 (ct_X4_cells (Cx.fl C) (Cx.ok C) hz hR hC) (rc_X4 (Cx.ok C) Hm) rfl rfl (Nat.le_of_ble_eq_true rfl) (by decide) (Nat.zero_le _) (Nat.zero_le _) ?_
    refine ww_icmp_ge_t (tgt := 57) C dX4_ways_11 (by decide) (nI_le (Nat.le_refl _) (by omega)) ?_
    refine ww_iload_n C dX4_ways_57 rfl 1 rfl ?_
    exact ww_iret C dX4_ways_58 (RdP.i (by rfl))
  · intro x hi ih
    show WW X (RdP z h (some (.int (nI (wyN B k))))) z h 0 0 5 [(4, .int (nI x)), (3, .int (nI (sumN (fun y => cnt (fun t => ftN B k y t) 6) x))), (0, .ref m), (1, .ref s), (2, .int (nI k))] []
    refine ww_iload C dX4_ways_5 0 rfl ?_
    refine ww_aload_n C dX4_ways_7 rfl 2 rfl rfl ?_
    refine cv_X4_307_r (As := []) (rest := [.int (nI x)]) C dX4_ways_8 (ct_X4_cells (Cx.fl C) (Cx.ok C) hz hR hC) (rc_X4 (Cx.ok C) Hm) rfl rfl (Nat.le_of_ble_eq_true rfl) (by decide) (Nat.zero_le _) (Nat.zero_le _) ?_
    refine ww_icmp_ge_f (tgt := 57) C dX4_ways_11 (by decide) (nI_ge hi (by omega)) ?_
    refine ww_iconst C dX4_ways_14 cI_0 ?_
    refine ww_istore (lv' := [(5, .int (nI 0)), (4, .int (nI x)), (3, .int (nI (sumN (fun y => cnt (fun t => ftN B k y t) 6) x))), (0, .ref m), (1, .ref s), (2, .int (nI k))]) C dX4_ways_15 (by decide) rfl ?_
    refine loop_up (N := 6) (M := fun j => WW X (RdP z h (some (.int (nI (wyN B k))))) z h 0 0 17 [(5, .int (nI j)), (4, .int (nI x)), (3, .int (nI (sumN (fun x => cnt (fun t => ftN B k x t) 6) x + cnt (fun t => ftN B k x t) j))), (0, .ref m), (1, .ref s), (2, .int (nI k))] []) ?_ ?_ 0 (Nat.zero_le _)
    · show WW X (RdP z h (some (.int (nI (wyN B k))))) z h 0 0 17 [(5, .int (nI 6)), (4, .int (nI x)), (3, .int (nI (sumN (fun x => cnt (fun t => ftN B k x t) 6) x + cnt (fun t => ftN B k x t) 6))), (0, .ref m), (1, .ref s), (2, .int (nI k))] []
      refine ww_iload C dX4_ways_17 0 rfl ?_
      refine ww_bipush C dX4_ways_19 cB_6 ?_
      refine ww_icmp_ge_t (tgt := 51) C dX4_ways_21 (by decide) (nI_le (Nat.le_refl _) (by decide)) ?_
      refine ww_iinc (lv' := [(4, .int (nI (x + 1))), (5, .int (nI 6)), (3, .int (nI (sumN (fun x => cnt (fun t => ftN B k x t) 6) x + cnt (fun t => ftN B k x t) 6))), (0, .ref m), (1, .ref s), (2, .int (nI k))]) C dX4_ways_51 1 rfl (inc_n _) (by decide) rfl ?_
      refine ww_goto (tgt := 5) C dX4_ways_54 (by decide) ?_
      refine ww_sub [0, 2, 3, 4, 5] rfl ?_
      exact ih
    · intro j hj ih2
      show WW X (RdP z h (some (.int (nI (wyN B k))))) z h 0 0 17 [(5, .int (nI j)), (4, .int (nI x)), (3, .int (nI (sumN (fun x => cnt (fun t => ftN B k x t) 6) x + cnt (fun t => ftN B k x t) j))), (0, .ref m), (1, .ref s), (2, .int (nI k))] []
      refine ww_iload C dX4_ways_17 0 rfl ?_
      refine ww_bipush C dX4_ways_19 cB_6 ?_
      refine ww_icmp_ge_f (tgt := 51) C dX4_ways_21 (by decide) (nI_ge hj (by decide)) ?_
      refine ww_iload_n C dX4_ways_24 rfl 2 rfl ?_
      refine ww_aload_n C dX4_ways_25 rfl 3 rfl rfl ?_
      refine ww_aload_n C dX4_ways_26 rfl 4 rfl rfl ?_
      refine ww_iload_n C dX4_ways_27 rfl 5 rfl ?_
      refine ww_iload C dX4_ways_28 1 rfl ?_
      refine ww_iload C dX4_ways_30 0 rfl ?_
      refine cv_X4_310_r (As := [.ref s, .int (nI k), .int (nI x), .int (nI j)]) (rest := [.int (nI (sumN (fun x => cnt (fun t => ftN B k x t) 6) x + cnt (fun t => ftN B k x t) j))]) C dX4_ways_32 (ct_X4_fits_2 (Cx.fl C) (Cx.ok C) hz hR hC hk (by omega) hj) (rc_X4 (Cx.ok C) Hm) rfl rfl (Nat.le_of_ble_eq_true rfl) (by decide) (Nat.zero_le _) (Nat.zero_le _) ?_
      refine ww_tern_eq_b C dX4_ways_35 dX4_ways_38 dX4_ways_39 dX4_ways_42 ?_
      refine ww_iaddb C dX4_ways_43 ?_
      refine ww_istore_n (lv' := [(3, .int (nI ((sumN (fun x => cnt (fun t => ftN B k x t) 6) x + cnt (fun t => ftN B k x t) j) + (if ftN B k x j then 1 else 0)))), (5, .int (nI j)), (4, .int (nI x)), (0, .ref m), (1, .ref s), (2, .int (nI k))]) C dX4_ways_44 rfl (by decide) rfl ?_
      refine ww_iinc (lv' := [(5, .int (nI (j + 1))), (3, .int (nI ((sumN (fun x => cnt (fun t => ftN B k x t) 6) x + cnt (fun t => ftN B k x t) j) + (if ftN B k x j then 1 else 0)))), (4, .int (nI x)), (0, .ref m), (1, .ref s), (2, .int (nI k))]) C dX4_ways_45 1 rfl (inc_n _) (by decide) rfl ?_
      refine ww_goto (tgt := 17) C dX4_ways_48 (by decide) ?_
      refine ww_sub [0, 2, 1, 3, 4, 5] rfl ?_
      exact ww_lv (lv' := [(5, .int (nI (j + 1))), (4, .int (nI x)), (3, .int (nI (sumN (fun x => cnt (fun t => ftN B k x t) 6) x + (cnt (fun t => ftN B k x t) j + (if ftN B k x j then 1 else 0))))), (0, .ref m), (1, .ref s), (2, .int (nI k))]) (by rw [Nat.add_assoc]; try rfl) ih2
set_option maxHeartbeats 2000000 in
theorem ct_X4_firstWay {l : Launch} {Γ : Gm} (hl : l.flags = flags0) (hΓ : GOK Γ) {z : ZR} {h : AH} {m s : Nat} {B : GB} {k : Nat} (hz : zle (cst Γ) z) (hR : MrP Γ z h m s B) (hC : BC B) (hk : k < Bt B) : Ct l Γ yX4_firstWay cX4_firstWay 5 (some .int) 6 0 0 [.ref m, .ref s, .int (nI k)] z h (RdP z h (some (.int (oI (fwN B k))))) := by
  refine Ct.of hl hΓ (by decide +kernel) (Nat.le_of_ble_eq_true rfl) (fun X e1 e2 C => ?_)
  subst e1; subst e2
  have C : Cx X cX4_firstWay 5 "RingDominoModel" "firstWay" (some .int) [] 6 := C
  obtain ⟨I, D, Hm, o, nn, rn, nu, tu, S, Ht, Hn, hnu, Hs, Ha, Hc, Hu, htu⟩ := id hR
  have hB := hC.1
  obtain ⟨⟨⟨c1, c2⟩, ⟨r1, r2⟩⟩, t1, bl1, bu1, bp1, bn1⟩ := id hB
  have hzz := BO.z hB
  show WW X (RdP z h (some (.int (oI (fwN B k))))) z h 0 0 0 [(0, .ref m), (1, .ref s), (2, .int (nI k))] []
  refine ww_iconst C dX4_firstWay_0 cI_0 ?_
  refine ww_istore_n (lv' := [(3, .int (nI 0)), (0, .ref m), (1, .ref s), (2, .int (nI k))]) C dX4_firstWay_1 rfl (by decide) rfl ?_
  refine loop_up (N := (Bz B)) (M := fun x => ff (fwP B k) (6 * Bz B) 0 = ff (fwP B k) (6 * Bz B - 6 * x) (6 * x) → WW X (RdP z h (some (.int (oI (fwN B k))))) z h 0 0 2 [(3, .int (nI x)), (0, .ref m), (1, .ref s), (2, .int (nI k))] []) ?_ ?_ 0 (Nat.zero_le _) rfl
  · intro hv; show WW X (RdP z h (some (.int (oI (fwN B k))))) z h 0 0 2 [(3, .int (nI (Bz B))), (0, .ref m), (1, .ref s), (2, .int (nI k))] []
    refine ww_iload_n C dX4_firstWay_2 rfl 0 rfl ?_
    refine ww_aload_n C dX4_firstWay_3 rfl 1 rfl rfl ?_
    refine cv_X4_307_r (As := []) (rest := [.int (nI (Bz B))]) C dX4_firstWay_4 (ct_X4_cells (Cx.fl C) (Cx.ok C) hz hR hC) (rc_X4 (Cx.ok C) Hm) rfl rfl (Nat.le_of_ble_eq_true rfl) (by decide) (Nat.zero_le _) (Nat.zero_le _) ?_
    refine ww_icmp_ge_t (tgt := 52) C dX4_firstWay_7 (by decide) (nI_le (Nat.le_refl _) (by omega)) ?_
    refine ww_iconst C dX4_firstWay_52 cI_m1 ?_
    exact ww_iret C dX4_firstWay_53 (RdP.i (by unfold fwN; rw [hv, ff_0]; try rfl))
  · intro x hi ih hv
    show WW X (RdP z h (some (.int (oI (fwN B k))))) z h 0 0 2 [(3, .int (nI x)), (0, .ref m), (1, .ref s), (2, .int (nI k))] []
    refine ww_iload_n C dX4_firstWay_2 rfl 0 rfl ?_
    refine ww_aload_n C dX4_firstWay_3 rfl 1 rfl rfl ?_
    refine cv_X4_307_r (As := []) (rest := [.int (nI x)]) C dX4_firstWay_4 (ct_X4_cells (Cx.fl C) (Cx.ok C) hz hR hC) (rc_X4 (Cx.ok C) Hm) rfl rfl (Nat.le_of_ble_eq_true rfl) (by decide) (Nat.zero_le _) (Nat.zero_le _) ?_
    refine ww_icmp_ge_f (tgt := 52) C dX4_firstWay_7 (by decide) (nI_ge hi (by omega)) ?_
    refine ww_iconst C dX4_firstWay_10 cI_0 ?_
    refine ww_istore (lv' := [(4, .int (nI 0)), (3, .int (nI x)), (0, .ref m), (1, .ref s), (2, .int (nI k))]) C dX4_firstWay_11 (by decide) rfl ?_
    refine loop_up (N := 6) (M := fun j => ff (fwP B k) (6 * Bz B) 0 = ff (fwP B k) (6 * Bz B - (6 * x + j)) (6 * x + j) → WW X (RdP z h (some (.int (oI (fwN B k))))) z h 0 0 13 [(4, .int (nI j)), (3, .int (nI x)), (0, .ref m), (1, .ref s), (2, .int (nI k))] []) ?_ ?_ 0 (Nat.zero_le _) hv
    · intro hv; show WW X (RdP z h (some (.int (oI (fwN B k))))) z h 0 0 13 [(4, .int (nI 6)), (3, .int (nI x)), (0, .ref m), (1, .ref s), (2, .int (nI k))] []
      refine ww_iload C dX4_firstWay_13 0 rfl ?_
      refine ww_bipush C dX4_firstWay_15 cB_6 ?_
      refine ww_icmp_ge_t (tgt := 46) C dX4_firstWay_17 (by decide) (nI_le (Nat.le_refl _) (by decide)) ?_
      refine ww_iinc (lv' := [(3, .int (nI (x + 1))), (4, .int (nI 6)), (0, .ref m), (1, .ref s), (2, .int (nI k))]) C dX4_firstWay_46 1 rfl (inc_n _) (by decide) rfl ?_
      refine ww_goto (tgt := 2) C dX4_firstWay_49 (by decide) ?_
      refine ww_sub [0, 2, 3, 4] rfl ?_
      exact ih hv
    · intro j hj ih2 hv
      show WW X (RdP z h (some (.int (oI (fwN B k))))) z h 0 0 13 [(4, .int (nI j)), (3, .int (nI x)), (0, .ref m), (1, .ref s), (2, .int (nI k))] []
      refine ww_iload C dX4_firstWay_13 0 rfl ?_
      refine ww_bipush C dX4_firstWay_15 cB_6 ?_
      refine ww_icmp_ge_f (tgt := 46) C dX4_firstWay_17 (by decide) (nI_ge hj (by decide)) ?_
      refine ww_aload_n C dX4_firstWay_20 rfl 2 rfl rfl ?_
      refine ww_aload_n C dX4_firstWay_21 rfl 3 rfl rfl ?_
      refine ww_iload_n C dX4_firstWay_22 rfl 4 rfl ?_
      refine ww_iload_n C dX4_firstWay_23 rfl 1 rfl ?_
      refine ww_iload C dX4_firstWay_24 0 rfl ?_
      refine cv_X4_310_r (As := [.ref s, .int (nI k), .int (nI x), .int (nI j)]) (rest := []) C dX4_firstWay_26 (ct_X4_fits_2 (Cx.fl C) (Cx.ok C) hz hR hC hk (by omega) hj) (rc_X4 (Cx.ok C) Hm) rfl rfl (Nat.le_of_ble_eq_true rfl) (by decide) (Nat.zero_le _) (Nat.zero_le _) ?_
      refine ww_if_eq_b (tgt := 40) C dX4_firstWay_29 (by decide) (fun c_29 => ?_) (fun c_29 => ?_)
      · skip
        have hp : fwP B k (6 * x + j) = false := by rw [fwP_e hj]; exact c_29
        refine ww_iinc (lv' := [(4, .int (nI (j + 1))), (3, .int (nI x)), (0, .ref m), (1, .ref s), (2, .int (nI k))]) C dX4_firstWay_40 0 rfl (inc_n _) (by decide) rfl ?_
        refine ww_goto (tgt := 13) C dX4_firstWay_43 (by decide) ?_
        exact ih2 (hv.trans (ff_f (by omega) hp))
      · skip
        have hp : fwP B k (6 * x + j) = true := by rw [fwP_e hj]; exact c_29
        refine ww_bipush C dX4_firstWay_32 cB_6 ?_
        refine ww_iload_n C dX4_firstWay_34 rfl 1 rfl ?_
        refine ww_imuln C dX4_firstWay_35 ?_
        refine ww_iload C dX4_firstWay_36 0 rfl ?_
        refine ww_iaddn C dX4_firstWay_38 ?_
        exact ww_iret C dX4_firstWay_39 (RdP.i (by unfold fwN; rw [hv, ff_t (by omega) hp]; try rfl))
set_option maxHeartbeats 2000000 in
theorem ct_X4_ring {l : Launch} {Γ : Gm} (hl : l.flags = flags0) (hΓ : GOK Γ) {z : ZR} {h : AH} {m s : Nat} {B : GB} {x : Nat} (hz : zle (cst Γ) z) (hR : MrP Γ z h m s B) (hC : BC B) (hx : x < 49) : Ct l Γ yX4_ring cX4_ring 3 (some .boolean) 5 0 0 [.ref m, .ref s, .int (nI x)] z h (RdP z h (some (.int (bI (riN B x))))) := by
  refine Ct.of hl hΓ (by decide +kernel) (Nat.le_of_ble_eq_true rfl) (fun X e1 e2 C => ?_)
  subst e1; subst e2
  have C : Cx X cX4_ring 3 "RingDominoModel" "ring" (some .boolean) [] 5 := C
  obtain ⟨I, D, Hm, o, nn, rn, nu, tu, S, Ht, Hn, hnu, Hs, Ha, Hc, Hu, htu⟩ := id hR
  have hB := hC.1
  obtain ⟨⟨⟨c1, c2⟩, ⟨r1, r2⟩⟩, t1, bl1, bu1, bp1, bn1⟩ := id hB
  have hzz := BO.z hB
  have har := arN_le B x
  show WW X (RdP z h (some (.int (bI (riN B x))))) z h 0 0 0 [(0, .ref m), (1, .ref s), (2, .int (nI x))] []
  refine ww_aload_n C dX4_ring_0 rfl 0 rfl rfl ?_
  refine ww_aload_n C dX4_ring_1 rfl 1 rfl rfl ?_
  refine ww_iload_n C dX4_ring_2 rfl 2 rfl ?_
  refine cv_X4_299_r (As := [.ref s, .int (nI x)]) (rest := []) C dX4_ring_3 (ct_X4_tilesBeside (Cx.fl C) (Cx.ok C) hz hR hC hx) (rc_X4 (Cx.ok C) Hm) rfl rfl (Nat.le_of_ble_eq_true rfl) (by decide) (Nat.zero_le _) (Nat.zero_le _) ?_
  refine ww_bipush C dX4_ring_6 cB_6 ?_
  refine ww_tern_icmp_ne_n C dX4_ring_8 dX4_ring_11 dX4_ring_12 dX4_ring_15 (by omega) (by decide) ?_
  exact ww_zret C dX4_ring_16 (nar_bI _) (RdP.i (by rfl))
set_option maxHeartbeats 2000000 in
theorem ct_X4_rings {l : Launch} {Γ : Gm} (hl : l.flags = flags0) (hΓ : GOK Γ) {z : ZR} {h : AH} {m s : Nat} {B : GB} (hz : zle (cst Γ) z) (hR : MrP Γ z h m s B) (hC : BC B) : Ct l Γ yX4_rings cX4_rings 4 (some .int) 6 0 0 [.ref m, .ref s] z h (RdP z h (some (.int (nI (rgN B))))) := by
  refine Ct.of hl hΓ (by decide +kernel) (Nat.le_of_ble_eq_true rfl) (fun X e1 e2 C => ?_)
  subst e1; subst e2
  have C : Cx X cX4_rings 4 "RingDominoModel" "rings" (some .int) [] 6 := C
  obtain ⟨I, D, Hm, o, nn, rn, nu, tu, S, Ht, Hn, hnu, Hs, Ha, Hc, Hu, htu⟩ := id hR
  have hB := hC.1
  obtain ⟨⟨⟨c1, c2⟩, ⟨r1, r2⟩⟩, t1, bl1, bu1, bp1, bn1⟩ := id hB
  have hzz := BO.z hB
  show WW X (RdP z h (some (.int (nI (rgN B))))) z h 0 0 0 [(0, .ref m), (1, .ref s)] []
  refine ww_iconst C dX4_rings_0 cI_0 ?_
  refine ww_istore_n (lv' := [(2, .int (nI 0)), (0, .ref m), (1, .ref s)]) C dX4_rings_1 rfl (by decide) rfl ?_
  refine ww_iconst C dX4_rings_2 cI_0 ?_
  refine ww_istore_n (lv' := [(3, .int (nI 0)), (2, .int (nI 0)), (0, .ref m), (1, .ref s)]) C dX4_rings_3 rfl (by decide) rfl ?_
  refine loop_up (N := (Bz B)) (M := fun x => WW X (RdP z h (some (.int (nI (rgN B))))) z h 0 0 4 [(3, .int (nI x)), (2, .int (nI (cnt (riN B) x))), (0, .ref m), (1, .ref s)] []) ?_ ?_ 0 (Nat.zero_le _)
  · show WW X (RdP z h (some (.int (nI (rgN B))))) z h 0 0 4 [(3, .int (nI (Bz B))), (2, .int (nI (cnt (riN B) (Bz B)))), (0, .ref m), (1, .ref s)] []
    refine ww_iload_n C dX4_rings_4 rfl 0 rfl ?_
    refine ww_aload_n C dX4_rings_5 rfl 2 rfl rfl ?_
    refine cv_X4_307_r (As := []) (rest := [.int (nI (Bz B))]) C dX4_rings_6 (ct_X4_cells (Cx.fl C) (Cx.ok C) hz hR hC) (rc_X4 (Cx.ok C) Hm) rfl rfl (Nat.le_of_ble_eq_true rfl) (by decide) (Nat.zero_le _) (Nat.zero_le _) ?_
    refine ww_icmp_ge_t (tgt := 35) C dX4_rings_9 (by decide) (nI_le (Nat.le_refl _) (by omega)) ?_
    refine ww_iload_n C dX4_rings_35 rfl 1 rfl ?_
    exact ww_iret C dX4_rings_36 (RdP.i (by rfl))
  · intro x hi ih
    show WW X (RdP z h (some (.int (nI (rgN B))))) z h 0 0 4 [(3, .int (nI x)), (2, .int (nI (cnt (riN B) x))), (0, .ref m), (1, .ref s)] []
    refine ww_iload_n C dX4_rings_4 rfl 0 rfl ?_
    refine ww_aload_n C dX4_rings_5 rfl 2 rfl rfl ?_
    refine cv_X4_307_r (As := []) (rest := [.int (nI x)]) C dX4_rings_6 (ct_X4_cells (Cx.fl C) (Cx.ok C) hz hR hC) (rc_X4 (Cx.ok C) Hm) rfl rfl (Nat.le_of_ble_eq_true rfl) (by decide) (Nat.zero_le _) (Nat.zero_le _) ?_
    refine ww_icmp_ge_f (tgt := 35) C dX4_rings_9 (by decide) (nI_ge hi (by omega)) ?_
    refine ww_iload_n C dX4_rings_12 rfl 1 rfl ?_
    refine ww_aload_n C dX4_rings_13 rfl 2 rfl rfl ?_
    refine ww_aload_n C dX4_rings_14 rfl 3 rfl rfl ?_
    refine ww_iload_n C dX4_rings_15 rfl 0 rfl ?_
    refine cv_X4_314_r (As := [.ref s, .int (nI x)]) (rest := [.int (nI (cnt (riN B) x))]) C dX4_rings_16 (ct_X4_ring (Cx.fl C) (Cx.ok C) hz hR hC (by omega)) (rc_X4 (Cx.ok C) Hm) rfl rfl (Nat.le_of_ble_eq_true rfl) (by decide) (Nat.zero_le _) (Nat.zero_le _) ?_
    refine ww_tern_eq_b C dX4_rings_19 dX4_rings_22 dX4_rings_23 dX4_rings_26 ?_
    refine ww_iaddb C dX4_rings_27 ?_
    refine ww_istore_n (lv' := [(2, .int (nI ((cnt (riN B) x) + (if riN B x then 1 else 0)))), (3, .int (nI x)), (0, .ref m), (1, .ref s)]) C dX4_rings_28 rfl (by decide) rfl ?_
    refine ww_iinc (lv' := [(3, .int (nI (x + 1))), (2, .int (nI ((cnt (riN B) x) + (if riN B x then 1 else 0)))), (0, .ref m), (1, .ref s)]) C dX4_rings_29 1 rfl (inc_n _) (by decide) rfl ?_
    refine ww_goto (tgt := 4) C dX4_rings_32 (by decide) ?_
    exact ih
set_option maxHeartbeats 2000000 in
theorem ct_X4_matches_2 {l : Launch} {Γ : Gm} (hl : l.flags = flags0) (hΓ : GOK Γ) {z : ZR} {h : AH} {m s : Nat} {B : GB} (hz : zle (cst Γ) z) (hR : MrP Γ z h m s B) (hC : BC B) : Ct l Γ yX4_matches_2 cX4_matches_2 4 (some .int) 5 0 0 [.ref m, .ref s] z h (RdP z h (some (.int (nI (maN B))))) := by
  refine Ct.of hl hΓ (by decide +kernel) (Nat.le_of_ble_eq_true rfl) (fun X e1 e2 C => ?_)
  subst e1; subst e2
  have C : Cx X cX4_matches_2 4 "RingDominoModel" "matches" (some .int) [] 5 := C
  obtain ⟨I, D, Hm, o, nn, rn, nu, tu, S, Ht, Hn, hnu, Hs, Ha, Hc, Hu, htu⟩ := id hR
  have hB := hC.1
  obtain ⟨⟨⟨c1, c2⟩, ⟨r1, r2⟩⟩, t1, bl1, bu1, bp1, bn1⟩ := id hB
  have hzz := BO.z hB
  show WW X (RdP z h (some (.int (nI (maN B))))) z h 0 0 0 [(0, .ref m), (1, .ref s)] []
  refine ww_iconst C dX4_matches_2_0 cI_0 ?_
  refine ww_istore_n (lv' := [(2, .int (nI 0)), (0, .ref m), (1, .ref s)]) C dX4_matches_2_1 rfl (by decide) rfl ?_
  refine ww_iconst C dX4_matches_2_2 cI_0 ?_
  refine ww_istore_n (lv' := [(3, .int (nI 0)), (2, .int (nI 0)), (0, .ref m), (1, .ref s)]) C dX4_matches_2_3 rfl (by decide) rfl ?_
  have hsm : sumN (moN B) (Bz B) ≤ Bz B * 6 := sumN_le (moN_le B) _
  refine loop_up (N := (Bz B)) (M := fun x => WW X (RdP z h (some (.int (nI (maN B))))) z h 0 0 4 [(3, .int (nI x)), (2, .int (nI (sumN (moN B) x))), (0, .ref m), (1, .ref s)] []) ?_ ?_ 0 (Nat.zero_le _)
  · show WW X (RdP z h (some (.int (nI (maN B))))) z h 0 0 4 [(3, .int (nI (Bz B))), (2, .int (nI (sumN (moN B) (Bz B)))), (0, .ref m), (1, .ref s)] []
    refine ww_iload_n C dX4_matches_2_4 rfl 0 rfl ?_
    refine ww_aload_n C dX4_matches_2_5 rfl 2 rfl rfl ?_
    refine cv_X4_307_r (As := []) (rest := [.int (nI (Bz B))]) C dX4_matches_2_6 (ct_X4_cells (Cx.fl C) (Cx.ok C) hz hR hC) (rc_X4 (Cx.ok C) Hm) rfl rfl (Nat.le_of_ble_eq_true rfl) (by decide) (Nat.zero_le _) (Nat.zero_le _) ?_
    refine ww_icmp_ge_t (tgt := 37) C dX4_matches_2_9 (by decide) (nI_le (Nat.le_refl _) (by omega)) ?_
    refine ww_iload_n C dX4_matches_2_37 rfl 1 rfl ?_
    refine ww_iconst C dX4_matches_2_38 cI_2 ?_
    refine ww_idivn C dX4_matches_2_39 (by omega) (by decide) (by decide) ?_
    exact ww_iret C dX4_matches_2_40 (RdP.i (by rfl))
  · intro x hi ih
    show WW X (RdP z h (some (.int (nI (maN B))))) z h 0 0 4 [(3, .int (nI x)), (2, .int (nI (sumN (moN B) x))), (0, .ref m), (1, .ref s)] []
    refine ww_iload_n C dX4_matches_2_4 rfl 0 rfl ?_
    refine ww_aload_n C dX4_matches_2_5 rfl 2 rfl rfl ?_
    refine cv_X4_307_r (As := []) (rest := [.int (nI x)]) C dX4_matches_2_6 (ct_X4_cells (Cx.fl C) (Cx.ok C) hz hR hC) (rc_X4 (Cx.ok C) Hm) rfl rfl (Nat.le_of_ble_eq_true rfl) (by decide) (Nat.zero_le _) (Nat.zero_le _) ?_
    refine ww_icmp_ge_f (tgt := 37) C dX4_matches_2_9 (by decide) (nI_ge hi (by omega)) ?_
    refine ww_aload_n C dX4_matches_2_12 rfl 3 rfl rfl ?_
    refine gf_X4_280_X6 C dX4_matches_2_13 Hs rfl ?_
    refine ww_iload_n C dX4_matches_2_16 rfl 0 rfl ?_
    refine ww_iald C dX4_matches_2_17 Ha (by omega) (by decide) ?_
    refine ww_iconst C dX4_matches_2_18 cI_m1 ?_
    refine ww_icmp_eq_o (tgt := 31) C dX4_matches_2_19 (by decide) (hC.a x) (fun c_19 => ?_) (fun c_19 => ?_)
    · skip
      have hmo : moN B x = 0 := by unfold moN; rw [← atO_is, c_19]; rfl
      refine ww_iinc (lv' := [(3, .int (nI (x + 1))), (2, .int (nI (sumN (moN B) x))), (0, .ref m), (1, .ref s)]) C dX4_matches_2_31 0 rfl (inc_n _) (by decide) rfl ?_
      refine ww_goto (tgt := 4) C dX4_matches_2_34 (by decide) ?_
      exact ww_lv (lv' := [(3, .int (nI (x + 1))), (2, .int (nI (sumN (moN B) x + moN B x))), (0, .ref m), (1, .ref s)]) (by rw [hmo]; try rfl) ih
    · skip
      have hmo : moN B x = arN B x := by unfold moN; rw [← atO_is, Option.isSome_iff_ne_none.mpr c_19]; rfl
      refine ww_iload_n C dX4_matches_2_22 rfl 1 rfl ?_
      refine ww_aload_n C dX4_matches_2_23 rfl 2 rfl rfl ?_
      refine ww_aload_n C dX4_matches_2_24 rfl 3 rfl rfl ?_
      refine ww_iload_n C dX4_matches_2_25 rfl 0 rfl ?_
      refine cv_X4_299_r (As := [.ref s, .int (nI x)]) (rest := [.int (nI (sumN (moN B) x))]) C dX4_matches_2_26 (ct_X4_tilesBeside (Cx.fl C) (Cx.ok C) hz hR hC (by omega)) (rc_X4 (Cx.ok C) Hm) rfl rfl (Nat.le_of_ble_eq_true rfl) (by decide) (Nat.zero_le _) (Nat.zero_le _) ?_
      refine ww_iaddn C dX4_matches_2_29 ?_
      refine ww_istore_n (lv' := [(2, .int (nI ((sumN (moN B) x) + (arN B x)))), (3, .int (nI x)), (0, .ref m), (1, .ref s)]) C dX4_matches_2_30 rfl (by decide) rfl ?_
      refine ww_iinc (lv' := [(3, .int (nI (x + 1))), (2, .int (nI ((sumN (moN B) x) + (arN B x)))), (0, .ref m), (1, .ref s)]) C dX4_matches_2_31 1 rfl (inc_n _) (by decide) rfl ?_
      refine ww_goto (tgt := 4) C dX4_matches_2_34 (by decide) ?_
      exact ww_lv (lv' := [(3, .int (nI (x + 1))), (2, .int (nI (sumN (moN B) x + moN B x))), (0, .ref m), (1, .ref s)]) (by rw [hmo]; try rfl) ih
set_option maxHeartbeats 2000000 in
theorem ct_X4_matched {l : Launch} {Γ : Gm} (hl : l.flags = flags0) (hΓ : GOK Γ) {z : ZR} {h : AH} {m s : Nat} {B : GB} (hz : zle (cst Γ) z) (hR : MrP Γ z h m s B) (hC : BC B) : Ct l Γ yX4_matched cX4_matched 5 (some .int) 5 0 0 [.ref m, .ref s] z h (RdP z h (some (.int (nI (suN B))))) := by
  refine Ct.of hl hΓ (by decide +kernel) (Nat.le_of_ble_eq_true rfl) (fun X e1 e2 C => ?_)
  subst e1; subst e2
  have C : Cx X cX4_matched 5 "RingDominoModel" "matched" (some .int) [] 5 := C
  obtain ⟨I, D, Hm, o, nn, rn, nu, tu, S, Ht, Hn, hnu, Hs, Ha, Hc, Hu, htu⟩ := id hR
  have hB := hC.1
  obtain ⟨⟨⟨c1, c2⟩, ⟨r1, r2⟩⟩, t1, bl1, bu1, bp1, bn1⟩ := id hB
  have hzz := BO.z hB
  show WW X (RdP z h (some (.int (nI (suN B))))) z h 0 0 0 [(0, .ref m), (1, .ref s)] []
  refine ww_iconst C dX4_matched_0 cI_0 ?_
  refine ww_istore_n (lv' := [(2, .int (nI 0)), (0, .ref m), (1, .ref s)]) C dX4_matched_1 rfl (by decide) rfl ?_
  refine ww_iconst C dX4_matched_2 cI_0 ?_
  refine ww_istore_n (lv' := [(3, .int (nI 0)), (2, .int (nI 0)), (0, .ref m), (1, .ref s)]) C dX4_matched_3 rfl (by decide) rfl ?_
  refine loop_up (N := (Bz B)) (M := fun x => WW X (RdP z h (some (.int (nI (suN B))))) z h 0 0 4 [(3, .int (nI x)), (2, .int (nI (sumN (fun y => sumN (suE B y) 3) x))), (0, .ref m), (1, .ref s)] []) ?_ ?_ 0 (Nat.zero_le _)
  · show WW X (RdP z h (some (.int (nI (suN B))))) z h 0 0 4 [(3, .int (nI (Bz B))), (2, .int (nI (sumN (fun y => sumN (suE B y) 3) (Bz B)))), (0, .ref m), (1, .ref s)] []
    refine ww_iload_n C dX4_matched_4 rfl 0 rfl ?_
    refine ww_aload_n C dX4_matched_5 rfl 2 rfl rfl ?_
    refine cv_X4_307_r (As := []) (rest := [.int (nI (Bz B))]) C dX4_matched_6 (ct_X4_cells (Cx.fl C) (Cx.ok C) hz hR hC) (rc_X4 (Cx.ok C) Hm) rfl rfl (Nat.le_of_ble_eq_true rfl) (by decide) (Nat.zero_le _) (Nat.zero_le _) ?_
    refine ww_icmp_ge_t (tgt := 73) C dX4_matched_9 (by decide) (nI_le (Nat.le_refl _) (by omega)) ?_
    refine ww_iload_n C dX4_matched_73 rfl 1 rfl ?_
    exact ww_iret C dX4_matched_74 (RdP.i (by rfl))
  · intro x hi ih
    show WW X (RdP z h (some (.int (nI (suN B))))) z h 0 0 4 [(3, .int (nI x)), (2, .int (nI (sumN (fun y => sumN (suE B y) 3) x))), (0, .ref m), (1, .ref s)] []
    refine ww_iload_n C dX4_matched_4 rfl 0 rfl ?_
    refine ww_aload_n C dX4_matched_5 rfl 2 rfl rfl ?_
    refine cv_X4_307_r (As := []) (rest := [.int (nI x)]) C dX4_matched_6 (ct_X4_cells (Cx.fl C) (Cx.ok C) hz hR hC) (rc_X4 (Cx.ok C) Hm) rfl rfl (Nat.le_of_ble_eq_true rfl) (by decide) (Nat.zero_le _) (Nat.zero_le _) ?_
    refine ww_icmp_ge_f (tgt := 73) C dX4_matched_9 (by decide) (nI_ge hi (by omega)) ?_
    refine ww_aload_n C dX4_matched_12 rfl 3 rfl rfl ?_
    refine gf_X4_280_X6 C dX4_matched_13 Hs rfl ?_
    refine ww_iload_n C dX4_matched_16 rfl 0 rfl ?_
    refine ww_iald C dX4_matched_17 Ha (by omega) (by decide) ?_
    refine ww_iconst C dX4_matched_18 cI_m1 ?_
    refine ww_icmp_ne_o (tgt := 25) C dX4_matched_19 (by decide) (hC.a x) (fun c_19 => ?_) (fun c_19 => ?_)
    · skip
      have hpx : 0 < Bl B x := by exact Nat.pos_of_ne_zero (fun q => c_19 (atO_n.mpr q))
      have hx1 : hasT B (some x) = true := by rw [← atO_is]; exact Option.isSome_iff_ne_none.mpr c_19
      refine ww_iconst C dX4_matched_25 cI_0 ?_
      refine ww_istore (lv' := [(4, .int (nI 0)), (3, .int (nI x)), (2, .int (nI (sumN (fun y => sumN (suE B y) 3) x))), (0, .ref m), (1, .ref s)]) C dX4_matched_26 (by decide) rfl ?_
      refine loop_up (N := 3) (M := fun j => WW X (RdP z h (some (.int (nI (suN B))))) z h 0 0 28 [(4, .int (nI j)), (3, .int (nI x)), (2, .int (nI (sumN (fun y => sumN (suE B y) 3) x + sumN (suE B x) j))), (0, .ref m), (1, .ref s)] []) ?_ ?_ 0 (Nat.zero_le _)
      · show WW X (RdP z h (some (.int (nI (suN B))))) z h 0 0 28 [(4, .int (nI 3)), (3, .int (nI x)), (2, .int (nI (sumN (fun y => sumN (suE B y) 3) x + sumN (suE B x) 3))), (0, .ref m), (1, .ref s)] []
        refine ww_iload C dX4_matched_28 0 rfl ?_
        refine ww_iconst C dX4_matched_30 cI_3 ?_
        refine ww_icmp_ge_t (tgt := 67) C dX4_matched_31 (by decide) (nI_le (Nat.le_refl _) (by decide)) ?_
        refine ww_iinc (lv' := [(3, .int (nI (x + 1))), (4, .int (nI 3)), (2, .int (nI (sumN (fun y => sumN (suE B y) 3) x + sumN (suE B x) 3))), (0, .ref m), (1, .ref s)]) C dX4_matched_67 1 rfl (inc_n _) (by decide) rfl ?_
        refine ww_goto (tgt := 4) C dX4_matched_70 (by decide) ?_
        refine ww_sub [0, 2, 3, 4] rfl ?_
        exact ih
      · intro j hj ih2
        show WW X (RdP z h (some (.int (nI (suN B))))) z h 0 0 28 [(4, .int (nI j)), (3, .int (nI x)), (2, .int (nI (sumN (fun y => sumN (suE B y) 3) x + sumN (suE B x) j))), (0, .ref m), (1, .ref s)] []
        refine ww_iload C dX4_matched_28 0 rfl ?_
        refine ww_iconst C dX4_matched_30 cI_3 ?_
        refine ww_icmp_ge_f (tgt := 67) C dX4_matched_31 (by decide) (nI_ge hj (by decide)) ?_
        refine ww_iload_n C dX4_matched_34 rfl 2 rfl ?_
        refine ww_aload_n C dX4_matched_35 rfl 3 rfl rfl ?_
        refine ww_aload_n C dX4_matched_36 rfl 4 rfl rfl ?_
        refine ww_iload_n C dX4_matched_37 rfl 1 rfl ?_
        refine ww_iload C dX4_matched_38 0 rfl ?_
        refine cv_X4_289_r (As := [.ref s, .int (nI x), .int (nI j)]) (rest := [.int (nI (sumN (fun y => sumN (suE B y) 3) x + sumN (suE B x) j))]) C dX4_matched_40 (ct_X4_tileBeside (Cx.fl C) (Cx.ok C) hz hR hC (by omega) (by omega)) (rc_X4 (Cx.ok C) Hm) rfl rfl (Nat.le_of_ble_eq_true rfl) (by decide) (Nat.zero_le _) (Nat.zero_le _) ?_
        refine ww_iconst C dX4_matched_43 cI_m1 ?_
        refine ww_icmp_ne_o (tgt := 51) C dX4_matched_44 (by decide) (hC.b x j) (fun c_44 => ?_) (fun c_44 => ?_)
        · skip
          have hs : suE B x j = nmA B x j := by unfold suE; rw [hx1, ← tbO_is, Option.isSome_iff_ne_none.mpr c_44]; rfl
          refine ww_aload_n C dX4_matched_51 rfl 3 rfl rfl ?_
          refine ww_aload_n C dX4_matched_52 rfl 4 rfl rfl ?_
          refine ww_iload_n C dX4_matched_53 rfl 1 rfl ?_
          refine ww_iload C dX4_matched_54 0 rfl ?_
          refine cv_X4_318_r (As := [.ref s, .int (nI x), .int (nI j)]) (rest := [.int (nI (sumN (fun y => sumN (suE B y) 3) x + sumN (suE B x) j))]) C dX4_matched_56 (ct_X4_numberAt (Cx.fl C) (Cx.ok C) hz hR hC (by omega) (by omega) hpx) (rc_X4 (Cx.ok C) Hm) rfl rfl (Nat.le_of_ble_eq_true rfl) (by decide) (Nat.zero_le _) (Nat.zero_le _) ?_
          refine ww_iaddn C dX4_matched_59 ?_
          refine ww_istore_n (lv' := [(2, .int (nI ((sumN (fun y => sumN (suE B y) 3) x + sumN (suE B x) j) + (nmA B x j)))), (4, .int (nI j)), (3, .int (nI x)), (0, .ref m), (1, .ref s)]) C dX4_matched_60 rfl (by decide) rfl ?_
          refine ww_iinc (lv' := [(4, .int (nI (j + 1))), (2, .int (nI ((sumN (fun y => sumN (suE B y) 3) x + sumN (suE B x) j) + (nmA B x j)))), (3, .int (nI x)), (0, .ref m), (1, .ref s)]) C dX4_matched_61 1 rfl (inc_n _) (by decide) rfl ?_
          refine ww_goto (tgt := 28) C dX4_matched_64 (by decide) ?_
          refine ww_sub [0, 2, 1, 3, 4] rfl ?_
          exact ww_lv (lv' := [(4, .int (nI (j + 1))), (3, .int (nI x)), (2, .int (nI (sumN (fun y => sumN (suE B y) 3) x + (sumN (suE B x) j + suE B x j)))), (0, .ref m), (1, .ref s)]) (by rw [hs, Nat.add_assoc]; try rfl) ih2
        · skip
          have hs : suE B x j = 0 := by unfold suE; rw [hx1, ← tbO_is, c_44]; rfl
          refine ww_iconst C dX4_matched_47 cI_0 ?_
          refine ww_goto (tgt := 59) C dX4_matched_48 (by decide) ?_
          refine ww_iaddn C dX4_matched_59 ?_
          refine ww_istore_n (lv' := [(2, .int (nI ((sumN (fun y => sumN (suE B y) 3) x + sumN (suE B x) j) + 0))), (4, .int (nI j)), (3, .int (nI x)), (0, .ref m), (1, .ref s)]) C dX4_matched_60 rfl (by decide) rfl ?_
          refine ww_iinc (lv' := [(4, .int (nI (j + 1))), (2, .int (nI ((sumN (fun y => sumN (suE B y) 3) x + sumN (suE B x) j) + 0))), (3, .int (nI x)), (0, .ref m), (1, .ref s)]) C dX4_matched_61 1 rfl (inc_n _) (by decide) rfl ?_
          refine ww_goto (tgt := 28) C dX4_matched_64 (by decide) ?_
          refine ww_sub [0, 2, 1, 3, 4] rfl ?_
          exact ww_lv (lv' := [(4, .int (nI (j + 1))), (3, .int (nI x)), (2, .int (nI (sumN (fun y => sumN (suE B y) 3) x + (sumN (suE B x) j + suE B x j)))), (0, .ref m), (1, .ref s)]) (by rw [hs]; try rfl) ih2
    · skip
      have hs : sumN (suE B x) 3 = 0 := by have h1 : ∀ e, suE B x e = 0 := fun e => by { unfold suE; rw [← atO_is, c_19]; rfl }; simp [sumN, h1]
      refine ww_goto (tgt := 67) C dX4_matched_22 (by decide) ?_
      refine ww_iinc (lv' := [(3, .int (nI (x + 1))), (2, .int (nI (sumN (fun y => sumN (suE B y) 3) x))), (0, .ref m), (1, .ref s)]) C dX4_matched_67 0 rfl (inc_n _) (by decide) rfl ?_
      refine ww_goto (tgt := 4) C dX4_matched_70 (by decide) ?_
      exact ww_lv (lv' := [(3, .int (nI (x + 1))), (2, .int (nI (sumN (fun y => sumN (suE B y) 3) x + sumN (suE B x) 3))), (0, .ref m), (1, .ref s)]) (by rw [hs]; try rfl) ih
set_option maxHeartbeats 2000000 in
theorem ct_X4_points_2 {l : Launch} {Γ : Gm} (hl : l.flags = flags0) (hΓ : GOK Γ) {z : ZR} {h : AH} {m s : Nat} {B : GB} (hz : zle (cst Γ) z) (hR : MrP Γ z h m s B) (hC : BC B) : Ct l Γ yX4_points_2 cX4_points_2 2 (some .int) 7 0 0 [.ref m, .ref s] z h (RdP z h (some (.int (nI (poN B))))) := by
  refine Ct.of hl hΓ (by decide +kernel) (Nat.le_of_ble_eq_true rfl) (fun X e1 e2 C => ?_)
  subst e1; subst e2
  have C : Cx X cX4_points_2 2 "RingDominoModel" "points" (some .int) [] 7 := C
  obtain ⟨I, D, Hm, o, nn, rn, nu, tu, S, Ht, Hn, hnu, Hs, Ha, Hc, Hu, htu⟩ := id hR
  have hB := hC.1
  obtain ⟨⟨⟨c1, c2⟩, ⟨r1, r2⟩⟩, t1, bl1, bu1, bp1, bn1⟩ := id hB
  have hzz := BO.z hB
  show WW X (RdP z h (some (.int (nI (poN B))))) z h 0 0 0 [(0, .ref m), (1, .ref s)] []
  refine ww_aload_n C dX4_points_2_0 rfl 0 rfl rfl ?_
  refine ww_aload_n C dX4_points_2_1 rfl 1 rfl rfl ?_
  refine cv_X4_321_r (As := [.ref s]) (rest := []) C dX4_points_2_2 (ct_X4_matched (Cx.fl C) (Cx.ok C) hz hR hC) (rc_X4 (Cx.ok C) Hm) rfl rfl (Nat.le_of_ble_eq_true rfl) (by decide) (Nat.zero_le _) (Nat.zero_le _) ?_
  refine ww_bipush C dX4_points_2_5 cB_10 ?_
  refine ww_aload_n C dX4_points_2_7 rfl 0 rfl rfl ?_
  refine ww_aload_n C dX4_points_2_8 rfl 1 rfl rfl ?_
  refine cv_X4_325_r (As := [.ref s]) (rest := [.int (nI 10), .int (nI (suN B))]) C dX4_points_2_9 (ct_X4_rings (Cx.fl C) (Cx.ok C) hz hR hC) (rc_X4 (Cx.ok C) Hm) rfl rfl (Nat.le_of_ble_eq_true rfl) (by decide) (Nat.zero_le _) (Nat.zero_le _) ?_
  refine ww_imuln C dX4_points_2_12 ?_
  refine ww_iaddn C dX4_points_2_13 ?_
  exact ww_iret C dX4_points_2_14 (RdP.i (by rfl))
set_option maxHeartbeats 2000000 in
theorem ct_X4_isInside {l : Launch} {Γ : Gm} (hl : l.flags = flags0) (hΓ : GOK Γ) {z : ZR} {h : AH} {m s : Nat} {B : GB} {y : Nat} (hz : zle (cst Γ) z) (hR : MrP Γ z h m s B) (hC : BC B) (hy : y < 49) : Ct l Γ yX4_isInside cX4_isInside 3 (some .boolean) 3 0 0 [.ref m, .int (nI y)] z h (RdP z h (some (.int (bI (inN B y))))) := by
  refine Ct.of hl hΓ (by decide +kernel) (Nat.le_of_ble_eq_true rfl) (fun X e1 e2 C => ?_)
  subst e1; subst e2
  have C : Cx X cX4_isInside 3 "RingDominoModel" "isInside" (some .boolean) [] 3 := C
  obtain ⟨I, D, Hm, o, nn, rn, nu, tu, S, Ht, Hn, hnu, Hs, Ha, Hc, Hu, htu⟩ := id hR
  have hB := hC.1
  obtain ⟨⟨⟨c1, c2⟩, ⟨r1, r2⟩⟩, t1, bl1, bu1, bp1, bn1⟩ := id hB
  have hzz := BO.z hB
  show WW X (RdP z h (some (.int (bI (inN B y))))) z h 0 0 0 [(0, .ref m), (1, .int (nI y))] []
  refine ww_iconst C dX4_isInside_0 cI_0 ?_
  refine ww_istore_n (lv' := [(2, .int (nI 0)), (0, .ref m), (1, .int (nI y))]) C dX4_isInside_1 rfl (by decide) rfl ?_
  refine loop_up (N := 6) (M := fun j => ff (fun e => (bes (Bc B) (Br B) y e).isNone) 6 0 = ff (fun e => (bes (Bc B) (Br B) y e).isNone) (6 - j) j → WW X (RdP z h (some (.int (bI (inN B y))))) z h 0 0 2 [(2, .int (nI j)), (0, .ref m), (1, .int (nI y))] []) ?_ ?_ 0 (Nat.zero_le _) rfl
  · intro hv; show WW X (RdP z h (some (.int (bI (inN B y))))) z h 0 0 2 [(2, .int (nI 6)), (0, .ref m), (1, .int (nI y))] []
    refine ww_iload_n C dX4_isInside_2 rfl 0 rfl ?_
    refine ww_bipush C dX4_isInside_3 cB_6 ?_
    refine ww_icmp_ge_t (tgt := 26) C dX4_isInside_5 (by decide) (nI_le (Nat.le_refl _) (by decide)) ?_
    refine ww_iconst C dX4_isInside_26 cI_1 ?_
    exact ww_zret C dX4_isInside_27 nar_z1 (RdP.i (by unfold inN; rw [hv]; try rfl))
  · intro j hi ih hv
    show WW X (RdP z h (some (.int (bI (inN B y))))) z h 0 0 2 [(2, .int (nI j)), (0, .ref m), (1, .int (nI y))] []
    have hbe : ∀ q, bes (Bc B) (Br B) y j = some q → q < 2 ^ 31 := fun q w => Nat.lt_of_lt_of_le (bes_lt ⟨c1, c2⟩ ⟨r1, r2⟩ hy hi w) (Nat.le_trans hzz (by decide))
    refine ww_iload_n C dX4_isInside_2 rfl 0 rfl ?_
    refine ww_bipush C dX4_isInside_3 cB_6 ?_
    refine ww_icmp_ge_f (tgt := 26) C dX4_isInside_5 (by decide) (nI_ge hi (by decide)) ?_
    refine ww_aload_n C dX4_isInside_8 rfl 1 rfl rfl ?_
    refine ww_iload_n C dX4_isInside_9 rfl 2 rfl ?_
    refine ww_iload_n C dX4_isInside_10 rfl 0 rfl ?_
    refine cv_X4_277_r (As := [.int (nI y), .int (nI j)]) (rest := []) C dX4_isInside_11 (ct_X4_beside (Cx.fl C) (Cx.ok C) hz hR hC hy hi) (rc_X4 (Cx.ok C) Hm) rfl rfl (Nat.le_of_ble_eq_true rfl) (by decide) (Nat.zero_le _) (Nat.zero_le _) ?_
    refine ww_iconst C dX4_isInside_14 cI_m1 ?_
    refine ww_icmp_ne_o (tgt := 20) C dX4_isInside_15 (by decide) hbe (fun c_15 => ?_) (fun c_15 => ?_)
    · skip
      have hp : (fun e => (bes (Bc B) (Br B) y e).isNone) j = false := by show (bes _ _ y j).isNone = false; rw [← Option.not_isSome, Option.isSome_iff_ne_none.mpr c_15]; rfl
      refine ww_iinc (lv' := [(2, .int (nI (j + 1))), (0, .ref m), (1, .int (nI y))]) C dX4_isInside_20 0 rfl (inc_n _) (by decide) rfl ?_
      refine ww_goto (tgt := 2) C dX4_isInside_23 (by decide) ?_
      exact ih (hv.trans (ff_f hi hp))
    · skip
      have hp : (fun e => (bes (Bc B) (Br B) y e).isNone) j = true := by show (bes _ _ y j).isNone = true; rw [c_15]; rfl
      refine ww_iconst C dX4_isInside_18 cI_0 ?_
      exact ww_zret C dX4_isInside_19 nar_z0 (RdP.i (by unfold inN; rw [hv, ff_t hi hp]; try rfl))
set_option maxHeartbeats 2000000 in
theorem ct_X4_gain {l : Launch} {Γ : Gm} (hl : l.flags = flags0) (hΓ : GOK Γ) {z : ZR} {h : AH} {m s : Nat} {B : GB} {k x t : Nat} (hz : zle (cst Γ) z) (hR : MrP Γ z h m s B) (hC : BC B) (hk : k < Bt B) (hx : x < 49) (ht : t < 6) : Ct l Γ yX4_gain cX4_gain 8 (some .int) 5 0 0 [.ref m, .ref s, .int (nI k), .int (nI x), .int (nI t)] z h (RdP z h (some (.int (nI (gnN B k x t))))) := by
  refine Ct.of hl hΓ (by decide +kernel) (Nat.le_of_ble_eq_true rfl) (fun X e1 e2 C => ?_)
  subst e1; subst e2
  have C : Cx X cX4_gain 8 "RingDominoModel" "gain" (some .int) [] 5 := C
  obtain ⟨I, D, Hm, o, nn, rn, nu, tu, S, Ht, Hn, hnu, Hs, Ha, Hc, Hu, htu⟩ := id hR
  have hB := hC.1
  obtain ⟨⟨⟨c1, c2⟩, ⟨r1, r2⟩⟩, t1, bl1, bu1, bp1, bn1⟩ := id hB
  have hzz := BO.z hB
  show WW X (RdP z h (some (.int (nI (gnN B k x t))))) z h 0 0 0 [(0, .ref m), (1, .ref s), (2, .int (nI k)), (3, .int (nI x)), (4, .int (nI t))] []
  have hpl := plN_le B
  refine ww_aload_n C dX4_gain_0 rfl 1 rfl rfl ?_
  refine gf_X4_296_X6 C dX4_gain_1 Hs rfl ?_
  refine ww_if_ne_n (tgt := 9) C dX4_gain_4 (by decide) (by omega) (fun c_4 => ?_) (fun c_4 => ?_)
  · skip
    refine ww_iconst C dX4_gain_9 cI_0 ?_
    refine ww_istore (lv' := [(5, .int (nI 0)), (0, .ref m), (1, .ref s), (2, .int (nI k)), (3, .int (nI x)), (4, .int (nI t))]) C dX4_gain_10 (by decide) rfl ?_
    refine ww_iconst C dX4_gain_12 cI_0 ?_
    refine ww_istore (lv' := [(6, .int (nI 0)), (5, .int (nI 0)), (0, .ref m), (1, .ref s), (2, .int (nI k)), (3, .int (nI x)), (4, .int (nI t))]) C dX4_gain_13 (by decide) rfl ?_
    refine loop_up (N := 6) (M := fun j => WW X (RdP z h (some (.int (nI (gnN B k x t))))) z h 0 0 15 [(6, .int (nI j)), (5, .int (nI (sumN (gnE B k x t) j))), (0, .ref m), (1, .ref s), (2, .int (nI k)), (3, .int (nI x)), (4, .int (nI t))] []) ?_ ?_ 0 (Nat.zero_le _)
    · show WW X (RdP z h (some (.int (nI (gnN B k x t))))) z h 0 0 15 [(6, .int (nI 6)), (5, .int (nI (sumN (gnE B k x t) 6))), (0, .ref m), (1, .ref s), (2, .int (nI k)), (3, .int (nI x)), (4, .int (nI t))] []
      refine ww_iload C dX4_gain_15 0 rfl ?_
      refine ww_bipush C dX4_gain_17 cB_6 ?_
      refine ww_icmp_ge_t (tgt := 116) C dX4_gain_19 (by decide) (nI_le (Nat.le_refl _) (by decide)) ?_
      refine ww_iload C dX4_gain_116 1 rfl ?_
      exact ww_iret C dX4_gain_118 (RdP.i (by unfold gnN; rw [if_neg (by omega)]; try rfl))
    · intro j hi ih
      show WW X (RdP z h (some (.int (nI (gnN B k x t))))) z h 0 0 15 [(6, .int (nI j)), (5, .int (nI (sumN (gnE B k x t) j))), (0, .ref m), (1, .ref s), (2, .int (nI k)), (3, .int (nI x)), (4, .int (nI t))] []
      have hbe : ∀ q, bes (Bc B) (Br B) x j = some q → q < 49 := fun q w => Nat.lt_of_lt_of_le (bes_lt ⟨c1, c2⟩ ⟨r1, r2⟩ hx hi w) hzz
      refine ww_iload C dX4_gain_15 0 rfl ?_
      refine ww_bipush C dX4_gain_17 cB_6 ?_
      refine ww_icmp_ge_f (tgt := 116) C dX4_gain_19 (by decide) (nI_ge hi (by decide)) ?_
      refine ww_aload_n C dX4_gain_22 rfl 2 rfl rfl ?_
      refine ww_iload_n C dX4_gain_23 rfl 5 rfl ?_
      refine ww_iload C dX4_gain_24 0 rfl ?_
      refine cv_X4_277_r (As := [.int (nI x), .int (nI j)]) (rest := []) C dX4_gain_26 (ct_X4_beside (Cx.fl C) (Cx.ok C) hz hR hC hx hi) (rc_X4 (Cx.ok C) Hm) rfl rfl (Nat.le_of_ble_eq_true rfl) (by decide) (Nat.zero_le _) (Nat.zero_le _) ?_
      refine ww_istore (lv' := [(7, .int (oI (bes (Bc B) (Br B) x j))), (6, .int (nI j)), (5, .int (nI (sumN (gnE B k x t) j))), (0, .ref m), (1, .ref s), (2, .int (nI k)), (3, .int (nI x)), (4, .int (nI t))]) C dX4_gain_29 (by decide) rfl ?_
      refine ww_iload C dX4_gain_31 0 rfl ?_
      refine ww_iconst C dX4_gain_33 cI_m1 ?_
      refine ww_icmp_ne_o (tgt := 40) C dX4_gain_34 (by decide) (fun y q => Nat.lt_trans (hbe y q) (by decide)) (fun c_34 => ?_) (fun c_34 => ?_)
      · skip
        obtain ⟨y, hy⟩ := Option.ne_none_iff_exists'.mp c_34
        have hy49 := hbe y hy
        have hary := arN_le B y
        have hgn : gnE B k x t j = (if hasT B (some y) then Bn B k (ed j t) else 0) + (if decide (arN B y = 5) && ((atO B x).isNone && inN B y) then 10 else 0) := by unfold gnE; rw [hy]
        refine ww_lv (lv' := [(7, .int (nI y)), (6, .int (nI j)), (5, .int (nI (sumN (gnE B k x t) j))), (0, .ref m), (1, .ref s), (2, .int (nI k)), (3, .int (nI x)), (4, .int (nI t))]) (by rw [hy]; rfl) ?_
        refine ww_iload C dX4_gain_40 2 rfl ?_
        refine ww_aload_n C dX4_gain_42 rfl 4 rfl rfl ?_
        refine gf_X4_280_X6 C dX4_gain_43 Hs rfl ?_
        refine ww_iload C dX4_gain_46 0 rfl ?_
        refine ww_iald C dX4_gain_48 Ha (by omega) (by decide) ?_
        refine ww_iconst C dX4_gain_49 cI_m1 ?_
        refine ww_icmp_ne_o (tgt := 57) C dX4_gain_50 (by decide) (hC.a y) (fun c_50 => ?_) (fun c_50 => ?_)
        · skip
          have hh : hasT B (some y) = true := by rw [← atO_is]; exact Option.isSome_iff_ne_none.mpr c_50
          refine ww_aload_n C dX4_gain_57 rfl 3 rfl rfl ?_
          refine ww_iload_n C dX4_gain_58 rfl 5 rfl ?_
          refine ww_iload C dX4_gain_59 7 rfl ?_
          refine ww_iload C dX4_gain_61 1 rfl ?_
          refine cv_X4_286_r (As := [.int (nI k), .int (nI t), .int (nI j)]) (rest := [.int (nI (sumN (gnE B k x t) j))]) C dX4_gain_63 (ct_X4_numberOf (Cx.fl C) (Cx.ok C) hz hR hC hk ht hi) (rc_X4 (Cx.ok C) Hm) rfl rfl (Nat.le_of_ble_eq_true rfl) (by decide) (Nat.zero_le _) (Nat.zero_le _) ?_
          refine ww_iaddn C dX4_gain_66 ?_
          refine ww_istore (lv' := [(5, .int (nI ((sumN (gnE B k x t) j) + (Bn B k (ed j t))))), (7, .int (nI y)), (6, .int (nI j)), (0, .ref m), (1, .ref s), (2, .int (nI k)), (3, .int (nI x)), (4, .int (nI t))]) C dX4_gain_67 (by decide) rfl ?_
          have hsum : sumN (gnE B k x t) j + Bn B k (ed j t) = sumN (gnE B k x t) j + (if hasT B (some y) then Bn B k (ed j t) else 0) := by rw [hh]; rfl
          refine ww_iload C dX4_gain_69 0 rfl ?_
          refine ww_aload_n C dX4_gain_71 rfl 3 rfl rfl ?_
          refine ww_aload_n C dX4_gain_72 rfl 4 rfl rfl ?_
          refine ww_iload C dX4_gain_73 1 rfl ?_
          refine cv_X4_299_r (As := [.ref s, .int (nI y)]) (rest := [.int (nI ((sumN (gnE B k x t) j) + (Bn B k (ed j t))))]) C dX4_gain_75 (ct_X4_tilesBeside (Cx.fl C) (Cx.ok C) hz hR hC hy49) (rc_X4 (Cx.ok C) Hm) rfl rfl (Nat.le_of_ble_eq_true rfl) (by decide) (Nat.zero_le _) (Nat.zero_le _) ?_
          refine ww_iconst C dX4_gain_78 cI_5 ?_
          refine ww_icmp_ne_n (tgt := 106) C dX4_gain_79 (by decide) (by omega) (by decide) (fun c_79 => ?_) (fun c_79 => ?_)
          · skip
            refine ww_iconst C dX4_gain_106 cI_0 ?_
            refine ww_iaddn C dX4_gain_107 ?_
            refine ww_istore (lv' := [(5, .int (nI (((sumN (gnE B k x t) j) + (Bn B k (ed j t))) + 0))), (7, .int (nI y)), (6, .int (nI j)), (0, .ref m), (1, .ref s), (2, .int (nI k)), (3, .int (nI x)), (4, .int (nI t))]) C dX4_gain_108 (by decide) rfl ?_
            refine ww_iinc (lv' := [(6, .int (nI (j + 1))), (5, .int (nI (((sumN (gnE B k x t) j) + (Bn B k (ed j t))) + 0))), (7, .int (nI y)), (0, .ref m), (1, .ref s), (2, .int (nI k)), (3, .int (nI x)), (4, .int (nI t))]) C dX4_gain_110 2 rfl (inc_n _) (by decide) rfl ?_
            refine ww_goto (tgt := 15) C dX4_gain_113 (by decide) ?_
            refine ww_sub [0, 1, 3, 4, 5, 6, 7] rfl ?_
            exact ww_lv (lv' := [(6, .int (nI (j + 1))), (5, .int (nI (sumN (gnE B k x t) j + gnE B k x t j))), (0, .ref m), (1, .ref s), (2, .int (nI k)), (3, .int (nI x)), (4, .int (nI t))]) (by rw [hgn, decide_eq_false c_79, ← Nat.add_assoc, ← hsum]; try rfl) ih
          · skip
            refine ww_aload_n C dX4_gain_82 rfl 4 rfl rfl ?_
            refine gf_X4_280_X6 C dX4_gain_83 Hs rfl ?_
            refine ww_iload_n C dX4_gain_86 rfl 6 rfl ?_
            refine ww_iald C dX4_gain_87 Ha (by omega) (by decide) ?_
            refine ww_iconst C dX4_gain_88 cI_m1 ?_
            refine ww_icmp_ne_o (tgt := 106) C dX4_gain_89 (by decide) (hC.a x) (fun c_89 => ?_) (fun c_89 => ?_)
            · skip
              have hn : (atO B x).isNone = false := by rw [← Option.not_isSome, Option.isSome_iff_ne_none.mpr c_89]; rfl
              refine ww_iconst C dX4_gain_106 cI_0 ?_
              refine ww_iaddn C dX4_gain_107 ?_
              refine ww_istore (lv' := [(5, .int (nI (((sumN (gnE B k x t) j) + (Bn B k (ed j t))) + 0))), (7, .int (nI y)), (6, .int (nI j)), (0, .ref m), (1, .ref s), (2, .int (nI k)), (3, .int (nI x)), (4, .int (nI t))]) C dX4_gain_108 (by decide) rfl ?_
              refine ww_iinc (lv' := [(6, .int (nI (j + 1))), (5, .int (nI (((sumN (gnE B k x t) j) + (Bn B k (ed j t))) + 0))), (7, .int (nI y)), (0, .ref m), (1, .ref s), (2, .int (nI k)), (3, .int (nI x)), (4, .int (nI t))]) C dX4_gain_110 2 rfl (inc_n _) (by decide) rfl ?_
              refine ww_goto (tgt := 15) C dX4_gain_113 (by decide) ?_
              refine ww_sub [0, 1, 3, 4, 5, 6, 7] rfl ?_
              exact ww_lv (lv' := [(6, .int (nI (j + 1))), (5, .int (nI (sumN (gnE B k x t) j + gnE B k x t j))), (0, .ref m), (1, .ref s), (2, .int (nI k)), (3, .int (nI x)), (4, .int (nI t))]) (by rw [hgn, hn, Bool.false_and, Bool.and_false, ← Nat.add_assoc, ← hsum]; try rfl) ih
            · skip
              have hn : (atO B x).isNone = true := by rw [c_89]; rfl
              refine ww_aload_n C dX4_gain_92 rfl 3 rfl rfl ?_
              refine ww_iload C dX4_gain_93 1 rfl ?_
              refine cv_X4_328_r (As := [.int (nI y)]) (rest := [.int (nI ((sumN (gnE B k x t) j) + (Bn B k (ed j t))))]) C dX4_gain_95 (ct_X4_isInside (Cx.fl C) (Cx.ok C) hz hR hC hy49) (rc_X4 (Cx.ok C) Hm) rfl rfl (Nat.le_of_ble_eq_true rfl) (by decide) (Nat.zero_le _) (Nat.zero_le _) ?_
              refine ww_if_eq_b (tgt := 106) C dX4_gain_98 (by decide) (fun c_98 => ?_) (fun c_98 => ?_)
              · skip
                refine ww_iconst C dX4_gain_106 cI_0 ?_
                refine ww_iaddn C dX4_gain_107 ?_
                refine ww_istore (lv' := [(5, .int (nI (((sumN (gnE B k x t) j) + (Bn B k (ed j t))) + 0))), (7, .int (nI y)), (6, .int (nI j)), (0, .ref m), (1, .ref s), (2, .int (nI k)), (3, .int (nI x)), (4, .int (nI t))]) C dX4_gain_108 (by decide) rfl ?_
                refine ww_iinc (lv' := [(6, .int (nI (j + 1))), (5, .int (nI (((sumN (gnE B k x t) j) + (Bn B k (ed j t))) + 0))), (7, .int (nI y)), (0, .ref m), (1, .ref s), (2, .int (nI k)), (3, .int (nI x)), (4, .int (nI t))]) C dX4_gain_110 2 rfl (inc_n _) (by decide) rfl ?_
                refine ww_goto (tgt := 15) C dX4_gain_113 (by decide) ?_
                refine ww_sub [0, 1, 3, 4, 5, 6, 7] rfl ?_
                exact ww_lv (lv' := [(6, .int (nI (j + 1))), (5, .int (nI (sumN (gnE B k x t) j + gnE B k x t j))), (0, .ref m), (1, .ref s), (2, .int (nI k)), (3, .int (nI x)), (4, .int (nI t))]) (by rw [hgn, c_98, Bool.and_false, Bool.and_false, ← Nat.add_assoc, ← hsum]; try rfl) ih
              · skip
                refine ww_bipush C dX4_gain_101 cB_10 ?_
                refine ww_goto (tgt := 107) C dX4_gain_103 (by decide) ?_
                refine ww_iaddn C dX4_gain_107 ?_
                refine ww_istore (lv' := [(5, .int (nI (((sumN (gnE B k x t) j) + (Bn B k (ed j t))) + 10))), (7, .int (nI y)), (6, .int (nI j)), (0, .ref m), (1, .ref s), (2, .int (nI k)), (3, .int (nI x)), (4, .int (nI t))]) C dX4_gain_108 (by decide) rfl ?_
                refine ww_iinc (lv' := [(6, .int (nI (j + 1))), (5, .int (nI (((sumN (gnE B k x t) j) + (Bn B k (ed j t))) + 10))), (7, .int (nI y)), (0, .ref m), (1, .ref s), (2, .int (nI k)), (3, .int (nI x)), (4, .int (nI t))]) C dX4_gain_110 2 rfl (inc_n _) (by decide) rfl ?_
                refine ww_goto (tgt := 15) C dX4_gain_113 (by decide) ?_
                refine ww_sub [0, 1, 3, 4, 5, 6, 7] rfl ?_
                exact ww_lv (lv' := [(6, .int (nI (j + 1))), (5, .int (nI (sumN (gnE B k x t) j + gnE B k x t j))), (0, .ref m), (1, .ref s), (2, .int (nI k)), (3, .int (nI x)), (4, .int (nI t))]) (by rw [hgn, decide_eq_true c_79, hn, c_98, ← Nat.add_assoc, ← hsum]; try rfl) ih
        · skip
          have hh : hasT B (some y) = false := by rw [← atO_is, c_50]; rfl
          refine ww_iconst C dX4_gain_53 cI_0 ?_
          refine ww_goto (tgt := 66) C dX4_gain_54 (by decide) ?_
          refine ww_iaddn C dX4_gain_66 ?_
          refine ww_istore (lv' := [(5, .int (nI ((sumN (gnE B k x t) j) + 0))), (7, .int (nI y)), (6, .int (nI j)), (0, .ref m), (1, .ref s), (2, .int (nI k)), (3, .int (nI x)), (4, .int (nI t))]) C dX4_gain_67 (by decide) rfl ?_
          have hsum : sumN (gnE B k x t) j + 0 = sumN (gnE B k x t) j + (if hasT B (some y) then Bn B k (ed j t) else 0) := by rw [hh]; rfl
          refine ww_iload C dX4_gain_69 0 rfl ?_
          refine ww_aload_n C dX4_gain_71 rfl 3 rfl rfl ?_
          refine ww_aload_n C dX4_gain_72 rfl 4 rfl rfl ?_
          refine ww_iload C dX4_gain_73 1 rfl ?_
          refine cv_X4_299_r (As := [.ref s, .int (nI y)]) (rest := [.int (nI ((sumN (gnE B k x t) j) + 0))]) C dX4_gain_75 (ct_X4_tilesBeside (Cx.fl C) (Cx.ok C) hz hR hC hy49) (rc_X4 (Cx.ok C) Hm) rfl rfl (Nat.le_of_ble_eq_true rfl) (by decide) (Nat.zero_le _) (Nat.zero_le _) ?_
          refine ww_iconst C dX4_gain_78 cI_5 ?_
          refine ww_icmp_ne_n (tgt := 106) C dX4_gain_79 (by decide) (by omega) (by decide) (fun c_79 => ?_) (fun c_79 => ?_)
          · skip
            refine ww_iconst C dX4_gain_106 cI_0 ?_
            refine ww_iaddn C dX4_gain_107 ?_
            refine ww_istore (lv' := [(5, .int (nI (((sumN (gnE B k x t) j) + 0) + 0))), (7, .int (nI y)), (6, .int (nI j)), (0, .ref m), (1, .ref s), (2, .int (nI k)), (3, .int (nI x)), (4, .int (nI t))]) C dX4_gain_108 (by decide) rfl ?_
            refine ww_iinc (lv' := [(6, .int (nI (j + 1))), (5, .int (nI (((sumN (gnE B k x t) j) + 0) + 0))), (7, .int (nI y)), (0, .ref m), (1, .ref s), (2, .int (nI k)), (3, .int (nI x)), (4, .int (nI t))]) C dX4_gain_110 2 rfl (inc_n _) (by decide) rfl ?_
            refine ww_goto (tgt := 15) C dX4_gain_113 (by decide) ?_
            refine ww_sub [0, 1, 3, 4, 5, 6, 7] rfl ?_
            exact ww_lv (lv' := [(6, .int (nI (j + 1))), (5, .int (nI (sumN (gnE B k x t) j + gnE B k x t j))), (0, .ref m), (1, .ref s), (2, .int (nI k)), (3, .int (nI x)), (4, .int (nI t))]) (by rw [hgn, decide_eq_false c_79, ← Nat.add_assoc, ← hsum]; try rfl) ih
          · skip
            refine ww_aload_n C dX4_gain_82 rfl 4 rfl rfl ?_
            refine gf_X4_280_X6 C dX4_gain_83 Hs rfl ?_
            refine ww_iload_n C dX4_gain_86 rfl 6 rfl ?_
            refine ww_iald C dX4_gain_87 Ha (by omega) (by decide) ?_
            refine ww_iconst C dX4_gain_88 cI_m1 ?_
            refine ww_icmp_ne_o (tgt := 106) C dX4_gain_89 (by decide) (hC.a x) (fun c_89 => ?_) (fun c_89 => ?_)
            · skip
              have hn : (atO B x).isNone = false := by rw [← Option.not_isSome, Option.isSome_iff_ne_none.mpr c_89]; rfl
              refine ww_iconst C dX4_gain_106 cI_0 ?_
              refine ww_iaddn C dX4_gain_107 ?_
              refine ww_istore (lv' := [(5, .int (nI (((sumN (gnE B k x t) j) + 0) + 0))), (7, .int (nI y)), (6, .int (nI j)), (0, .ref m), (1, .ref s), (2, .int (nI k)), (3, .int (nI x)), (4, .int (nI t))]) C dX4_gain_108 (by decide) rfl ?_
              refine ww_iinc (lv' := [(6, .int (nI (j + 1))), (5, .int (nI (((sumN (gnE B k x t) j) + 0) + 0))), (7, .int (nI y)), (0, .ref m), (1, .ref s), (2, .int (nI k)), (3, .int (nI x)), (4, .int (nI t))]) C dX4_gain_110 2 rfl (inc_n _) (by decide) rfl ?_
              refine ww_goto (tgt := 15) C dX4_gain_113 (by decide) ?_
              refine ww_sub [0, 1, 3, 4, 5, 6, 7] rfl ?_
              exact ww_lv (lv' := [(6, .int (nI (j + 1))), (5, .int (nI (sumN (gnE B k x t) j + gnE B k x t j))), (0, .ref m), (1, .ref s), (2, .int (nI k)), (3, .int (nI x)), (4, .int (nI t))]) (by rw [hgn, hn, Bool.false_and, Bool.and_false, ← Nat.add_assoc, ← hsum]; try rfl) ih
            · skip
              have hn : (atO B x).isNone = true := by rw [c_89]; rfl
              refine ww_aload_n C dX4_gain_92 rfl 3 rfl rfl ?_
              refine ww_iload C dX4_gain_93 1 rfl ?_
              refine cv_X4_328_r (As := [.int (nI y)]) (rest := [.int (nI ((sumN (gnE B k x t) j) + 0))]) C dX4_gain_95 (ct_X4_isInside (Cx.fl C) (Cx.ok C) hz hR hC hy49) (rc_X4 (Cx.ok C) Hm) rfl rfl (Nat.le_of_ble_eq_true rfl) (by decide) (Nat.zero_le _) (Nat.zero_le _) ?_
              refine ww_if_eq_b (tgt := 106) C dX4_gain_98 (by decide) (fun c_98 => ?_) (fun c_98 => ?_)
              · skip
                refine ww_iconst C dX4_gain_106 cI_0 ?_
                refine ww_iaddn C dX4_gain_107 ?_
                refine ww_istore (lv' := [(5, .int (nI (((sumN (gnE B k x t) j) + 0) + 0))), (7, .int (nI y)), (6, .int (nI j)), (0, .ref m), (1, .ref s), (2, .int (nI k)), (3, .int (nI x)), (4, .int (nI t))]) C dX4_gain_108 (by decide) rfl ?_
                refine ww_iinc (lv' := [(6, .int (nI (j + 1))), (5, .int (nI (((sumN (gnE B k x t) j) + 0) + 0))), (7, .int (nI y)), (0, .ref m), (1, .ref s), (2, .int (nI k)), (3, .int (nI x)), (4, .int (nI t))]) C dX4_gain_110 2 rfl (inc_n _) (by decide) rfl ?_
                refine ww_goto (tgt := 15) C dX4_gain_113 (by decide) ?_
                refine ww_sub [0, 1, 3, 4, 5, 6, 7] rfl ?_
                exact ww_lv (lv' := [(6, .int (nI (j + 1))), (5, .int (nI (sumN (gnE B k x t) j + gnE B k x t j))), (0, .ref m), (1, .ref s), (2, .int (nI k)), (3, .int (nI x)), (4, .int (nI t))]) (by rw [hgn, c_98, Bool.and_false, Bool.and_false, ← Nat.add_assoc, ← hsum]; try rfl) ih
              · skip
                refine ww_bipush C dX4_gain_101 cB_10 ?_
                refine ww_goto (tgt := 107) C dX4_gain_103 (by decide) ?_
                refine ww_iaddn C dX4_gain_107 ?_
                refine ww_istore (lv' := [(5, .int (nI (((sumN (gnE B k x t) j) + 0) + 10))), (7, .int (nI y)), (6, .int (nI j)), (0, .ref m), (1, .ref s), (2, .int (nI k)), (3, .int (nI x)), (4, .int (nI t))]) C dX4_gain_108 (by decide) rfl ?_
                refine ww_iinc (lv' := [(6, .int (nI (j + 1))), (5, .int (nI (((sumN (gnE B k x t) j) + 0) + 10))), (7, .int (nI y)), (0, .ref m), (1, .ref s), (2, .int (nI k)), (3, .int (nI x)), (4, .int (nI t))]) C dX4_gain_110 2 rfl (inc_n _) (by decide) rfl ?_
                refine ww_goto (tgt := 15) C dX4_gain_113 (by decide) ?_
                refine ww_sub [0, 1, 3, 4, 5, 6, 7] rfl ?_
                exact ww_lv (lv' := [(6, .int (nI (j + 1))), (5, .int (nI (sumN (gnE B k x t) j + gnE B k x t j))), (0, .ref m), (1, .ref s), (2, .int (nI k)), (3, .int (nI x)), (4, .int (nI t))]) (by rw [hgn, decide_eq_true c_79, hn, c_98, ← Nat.add_assoc, ← hsum]; try rfl) ih
      · skip
        have hgn : gnE B k x t j = 0 := by unfold gnE; rw [c_34]
        refine ww_goto (tgt := 110) C dX4_gain_37 (by decide) ?_
        refine ww_iinc (lv' := [(6, .int (nI (j + 1))), (7, .int (oI (bes (Bc B) (Br B) x j))), (5, .int (nI (sumN (gnE B k x t) j))), (0, .ref m), (1, .ref s), (2, .int (nI k)), (3, .int (nI x)), (4, .int (nI t))]) C dX4_gain_110 1 rfl (inc_n _) (by decide) rfl ?_
        refine ww_goto (tgt := 15) C dX4_gain_113 (by decide) ?_
        refine ww_sub [0, 2, 3, 4, 5, 6, 7] rfl ?_
        exact ww_lv (lv' := [(6, .int (nI (j + 1))), (5, .int (nI (sumN (gnE B k x t) j + gnE B k x t j))), (0, .ref m), (1, .ref s), (2, .int (nI k)), (3, .int (nI x)), (4, .int (nI t))]) (by rw [hgn]; try rfl) ih
  · skip
    refine ww_iconst C dX4_gain_7 cI_0 ?_
    exact ww_iret C dX4_gain_8 (RdP.i (by unfold gnN; rw [if_pos c_4]; try rfl))
end MO1
