section MO3
set_option maxRecDepth 100000
set_option maxHeartbeats 2000000 in
theorem ct_X4_no {l : Launch} {Γ : Gm} (hl : l.flags = flags0) (hΓ : GOK Γ) {z : ZR} {h : AH} {a : Nat} {I : Nat → Int32} {D : Nat → Nat} {x : Int32} (X0 : h a = some (cMd I D)) : Ct l Γ yX4_no cX4_no 2 (some .int) 1 0 0 [.ref a, .int x] z h (Rv (fun v z' h' => v = .int (nI 0) ∧ z' = z ∧ h' = up h a (cMd (upd I 0 x) D))) := by
  refine Ct.of hl hΓ (by decide +kernel) (Nat.le_of_ble_eq_true rfl) (fun X e1 e2 C => ?_)
  subst e1; subst e2
  have C : Cx X cX4_no 2 "RingDominoModel" "no" (some .int) [] 1 := C
  show WW X (Rv (fun v z' h' => v = .int (nI 0) ∧ z' = z ∧ h' = up h a (cMd (upd I 0 x) D))) z h 0 0 0 [(0, .ref a), (1, .int x)] []
  refine ww_aload_n C dX4_no_0 rfl 0 rfl rfl ?_
  refine ww_iload_n C dX4_no_1 rfl 1 rfl ?_
  refine pf_X4_65_X4 (fs' := [.int x, .ref (D 1), .int (I 1), .int (I 2), .ref (D 2), .ref (D 3), .ref (D 4), .ref (D 5), .int (I 3), .int (I 4), .int (I 5), .int (I 6), .int (I 7), .ref (D 6), .ref (D 7), .ref (D 8), .ref (D 9), .ref (D 10), .ref (D 11), .ref (D 12), .ref (D 13), .int (I 8), .int (I 9), .int (I 10)]) C dX4_no_2 X0 rfl rfl (Nat.le_of_ble_eq_true rfl) rfl ?_
  refine ww_gen (fun h1 hE1 => ?_)
  have X0_h1 : h1 a = some (.inr (3, [.int x, .ref (D 1), .int (I 1), .int (I 2), .ref (D 2), .ref (D 3), .ref (D 4), .ref (D 5), .int (I 3), .int (I 4), .int (I 5), .int (I 6), .int (I 7), .ref (D 6), .ref (D 7), .ref (D 8), .ref (D 9), .ref (D 10), .ref (D 11), .ref (D 12), .ref (D 13), .int (I 8), .int (I 9), .int (I 10)])) := by rw [hE1]; exact up_s
  refine ww_iconst C dX4_no_5 cI_0 ?_
  exact ww_iret C dX4_no_6 ⟨rfl, rfl, hE1⟩
set_option maxHeartbeats 2000000 in
theorem ct_X4_isNot {l : Launch} {Γ : Gm} (hl : l.flags = flags0) (hΓ : GOK Γ) {z : ZR} {h : AH} {a : Nat} {I : Nat → Int32} {D : Nat → Nat} {x : Int32} (X0 : h a = some (cMd I D)) : Ct l Γ yX4_isNot cX4_isNot 2 (some .boolean) 1 0 0 [.ref a, .int x] z h (Rv (fun v z' h' => v = .int (nI 0) ∧ z' = z ∧ h' = up h a (cMd (upd I 0 x) D))) := by
  refine Ct.of hl hΓ (by decide +kernel) (Nat.le_of_ble_eq_true rfl) (fun X e1 e2 C => ?_)
  subst e1; subst e2
  have C : Cx X cX4_isNot 2 "RingDominoModel" "isNot" (some .boolean) [] 1 := C
  show WW X (Rv (fun v z' h' => v = .int (nI 0) ∧ z' = z ∧ h' = up h a (cMd (upd I 0 x) D))) z h 0 0 0 [(0, .ref a), (1, .int x)] []
  refine ww_aload_n C dX4_isNot_0 rfl 0 rfl rfl ?_
  refine ww_iload_n C dX4_isNot_1 rfl 1 rfl ?_
  refine pf_X4_65_X4 (fs' := [.int x, .ref (D 1), .int (I 1), .int (I 2), .ref (D 2), .ref (D 3), .ref (D 4), .ref (D 5), .int (I 3), .int (I 4), .int (I 5), .int (I 6), .int (I 7), .ref (D 6), .ref (D 7), .ref (D 8), .ref (D 9), .ref (D 10), .ref (D 11), .ref (D 12), .ref (D 13), .int (I 8), .int (I 9), .int (I 10)]) C dX4_isNot_2 X0 rfl rfl (Nat.le_of_ble_eq_true rfl) rfl ?_
  refine ww_gen (fun h1 hE1 => ?_)
  have X0_h1 : h1 a = some (.inr (3, [.int x, .ref (D 1), .int (I 1), .int (I 2), .ref (D 2), .ref (D 3), .ref (D 4), .ref (D 5), .int (I 3), .int (I 4), .int (I 5), .int (I 6), .int (I 7), .ref (D 6), .ref (D 7), .ref (D 8), .ref (D 9), .ref (D 10), .ref (D 11), .ref (D 12), .ref (D 13), .int (I 8), .int (I 9), .int (I 10)])) := by rw [hE1]; exact up_s
  refine ww_iconst C dX4_isNot_5 cI_0 ?_
  exact ww_zret C dX4_isNot_6 nar_z0 ⟨rfl, rfl, hE1⟩
set_option maxHeartbeats 2000000 in
theorem ct_X4_ok {l : Launch} {Γ : Gm} (hl : l.flags = flags0) (hΓ : GOK Γ) {z : ZR} {h : AH} {a : Nat} {I : Nat → Int32} {D : Nat → Nat} {x : Int32} (X0 : h a = some (cMd I D)) : Ct l Γ yX4_ok cX4_ok 2 (some .int) 1 0 0 [.ref a, .int x] z h (Rv (fun v z' h' => v = .int x ∧ z' = z ∧ h' = up h a (cMd (upd I 0 (nI 0)) D))) := by
  refine Ct.of hl hΓ (by decide +kernel) (Nat.le_of_ble_eq_true rfl) (fun X e1 e2 C => ?_)
  subst e1; subst e2
  have C : Cx X cX4_ok 2 "RingDominoModel" "ok" (some .int) [] 1 := C
  show WW X (Rv (fun v z' h' => v = .int x ∧ z' = z ∧ h' = up h a (cMd (upd I 0 (nI 0)) D))) z h 0 0 0 [(0, .ref a), (1, .int x)] []
  refine ww_aload_n C dX4_ok_0 rfl 0 rfl rfl ?_
  refine ww_iconst C dX4_ok_1 cI_0 ?_
  refine pf_X4_65_X4 (fs' := [.int (nI 0), .ref (D 1), .int (I 1), .int (I 2), .ref (D 2), .ref (D 3), .ref (D 4), .ref (D 5), .int (I 3), .int (I 4), .int (I 5), .int (I 6), .int (I 7), .ref (D 6), .ref (D 7), .ref (D 8), .ref (D 9), .ref (D 10), .ref (D 11), .ref (D 12), .ref (D 13), .int (I 8), .int (I 9), .int (I 10)]) C dX4_ok_2 X0 rfl rfl (Nat.le_of_ble_eq_true rfl) rfl ?_
  refine ww_gen (fun h1 hE1 => ?_)
  have X0_h1 : h1 a = some (.inr (3, [.int (nI 0), .ref (D 1), .int (I 1), .int (I 2), .ref (D 2), .ref (D 3), .ref (D 4), .ref (D 5), .int (I 3), .int (I 4), .int (I 5), .int (I 6), .int (I 7), .ref (D 6), .ref (D 7), .ref (D 8), .ref (D 9), .ref (D 10), .ref (D 11), .ref (D 12), .ref (D 13), .int (I 8), .int (I 9), .int (I 10)])) := by rw [hE1]; exact up_s
  refine ww_iload_n C dX4_ok_5 rfl 1 rfl ?_
  exact ww_iret C dX4_ok_6 ⟨rfl, rfl, hE1⟩
set_option maxHeartbeats 2000000 in
theorem ct_X4_thrown {l : Launch} {Γ : Gm} (hl : l.flags = flags0) (hΓ : GOK Γ) {z : ZR} {h : AH} {a : Nat} {I : Nat → Int32} {D : Nat → Nat} (X0 : h a = some (cMd I D)) : Ct l Γ yX4_thrown cX4_thrown 1 (some .int) 1 0 0 [.ref a] z h (RdP z h (some (.int (I 0)))) := by
  refine Ct.of hl hΓ (by decide +kernel) (Nat.le_of_ble_eq_true rfl) (fun X e1 e2 C => ?_)
  subst e1; subst e2
  have C : Cx X cX4_thrown 1 "RingDominoModel" "thrown" (some .int) [] 1 := C
  show WW X (RdP z h (some (.int (I 0)))) z h 0 0 0 [(0, .ref a)] []
  refine ww_aload_n C dX4_thrown_0 rfl 0 rfl rfl ?_
  refine gf_X4_65_X4 C dX4_thrown_1 (Or.inl X0) rfl ?_
  exact ww_iret C dX4_thrown_4 (RdP.i (by rfl))
set_option maxHeartbeats 2000000 in
theorem ct_X4_isCell {l : Launch} {Γ : Gm} (hl : l.flags = flags0) (hΓ : GOK Γ) {z : ZR} {h : AH} {m s : Nat} {B : GB} {x : Int32} (hz : zle (cst Γ) z) (hR : MrP Γ z h m s B) (hC : BC B) : Ct l Γ yX4_isCell cX4_isCell 2 (some .boolean) 2 0 0 [.ref m, .int x] z h (RdP z h (some (.int (bI (ixB x (Bz B)))))) := by
  refine Ct.of hl hΓ (by decide +kernel) (Nat.le_of_ble_eq_true rfl) (fun X e1 e2 C => ?_)
  subst e1; subst e2
  have C : Cx X cX4_isCell 2 "RingDominoModel" "isCell" (some .boolean) [] 2 := C
  obtain ⟨I, D, Hm, o, nn, rn, nu, tu, S, Ht, -⟩ := id hR
  have hB := hC.1
  have t1 : Bt B ≤ 16 := hB.2.1
  have hcc : (3 ≤ Bc B ∧ Bc B ≤ 7) ∧ (3 ≤ Br B ∧ Br B ≤ 7) := hB.1
  have hzz := BO.z hB
  have hz0 : 0 < Bz B := Nat.mul_pos (by omega) (by omega)
  show WW X (RdP z h (some (.int (bI (ixB x (Bz B)))))) z h 0 0 0 [(0, .ref m), (1, .int x)] []
  refine ww_iload_n C dX4_isCell_0 rfl 1 rfl ?_
  refine ww_iconst C dX4_isCell_1 cI_0 ?_
  refine ww_aload_n C dX4_isCell_2 rfl 0 rfl rfl ?_
  refine cv_X4_307_r (As := []) (rest := [.int (nI 0), .int x]) C dX4_isCell_3 (ct_X4_cells (Cx.fl C) (Cx.ok C) hz hR hC) (rc_X4 (Cx.ok C) Hm) rfl rfl (Nat.le_of_ble_eq_true rfl) (by decide) (Nat.zero_le _) (Nat.zero_le _) ?_
  refine ww_iconst C dX4_isCell_6 cI_1 ?_
  refine ww_isubn C dX4_isCell_7 (by omega) ?_
  refine cs_X4_68_r (As := [.int x, .int (nI 0), .int (nI ((Bz B) - 1))]) (rest := []) C dX4_isCell_8 (ct_X4_isIn (Cx.fl C) (Cx.ok C)) rfl rfl (Nat.le_of_ble_eq_true rfl) (by decide) (Nat.zero_le _) (Nat.zero_le _) ?_
  exact ww_zret C dX4_isCell_11 (nar_bI _) (RdP.i (by rw [ixB_in1 (by omega) hz0]))
set_option maxHeartbeats 2000000 in
theorem ct_X4_isTile {l : Launch} {Γ : Gm} (hl : l.flags = flags0) (hΓ : GOK Γ) {z : ZR} {h : AH} {m s : Nat} {B : GB} {x : Int32} (hz : zle (cst Γ) z) (hR : MrP Γ z h m s B) (hC : BC B) : Ct l Γ yX4_isTile cX4_isTile 2 (some .boolean) 2 0 0 [.ref m, .int x] z h (RdP z h (some (.int (bI (ixB x (Bt B)))))) := by
  refine Ct.of hl hΓ (by decide +kernel) (Nat.le_of_ble_eq_true rfl) (fun X e1 e2 C => ?_)
  subst e1; subst e2
  have C : Cx X cX4_isTile 2 "RingDominoModel" "isTile" (some .boolean) [] 2 := C
  obtain ⟨I, D, Hm, o, nn, rn, nu, tu, S, Ht, -⟩ := id hR
  have hB := hC.1
  have t1 : Bt B ≤ 16 := hB.2.1
  have hcc : (3 ≤ Bc B ∧ Bc B ≤ 7) ∧ (3 ≤ Br B ∧ Br B ≤ 7) := hB.1
  have hzz := BO.z hB
  have hz0 : 0 < Bz B := Nat.mul_pos (by omega) (by omega)
  show WW X (RdP z h (some (.int (bI (ixB x (Bt B)))))) z h 0 0 0 [(0, .ref m), (1, .int x)] []
  refine ww_iload_n C dX4_isTile_0 rfl 1 rfl ?_
  refine ww_iconst C dX4_isTile_1 cI_0 ?_
  refine ww_aload_n C dX4_isTile_2 rfl 0 rfl rfl ?_
  refine gf_X4_35_X4 C dX4_isTile_3 Hm rfl ?_
  refine gf_X4_150_X5 C dX4_isTile_6 Ht rfl ?_
  refine ww_iconst C dX4_isTile_9 cI_1 ?_
  refine ww_isub C dX4_isTile_10 ?_
  refine cs_X4_68_r (As := [.int x, .int (nI 0), .int ((nI (Bt B)) - (nI 1))]) (rest := []) C dX4_isTile_11 (ct_X4_isIn (Cx.fl C) (Cx.ok C)) rfl rfl (Nat.le_of_ble_eq_true rfl) (by decide) (Nat.zero_le _) (Nat.zero_le _) ?_
  exact ww_zret C dX4_isTile_14 (nar_bI _) (RdP.i (by rw [ixB_in (by omega)]))
set_option maxHeartbeats 2000000 in
theorem ct_X4_isEdge {l : Launch} {Γ : Gm} (hl : l.flags = flags0) (hΓ : GOK Γ) {z : ZR} {h : AH} {x : Int32}  : Ct l Γ yX4_isEdge cX4_isEdge 1 (some .boolean) 2 0 0 [.int x] z h (RdP z h (some (.int (bI (ixB x 6))))) := by
  refine Ct.of hl hΓ (by decide +kernel) (Nat.le_of_ble_eq_true rfl) (fun X e1 e2 C => ?_)
  subst e1; subst e2
  have C : Cx X cX4_isEdge 1 "RingDominoModel" "isEdge" (some .boolean) [] 2 := C
  show WW X (RdP z h (some (.int (bI (ixB x 6))))) z h 0 0 0 [(0, .int x)] []
  refine ww_iload_n C dX4_isEdge_0 rfl 0 rfl ?_
  refine ww_iconst C dX4_isEdge_1 cI_0 ?_
  refine ww_iconst C dX4_isEdge_2 cI_5 ?_
  refine cs_X4_68_r (As := [.int x, .int (nI 0), .int (nI 5)]) (rest := []) C dX4_isEdge_3 (ct_X4_isIn (Cx.fl C) (Cx.ok C)) rfl rfl (Nat.le_of_ble_eq_true rfl) (by decide) (Nat.zero_le _) (Nat.zero_le _) ?_
  exact ww_zret C dX4_isEdge_6 (nar_bI _) (RdP.i (by rw [← ixB_in1 (n := 6) (by decide) (by decide)]))
set_option maxHeartbeats 2000000 in
theorem ct_X4_errorAt {l : Launch} {Γ : Gm} (hl : l.flags = flags0) (hΓ : GOK Γ) {z : ZR} {h : AH} {B : GB} {M : MS} {D : Nat → Nat} (hz : zle (cst Γ) z) (hX : Mx Γ h D M) (hb : MBd M 30 40 B) (hC : BC B) : Ct l Γ yX4_errorAt cX4_errorAt 1 (some .int) 2 0 0 [.ref (D 0)] z h (Rv (Mq Γ z h D M (M.1 2, 0))) := by
  refine Ct.of hl hΓ (by decide +kernel) (Nat.le_of_ble_eq_true rfl) (fun X e1 e2 C => ?_)
  subst e1; subst e2
  have C : Cx X cX4_errorAt 1 "RingDominoModel" "errorAt" (some .int) [] 2 := C
  have hB := hC.1
  obtain ⟨⟨⟨c1, c2⟩, ⟨r1, r2⟩⟩, t1, bl1, bu1, bp1, bn1⟩ := id hB
  have hzz := BO.z hB
  have hz0 : 0 < Bz B := Nat.mul_pos (by omega) (by omega)
  have X0 := hX.m
  have hR := Mx.n (z := z) hX hb
  have hP : MrP (xG X) z h (D 0) (D 10) B := ⟨_, D, Or.inl X0, hR⟩
  obtain ⟨o, nn, rn, nu, tu, S, Ht, Hn, hnu, Hs, Ha, Hc, Hu, htu⟩ := id hR
  show WW X (Rv (Mq (xG X) z h D M (M.1 2, 0))) z h 0 0 0 [(0, .ref (D 0))] []
  refine ww_aload_n C dX4_errorAt_0 rfl 0 rfl rfl ?_
  refine ww_aload_n C dX4_errorAt_1 rfl 0 rfl rfl ?_
  refine gf_X4_13_X4 C dX4_errorAt_2 (Or.inl X0) rfl ?_
  refine cv_X4_268_q (As := [.int (M.1 2)]) (rest := []) C dX4_errorAt_5 (ct_X4_ok (Cx.fl C) (Cx.ok C) X0) (rc_X4 (Cx.ok C) (Or.inl X0)) rfl rfl (Nat.le_of_ble_eq_true rfl) (by decide) (Nat.zero_le _) (Nat.zero_le _) (fun v z9 h9 q => ?_)
  obtain ⟨rfl, hq1, hq2⟩ := q; replace hq1 := hq1.symm; subst hq1
  exact ww_iret C dX4_errorAt_8 (Mq.of hX rfl hq2)
set_option maxHeartbeats 2000000 in
theorem ct_X4_columns {l : Launch} {Γ : Gm} (hl : l.flags = flags0) (hΓ : GOK Γ) {z : ZR} {h : AH} {B : GB} {M : MS} {D : Nat → Nat} (hz : zle (cst Γ) z) (hX : Mx Γ h D M) (hb : MBd M 30 40 B) (hC : BC B) : Ct l Γ yX4_columns cX4_columns 1 (some .int) 2 0 0 [.ref (D 0)] z h (Rv (Mq Γ z h D M (nI (Bc B), 0))) := by
  refine Ct.of hl hΓ (by decide +kernel) (Nat.le_of_ble_eq_true rfl) (fun X e1 e2 C => ?_)
  subst e1; subst e2
  have C : Cx X cX4_columns 1 "RingDominoModel" "columns" (some .int) [] 2 := C
  have hB := hC.1
  obtain ⟨⟨⟨c1, c2⟩, ⟨r1, r2⟩⟩, t1, bl1, bu1, bp1, bn1⟩ := id hB
  have hzz := BO.z hB
  have hz0 : 0 < Bz B := Nat.mul_pos (by omega) (by omega)
  have X0 := hX.m
  have hR := Mx.n (z := z) hX hb
  have hP : MrP (xG X) z h (D 0) (D 10) B := ⟨_, D, Or.inl X0, hR⟩
  obtain ⟨o, nn, rn, nu, tu, S, Ht, Hn, hnu, Hs, Ha, Hc, Hu, htu⟩ := id hR
  show WW X (Rv (Mq (xG X) z h D M (nI (Bc B), 0))) z h 0 0 0 [(0, .ref (D 0))] []
  refine ww_aload_n C dX4_columns_0 rfl 0 rfl rfl ?_
  refine ww_aload_n C dX4_columns_1 rfl 0 rfl rfl ?_
  refine gf_X4_35_X4 C dX4_columns_2 (Or.inl X0) rfl ?_
  refine gf_X4_245_X5 C dX4_columns_5 Ht rfl ?_
  refine cv_X4_268_q (As := [.int (nI (Bc B))]) (rest := []) C dX4_columns_8 (ct_X4_ok (Cx.fl C) (Cx.ok C) X0) (rc_X4 (Cx.ok C) (Or.inl X0)) rfl rfl (Nat.le_of_ble_eq_true rfl) (by decide) (Nat.zero_le _) (Nat.zero_le _) (fun v z9 h9 q => ?_)
  obtain ⟨rfl, hq1, hq2⟩ := q; replace hq1 := hq1.symm; subst hq1
  exact ww_iret C dX4_columns_11 (Mq.of hX rfl hq2)
set_option maxHeartbeats 2000000 in
theorem ct_X4_rows {l : Launch} {Γ : Gm} (hl : l.flags = flags0) (hΓ : GOK Γ) {z : ZR} {h : AH} {B : GB} {M : MS} {D : Nat → Nat} (hz : zle (cst Γ) z) (hX : Mx Γ h D M) (hb : MBd M 30 40 B) (hC : BC B) : Ct l Γ yX4_rows cX4_rows 1 (some .int) 2 0 0 [.ref (D 0)] z h (Rv (Mq Γ z h D M (nI (Br B), 0))) := by
  refine Ct.of hl hΓ (by decide +kernel) (Nat.le_of_ble_eq_true rfl) (fun X e1 e2 C => ?_)
  subst e1; subst e2
  have C : Cx X cX4_rows 1 "RingDominoModel" "rows" (some .int) [] 2 := C
  have hB := hC.1
  obtain ⟨⟨⟨c1, c2⟩, ⟨r1, r2⟩⟩, t1, bl1, bu1, bp1, bn1⟩ := id hB
  have hzz := BO.z hB
  have hz0 : 0 < Bz B := Nat.mul_pos (by omega) (by omega)
  have X0 := hX.m
  have hR := Mx.n (z := z) hX hb
  have hP : MrP (xG X) z h (D 0) (D 10) B := ⟨_, D, Or.inl X0, hR⟩
  obtain ⟨o, nn, rn, nu, tu, S, Ht, Hn, hnu, Hs, Ha, Hc, Hu, htu⟩ := id hR
  show WW X (Rv (Mq (xG X) z h D M (nI (Br B), 0))) z h 0 0 0 [(0, .ref (D 0))] []
  refine ww_aload_n C dX4_rows_0 rfl 0 rfl rfl ?_
  refine ww_aload_n C dX4_rows_1 rfl 0 rfl rfl ?_
  refine gf_X4_35_X4 C dX4_rows_2 (Or.inl X0) rfl ?_
  refine gf_X4_248_X5 C dX4_rows_5 Ht rfl ?_
  refine cv_X4_268_q (As := [.int (nI (Br B))]) (rest := []) C dX4_rows_8 (ct_X4_ok (Cx.fl C) (Cx.ok C) X0) (rc_X4 (Cx.ok C) (Or.inl X0)) rfl rfl (Nat.le_of_ble_eq_true rfl) (by decide) (Nat.zero_le _) (Nat.zero_le _) (fun v z9 h9 q => ?_)
  obtain ⟨rfl, hq1, hq2⟩ := q; replace hq1 := hq1.symm; subst hq1
  exact ww_iret C dX4_rows_11 (Mq.of hX rfl hq2)
set_option maxHeartbeats 2000000 in
theorem ct_X4_tiles {l : Launch} {Γ : Gm} (hl : l.flags = flags0) (hΓ : GOK Γ) {z : ZR} {h : AH} {B : GB} {M : MS} {D : Nat → Nat} (hz : zle (cst Γ) z) (hX : Mx Γ h D M) (hb : MBd M 30 40 B) (hC : BC B) : Ct l Γ yX4_tiles cX4_tiles 1 (some .int) 2 0 0 [.ref (D 0)] z h (Rv (Mq Γ z h D M (nI (Bt B), 0))) := by
  refine Ct.of hl hΓ (by decide +kernel) (Nat.le_of_ble_eq_true rfl) (fun X e1 e2 C => ?_)
  subst e1; subst e2
  have C : Cx X cX4_tiles 1 "RingDominoModel" "tiles" (some .int) [] 2 := C
  have hB := hC.1
  obtain ⟨⟨⟨c1, c2⟩, ⟨r1, r2⟩⟩, t1, bl1, bu1, bp1, bn1⟩ := id hB
  have hzz := BO.z hB
  have hz0 : 0 < Bz B := Nat.mul_pos (by omega) (by omega)
  have X0 := hX.m
  have hR := Mx.n (z := z) hX hb
  have hP : MrP (xG X) z h (D 0) (D 10) B := ⟨_, D, Or.inl X0, hR⟩
  obtain ⟨o, nn, rn, nu, tu, S, Ht, Hn, hnu, Hs, Ha, Hc, Hu, htu⟩ := id hR
  show WW X (Rv (Mq (xG X) z h D M (nI (Bt B), 0))) z h 0 0 0 [(0, .ref (D 0))] []
  refine ww_aload_n C dX4_tiles_0 rfl 0 rfl rfl ?_
  refine ww_aload_n C dX4_tiles_1 rfl 0 rfl rfl ?_
  refine gf_X4_35_X4 C dX4_tiles_2 (Or.inl X0) rfl ?_
  refine gf_X4_150_X5 C dX4_tiles_5 Ht rfl ?_
  refine cv_X4_268_q (As := [.int (nI (Bt B))]) (rest := []) C dX4_tiles_8 (ct_X4_ok (Cx.fl C) (Cx.ok C) X0) (rc_X4 (Cx.ok C) (Or.inl X0)) rfl rfl (Nat.le_of_ble_eq_true rfl) (by decide) (Nat.zero_le _) (Nat.zero_le _) (fun v z9 h9 q => ?_)
  obtain ⟨rfl, hq1, hq2⟩ := q; replace hq1 := hq1.symm; subst hq1
  exact ww_iret C dX4_tiles_11 (Mq.of hX rfl hq2)
set_option maxHeartbeats 2000000 in
theorem ct_X4_placedTiles {l : Launch} {Γ : Gm} (hl : l.flags = flags0) (hΓ : GOK Γ) {z : ZR} {h : AH} {B : GB} {M : MS} {D : Nat → Nat} (hz : zle (cst Γ) z) (hX : Mx Γ h D M) (hb : MBd M 30 40 B) (hC : BC B) : Ct l Γ yX4_placedTiles cX4_placedTiles 1 (some .int) 2 0 0 [.ref (D 0)] z h (Rv (Mq Γ z h D M (nI (plN B), 0))) := by
  refine Ct.of hl hΓ (by decide +kernel) (Nat.le_of_ble_eq_true rfl) (fun X e1 e2 C => ?_)
  subst e1; subst e2
  have C : Cx X cX4_placedTiles 1 "RingDominoModel" "placedTiles" (some .int) [] 2 := C
  have hB := hC.1
  obtain ⟨⟨⟨c1, c2⟩, ⟨r1, r2⟩⟩, t1, bl1, bu1, bp1, bn1⟩ := id hB
  have hzz := BO.z hB
  have hz0 : 0 < Bz B := Nat.mul_pos (by omega) (by omega)
  have X0 := hX.m
  have hR := Mx.n (z := z) hX hb
  have hP : MrP (xG X) z h (D 0) (D 10) B := ⟨_, D, Or.inl X0, hR⟩
  obtain ⟨o, nn, rn, nu, tu, S, Ht, Hn, hnu, Hs, Ha, Hc, Hu, htu⟩ := id hR
  show WW X (Rv (Mq (xG X) z h D M (nI (plN B), 0))) z h 0 0 0 [(0, .ref (D 0))] []
  refine ww_aload_n C dX4_placedTiles_0 rfl 0 rfl rfl ?_
  refine ww_aload_n C dX4_placedTiles_1 rfl 0 rfl rfl ?_
  refine gf_X4_48_X4 C dX4_placedTiles_2 (Or.inl X0) rfl ?_
  refine gf_X4_296_X6 C dX4_placedTiles_5 Hs rfl ?_
  refine cv_X4_268_q (As := [.int (nI (plN B))]) (rest := []) C dX4_placedTiles_8 (ct_X4_ok (Cx.fl C) (Cx.ok C) X0) (rc_X4 (Cx.ok C) (Or.inl X0)) rfl rfl (Nat.le_of_ble_eq_true rfl) (by decide) (Nat.zero_le _) (Nat.zero_le _) (fun v z9 h9 q => ?_)
  obtain ⟨rfl, hq1, hq2⟩ := q; replace hq1 := hq1.symm; subst hq1
  exact ww_iret C dX4_placedTiles_11 (Mq.of hX rfl hq2)
set_option maxHeartbeats 2000000 in
theorem ct_X4_matches {l : Launch} {Γ : Gm} (hl : l.flags = flags0) (hΓ : GOK Γ) {z : ZR} {h : AH} {B : GB} {M : MS} {D : Nat → Nat} (hz : zle (cst Γ) z) (hX : Mx Γ h D M) (hb : MBd M 30 40 B) (hC : BC B) : Ct l Γ yX4_matches cX4_matches 1 (some .int) 6 0 0 [.ref (D 0)] z h (Rv (Mq Γ z h D M (nI (maN B), 0))) := by
  refine Ct.of hl hΓ (by decide +kernel) (Nat.le_of_ble_eq_true rfl) (fun X e1 e2 C => ?_)
  subst e1; subst e2
  have C : Cx X cX4_matches 1 "RingDominoModel" "matches" (some .int) [] 6 := C
  have hB := hC.1
  obtain ⟨⟨⟨c1, c2⟩, ⟨r1, r2⟩⟩, t1, bl1, bu1, bp1, bn1⟩ := id hB
  have hzz := BO.z hB
  have hz0 : 0 < Bz B := Nat.mul_pos (by omega) (by omega)
  have X0 := hX.m
  have hR := Mx.n (z := z) hX hb
  have hP : MrP (xG X) z h (D 0) (D 10) B := ⟨_, D, Or.inl X0, hR⟩
  obtain ⟨o, nn, rn, nu, tu, S, Ht, Hn, hnu, Hs, Ha, Hc, Hu, htu⟩ := id hR
  show WW X (Rv (Mq (xG X) z h D M (nI (maN B), 0))) z h 0 0 0 [(0, .ref (D 0))] []
  refine ww_aload_n C dX4_matches_0 rfl 0 rfl rfl ?_
  refine ww_aload_n C dX4_matches_1 rfl 0 rfl rfl ?_
  refine ww_aload_n C dX4_matches_2 rfl 0 rfl rfl ?_
  refine gf_X4_48_X4 C dX4_matches_3 (Or.inl X0) rfl ?_
  refine cv_X4_346_r (As := [.ref (D 10)]) (rest := [.ref (D 0)]) C dX4_matches_6 (ct_X4_matches_2 (Cx.fl C) (Cx.ok C) hz hP hC) (rc_X4 (Cx.ok C) (Or.inl X0)) rfl rfl (Nat.le_of_ble_eq_true rfl) (by decide) (Nat.zero_le _) (Nat.zero_le _) ?_
  refine cv_X4_268_q (As := [.int (nI (maN B))]) (rest := []) C dX4_matches_9 (ct_X4_ok (Cx.fl C) (Cx.ok C) X0) (rc_X4 (Cx.ok C) (Or.inl X0)) rfl rfl (Nat.le_of_ble_eq_true rfl) (by decide) (Nat.zero_le _) (Nat.zero_le _) (fun v z9 h9 q => ?_)
  obtain ⟨rfl, hq1, hq2⟩ := q; replace hq1 := hq1.symm; subst hq1
  exact ww_iret C dX4_matches_12 (Mq.of hX rfl hq2)
set_option maxHeartbeats 2000000 in
theorem ct_X4_points {l : Launch} {Γ : Gm} (hl : l.flags = flags0) (hΓ : GOK Γ) {z : ZR} {h : AH} {B : GB} {M : MS} {D : Nat → Nat} (hz : zle (cst Γ) z) (hX : Mx Γ h D M) (hb : MBd M 30 40 B) (hC : BC B) : Ct l Γ yX4_points cX4_points 1 (some .int) 8 0 0 [.ref (D 0)] z h (Rv (Mq Γ z h D M (nI (poN B), 0))) := by
  refine Ct.of hl hΓ (by decide +kernel) (Nat.le_of_ble_eq_true rfl) (fun X e1 e2 C => ?_)
  subst e1; subst e2
  have C : Cx X cX4_points 1 "RingDominoModel" "points" (some .int) [] 8 := C
  have hB := hC.1
  obtain ⟨⟨⟨c1, c2⟩, ⟨r1, r2⟩⟩, t1, bl1, bu1, bp1, bn1⟩ := id hB
  have hzz := BO.z hB
  have hz0 : 0 < Bz B := Nat.mul_pos (by omega) (by omega)
  have X0 := hX.m
  have hR := Mx.n (z := z) hX hb
  have hP : MrP (xG X) z h (D 0) (D 10) B := ⟨_, D, Or.inl X0, hR⟩
  obtain ⟨o, nn, rn, nu, tu, S, Ht, Hn, hnu, Hs, Ha, Hc, Hu, htu⟩ := id hR
  show WW X (Rv (Mq (xG X) z h D M (nI (poN B), 0))) z h 0 0 0 [(0, .ref (D 0))] []
  refine ww_aload_n C dX4_points_0 rfl 0 rfl rfl ?_
  refine ww_aload_n C dX4_points_1 rfl 0 rfl rfl ?_
  refine ww_aload_n C dX4_points_2 rfl 0 rfl rfl ?_
  refine gf_X4_48_X4 C dX4_points_3 (Or.inl X0) rfl ?_
  refine cv_X4_349_r (As := [.ref (D 10)]) (rest := [.ref (D 0)]) C dX4_points_6 (ct_X4_points_2 (Cx.fl C) (Cx.ok C) hz hP hC) (rc_X4 (Cx.ok C) (Or.inl X0)) rfl rfl (Nat.le_of_ble_eq_true rfl) (by decide) (Nat.zero_le _) (Nat.zero_le _) ?_
  refine cv_X4_268_q (As := [.int (nI (poN B))]) (rest := []) C dX4_points_9 (ct_X4_ok (Cx.fl C) (Cx.ok C) X0) (rc_X4 (Cx.ok C) (Or.inl X0)) rfl rfl (Nat.le_of_ble_eq_true rfl) (by decide) (Nat.zero_le _) (Nat.zero_le _) (fun v z9 h9 q => ?_)
  obtain ⟨rfl, hq1, hq2⟩ := q; replace hq1 := hq1.symm; subst hq1
  exact ww_iret C dX4_points_12 (Mq.of hX rfl hq2)
set_option maxHeartbeats 2000000 in
theorem ct_X4_rings_2 {l : Launch} {Γ : Gm} (hl : l.flags = flags0) (hΓ : GOK Γ) {z : ZR} {h : AH} {B : GB} {M : MS} {D : Nat → Nat} (hz : zle (cst Γ) z) (hX : Mx Γ h D M) (hb : MBd M 30 40 B) (hC : BC B) : Ct l Γ yX4_rings_2 cX4_rings_2 1 (some .int) 7 0 0 [.ref (D 0)] z h (Rv (Mq Γ z h D M (nI (rgN B), 0))) := by
  refine Ct.of hl hΓ (by decide +kernel) (Nat.le_of_ble_eq_true rfl) (fun X e1 e2 C => ?_)
  subst e1; subst e2
  have C : Cx X cX4_rings_2 1 "RingDominoModel" "rings" (some .int) [] 7 := C
  have hB := hC.1
  obtain ⟨⟨⟨c1, c2⟩, ⟨r1, r2⟩⟩, t1, bl1, bu1, bp1, bn1⟩ := id hB
  have hzz := BO.z hB
  have hz0 : 0 < Bz B := Nat.mul_pos (by omega) (by omega)
  have X0 := hX.m
  have hR := Mx.n (z := z) hX hb
  have hP : MrP (xG X) z h (D 0) (D 10) B := ⟨_, D, Or.inl X0, hR⟩
  obtain ⟨o, nn, rn, nu, tu, S, Ht, Hn, hnu, Hs, Ha, Hc, Hu, htu⟩ := id hR
  show WW X (Rv (Mq (xG X) z h D M (nI (rgN B), 0))) z h 0 0 0 [(0, .ref (D 0))] []
  refine ww_aload_n C dX4_rings_2_0 rfl 0 rfl rfl ?_
  refine ww_aload_n C dX4_rings_2_1 rfl 0 rfl rfl ?_
  refine ww_aload_n C dX4_rings_2_2 rfl 0 rfl rfl ?_
  refine gf_X4_48_X4 C dX4_rings_2_3 (Or.inl X0) rfl ?_
  refine cv_X4_325_r (As := [.ref (D 10)]) (rest := [.ref (D 0)]) C dX4_rings_2_6 (ct_X4_rings (Cx.fl C) (Cx.ok C) hz hP hC) (rc_X4 (Cx.ok C) (Or.inl X0)) rfl rfl (Nat.le_of_ble_eq_true rfl) (by decide) (Nat.zero_le _) (Nat.zero_le _) ?_
  refine cv_X4_268_q (As := [.int (nI (rgN B))]) (rest := []) C dX4_rings_2_9 (ct_X4_ok (Cx.fl C) (Cx.ok C) X0) (rc_X4 (Cx.ok C) (Or.inl X0)) rfl rfl (Nat.le_of_ble_eq_true rfl) (by decide) (Nat.zero_le _) (Nat.zero_le _) (fun v z9 h9 q => ?_)
  obtain ⟨rfl, hq1, hq2⟩ := q; replace hq1 := hq1.symm; subst hq1
  exact ww_iret C dX4_rings_2_12 (Mq.of hX rfl hq2)
set_option maxHeartbeats 2000000 in
theorem ct_X4_rounds {l : Launch} {Γ : Gm} (hl : l.flags = flags0) (hΓ : GOK Γ) {z : ZR} {h : AH} {B : GB} {M : MS} {D : Nat → Nat} (hz : zle (cst Γ) z) (hX : Mx Γ h D M) (hb : MBd M 30 40 B) (hC : BC B) : Ct l Γ yX4_rounds cX4_rounds 1 (some .int) 2 0 0 [.ref (D 0)] z h (Rv (Mq Γ z h D M (M.1 31, 0))) := by
  refine Ct.of hl hΓ (by decide +kernel) (Nat.le_of_ble_eq_true rfl) (fun X e1 e2 C => ?_)
  subst e1; subst e2
  have C : Cx X cX4_rounds 1 "RingDominoModel" "rounds" (some .int) [] 2 := C
  have hB := hC.1
  obtain ⟨⟨⟨c1, c2⟩, ⟨r1, r2⟩⟩, t1, bl1, bu1, bp1, bn1⟩ := id hB
  have hzz := BO.z hB
  have hz0 : 0 < Bz B := Nat.mul_pos (by omega) (by omega)
  have X0 := hX.m
  have hR := Mx.n (z := z) hX hb
  have hP : MrP (xG X) z h (D 0) (D 10) B := ⟨_, D, Or.inl X0, hR⟩
  obtain ⟨o, nn, rn, nu, tu, S, Ht, Hn, hnu, Hs, Ha, Hc, Hu, htu⟩ := id hR
  show WW X (Rv (Mq (xG X) z h D M (M.1 31, 0))) z h 0 0 0 [(0, .ref (D 0))] []
  have X10 : h (D 10) = some (cSt (fun i => D (40 + i)) (M.1 30) (M.1 31)) := hX.1 10 (by decide)
  refine ww_aload_n C dX4_rounds_0 rfl 0 rfl rfl ?_
  refine ww_aload_n C dX4_rounds_1 rfl 0 rfl rfl ?_
  refine gf_X4_48_X4 C dX4_rounds_2 (Or.inl X0) rfl ?_
  refine gf_X4_343_X6 C dX4_rounds_5 (Or.inl X10) rfl ?_
  refine cv_X4_268_q (As := [.int (M.1 31)]) (rest := []) C dX4_rounds_8 (ct_X4_ok (Cx.fl C) (Cx.ok C) X0) (rc_X4 (Cx.ok C) (Or.inl X0)) rfl rfl (Nat.le_of_ble_eq_true rfl) (by decide) (Nat.zero_le _) (Nat.zero_le _) (fun v z9 h9 q => ?_)
  obtain ⟨rfl, hq1, hq2⟩ := q; replace hq1 := hq1.symm; subst hq1
  exact ww_iret C dX4_rounds_11 (Mq.of hX rfl hq2)
set_option maxHeartbeats 2000000 in
theorem ct_X4_hasTile {l : Launch} {Γ : Gm} (hl : l.flags = flags0) (hΓ : GOK Γ) {z : ZR} {h : AH} {B : GB} {M : MS} {D : Nat → Nat} {x : Int32} (hz : zle (cst Γ) z) (hX : Mx Γ h D M) (hb : MBd M 30 40 B) (hC : BC B) : Ct l Γ yX4_hasTile cX4_hasTile 2 (some .boolean) 3 0 0 [.ref (D 0), .int x] z h (Rv (Mq Γ z h D M (aHas B x))) := by
  refine Ct.of hl hΓ (by decide +kernel) (Nat.le_of_ble_eq_true rfl) (fun X e1 e2 C => ?_)
  subst e1; subst e2
  have C : Cx X cX4_hasTile 2 "RingDominoModel" "hasTile" (some .boolean) [] 3 := C
  have hB := hC.1
  obtain ⟨⟨⟨c1, c2⟩, ⟨r1, r2⟩⟩, t1, bl1, bu1, bp1, bn1⟩ := id hB
  have hzz := BO.z hB
  have hz0 : 0 < Bz B := Nat.mul_pos (by omega) (by omega)
  have X0 := hX.m
  have hR := Mx.n (z := z) hX hb
  have hP : MrP (xG X) z h (D 0) (D 10) B := ⟨_, D, Or.inl X0, hR⟩
  obtain ⟨o, nn, rn, nu, tu, S, Ht, Hn, hnu, Hs, Ha, Hc, Hu, htu⟩ := id hR
  show WW X (Rv (Mq (xG X) z h D M (aHas B x))) z h 0 0 0 [(0, .ref (D 0)), (1, .int x)] []
  refine ww_aload_n C dX4_hasTile_0 rfl 0 rfl rfl ?_
  refine ww_iconst C dX4_hasTile_1 cI_0 ?_
  refine pf_X4_65_X4 (fs' := [.int (nI 0), .ref (D 1), .int (M.1 1), .int (M.1 2), .ref (D 2), .ref (D 3), .ref (D 4), .ref (D 5), .int (M.1 3), .int (M.1 4), .int (M.1 5), .int (M.1 6), .int (M.1 7), .ref (D 6), .ref (D 7), .ref (D 8), .ref (D 9), .ref (D 10), .ref (D 11), .ref (D 12), .ref (D 13), .int (M.1 8), .int (M.1 9), .int (M.1 10)]) C dX4_hasTile_2 X0 rfl rfl (Nat.le_of_ble_eq_true rfl) rfl ?_
  refine ww_gen (fun h1 hE1 => ?_)
  have X0_h1 : h1 (D 0) = some (.inr (3, [.int (nI 0), .ref (D 1), .int (M.1 1), .int (M.1 2), .ref (D 2), .ref (D 3), .ref (D 4), .ref (D 5), .int (M.1 3), .int (M.1 4), .int (M.1 5), .int (M.1 6), .int (M.1 7), .ref (D 6), .ref (D 7), .ref (D 8), .ref (D 9), .ref (D 10), .ref (D 11), .ref (D 12), .ref (D 13), .int (M.1 8), .int (M.1 9), .int (M.1 10)])) := by rw [hE1]; exact up_s
  have hX1 : Mx (xG X) h1 D (upd M.1 0 (nI 0), M.2) := by rw [hE1]; exact hX.thr _
  have hb1 : MBd (upd M.1 0 (nI 0), M.2) 30 40 B := hb.thr
  have hR1 := Mx.n (z := z) hX1 hb1
  have hP1 : MrP (xG X) z h1 (D 0) (D 10) B := ⟨_, D, Or.inl hX1.m, hR1⟩
  obtain ⟨o1, nn1, rn1, nu1, tu1, S1, Ht1, Hn1, hnu1, Hs1, Ha1, Hc1, Hu1, htu1⟩ := id hR1
  have hE0 : h1 = up h (D 0) (cMd (upd M.1 0 (nI 0)) D) := hE1
  have X1 := hX1.m
  refine ww_aload_n C dX4_hasTile_5 rfl 0 rfl rfl ?_
  refine ww_iload_n C dX4_hasTile_6 rfl 1 rfl ?_
  refine cv_X4_388_r (As := [.int x]) (rest := []) C dX4_hasTile_7 (ct_X4_isCell (Cx.fl C) (Cx.ok C) hz hP1 hC) (rc_X4 (Cx.ok C) (Or.inl X1)) rfl rfl (Nat.le_of_ble_eq_true rfl) (by decide) (Nat.zero_le _) (Nat.zero_le _) ?_
  refine ww_if_eq_b (tgt := 34) C dX4_hasTile_10 (by decide) (fun c_10 => ?_) (fun c_10 => ?_)
  · skip
    have hix := ixB_f c_10
    refine ww_aload_n C dX4_hasTile_34 rfl 0 rfl rfl ?_
    refine ww_iconst C dX4_hasTile_35 cI_1 ?_
    refine cv_X4_391_q (As := [.int (nI 1)]) (rest := []) C dX4_hasTile_36 (ct_X4_isNot (Cx.fl C) (Cx.ok C) X1) (rc_X4 (Cx.ok C) (Or.inl X1)) rfl rfl (Nat.le_of_ble_eq_true rfl) (by decide) (Nat.zero_le _) (Nat.zero_le _) (fun v z9 h9 q => ?_)
    obtain ⟨rfl, hq1, hq2⟩ := q; replace hq1 := hq1.symm; subst hq1
    exact ww_zret C dX4_hasTile_39 nar_z0 (Mq.of hX (by unfold aHas; rw [hix]; try rfl) (by rw [hq2, hE0, up_up, upd_upd]; unfold aHas; rw [hix]; try rfl))
  · skip
    obtain ⟨c, hc, hxc, hix⟩ := ixB_t (by omega) c_10
    subst hxc
    refine ww_aload_n C dX4_hasTile_13 rfl 0 rfl rfl ?_
    refine gf_X4_48_X4 C dX4_hasTile_14 (Or.inl X1) rfl ?_
    refine gf_X4_280_X6 C dX4_hasTile_17 Hs1 rfl ?_
    refine ww_iload_n C dX4_hasTile_20 rfl 1 rfl ?_
    refine ww_iald C dX4_hasTile_21 Ha1 (by omega) (by decide) ?_
    refine ww_iconst C dX4_hasTile_22 cI_m1 ?_
    refine ww_icmp_eq_o (tgt := 30) C dX4_hasTile_23 (by decide) (hC.a c) (fun c_23 => ?_) (fun c_23 => ?_)
    · skip
      have hT : hasT B (some c) = false := by rw [← atO_is, c_23]; rfl
      refine ww_iconst C dX4_hasTile_30 cI_0 ?_
      refine ww_goto (tgt := 39) C dX4_hasTile_31 (by decide) ?_
      exact ww_zret C dX4_hasTile_39 nar_z0 (Mq.of hX (by unfold aHas; rw [hix]; show _ = bI _; rw [hT]; try rfl) (by rw [hE0]; unfold aHas; rw [hix]; try rfl))
    · skip
      have hT : hasT B (some c) = true := by rw [← atO_is]; exact Option.isSome_iff_ne_none.mpr c_23
      refine ww_iconst C dX4_hasTile_26 cI_1 ?_
      refine ww_goto (tgt := 39) C dX4_hasTile_27 (by decide) ?_
      exact ww_zret C dX4_hasTile_39 nar_z1 (Mq.of hX (by unfold aHas; rw [hix]; show _ = bI _; rw [hT]; try rfl) (by rw [hE0]; unfold aHas; rw [hix]; try rfl))
set_option maxHeartbeats 2000000 in
theorem ct_X4_isRing {l : Launch} {Γ : Gm} (hl : l.flags = flags0) (hΓ : GOK Γ) {z : ZR} {h : AH} {B : GB} {M : MS} {D : Nat → Nat} {x : Int32} (hz : zle (cst Γ) z) (hX : Mx Γ h D M) (hb : MBd M 30 40 B) (hC : BC B) : Ct l Γ yX4_isRing cX4_isRing 2 (some .boolean) 6 0 0 [.ref (D 0), .int x] z h (Rv (Mq Γ z h D M (aRin B x))) := by
  refine Ct.of hl hΓ (by decide +kernel) (Nat.le_of_ble_eq_true rfl) (fun X e1 e2 C => ?_)
  subst e1; subst e2
  have C : Cx X cX4_isRing 2 "RingDominoModel" "isRing" (some .boolean) [] 6 := C
  have hB := hC.1
  obtain ⟨⟨⟨c1, c2⟩, ⟨r1, r2⟩⟩, t1, bl1, bu1, bp1, bn1⟩ := id hB
  have hzz := BO.z hB
  have hz0 : 0 < Bz B := Nat.mul_pos (by omega) (by omega)
  have X0 := hX.m
  have hR := Mx.n (z := z) hX hb
  have hP : MrP (xG X) z h (D 0) (D 10) B := ⟨_, D, Or.inl X0, hR⟩
  obtain ⟨o, nn, rn, nu, tu, S, Ht, Hn, hnu, Hs, Ha, Hc, Hu, htu⟩ := id hR
  show WW X (Rv (Mq (xG X) z h D M (aRin B x))) z h 0 0 0 [(0, .ref (D 0)), (1, .int x)] []
  refine ww_aload_n C dX4_isRing_0 rfl 0 rfl rfl ?_
  refine ww_iconst C dX4_isRing_1 cI_0 ?_
  refine pf_X4_65_X4 (fs' := [.int (nI 0), .ref (D 1), .int (M.1 1), .int (M.1 2), .ref (D 2), .ref (D 3), .ref (D 4), .ref (D 5), .int (M.1 3), .int (M.1 4), .int (M.1 5), .int (M.1 6), .int (M.1 7), .ref (D 6), .ref (D 7), .ref (D 8), .ref (D 9), .ref (D 10), .ref (D 11), .ref (D 12), .ref (D 13), .int (M.1 8), .int (M.1 9), .int (M.1 10)]) C dX4_isRing_2 X0 rfl rfl (Nat.le_of_ble_eq_true rfl) rfl ?_
  refine ww_gen (fun h1 hE1 => ?_)
  have X0_h1 : h1 (D 0) = some (.inr (3, [.int (nI 0), .ref (D 1), .int (M.1 1), .int (M.1 2), .ref (D 2), .ref (D 3), .ref (D 4), .ref (D 5), .int (M.1 3), .int (M.1 4), .int (M.1 5), .int (M.1 6), .int (M.1 7), .ref (D 6), .ref (D 7), .ref (D 8), .ref (D 9), .ref (D 10), .ref (D 11), .ref (D 12), .ref (D 13), .int (M.1 8), .int (M.1 9), .int (M.1 10)])) := by rw [hE1]; exact up_s
  have hX1 : Mx (xG X) h1 D (upd M.1 0 (nI 0), M.2) := by rw [hE1]; exact hX.thr _
  have hb1 : MBd (upd M.1 0 (nI 0), M.2) 30 40 B := hb.thr
  have hR1 := Mx.n (z := z) hX1 hb1
  have hP1 : MrP (xG X) z h1 (D 0) (D 10) B := ⟨_, D, Or.inl hX1.m, hR1⟩
  obtain ⟨o1, nn1, rn1, nu1, tu1, S1, Ht1, Hn1, hnu1, Hs1, Ha1, Hc1, Hu1, htu1⟩ := id hR1
  have hE0 : h1 = up h (D 0) (cMd (upd M.1 0 (nI 0)) D) := hE1
  have X1 := hX1.m
  refine ww_aload_n C dX4_isRing_5 rfl 0 rfl rfl ?_
  refine ww_iload_n C dX4_isRing_6 rfl 1 rfl ?_
  refine cv_X4_388_r (As := [.int x]) (rest := []) C dX4_isRing_7 (ct_X4_isCell (Cx.fl C) (Cx.ok C) hz hP1 hC) (rc_X4 (Cx.ok C) (Or.inl X1)) rfl rfl (Nat.le_of_ble_eq_true rfl) (by decide) (Nat.zero_le _) (Nat.zero_le _) ?_
  refine ww_if_eq_b (tgt := 25) C dX4_isRing_10 (by decide) (fun c_10 => ?_) (fun c_10 => ?_)
  · skip
    have hix := ixB_f c_10
    refine ww_aload_n C dX4_isRing_25 rfl 0 rfl rfl ?_
    refine ww_iconst C dX4_isRing_26 cI_1 ?_
    refine cv_X4_391_q (As := [.int (nI 1)]) (rest := []) C dX4_isRing_27 (ct_X4_isNot (Cx.fl C) (Cx.ok C) X1) (rc_X4 (Cx.ok C) (Or.inl X1)) rfl rfl (Nat.le_of_ble_eq_true rfl) (by decide) (Nat.zero_le _) (Nat.zero_le _) (fun v z9 h9 q => ?_)
    obtain ⟨rfl, hq1, hq2⟩ := q; replace hq1 := hq1.symm; subst hq1
    exact ww_zret C dX4_isRing_30 nar_z0 (Mq.of hX (by unfold aRin; rw [hix]; try rfl) (by rw [hq2, hE0, up_up, upd_upd]; unfold aRin; rw [hix]; try rfl))
  · skip
    obtain ⟨c, hc, hxc, hix⟩ := ixB_t (by omega) c_10
    subst hxc
    refine ww_aload_n C dX4_isRing_13 rfl 0 rfl rfl ?_
    refine ww_aload_n C dX4_isRing_14 rfl 0 rfl rfl ?_
    refine gf_X4_48_X4 C dX4_isRing_15 (Or.inl X1) rfl ?_
    refine ww_iload_n C dX4_isRing_18 rfl 1 rfl ?_
    refine cv_X4_314_r (As := [.ref (D 10), .int (nI c)]) (rest := []) C dX4_isRing_19 (ct_X4_ring (Cx.fl C) (Cx.ok C) hz hP1 hC (by omega)) (rc_X4 (Cx.ok C) (Or.inl X1)) rfl rfl (Nat.le_of_ble_eq_true rfl) (by decide) (Nat.zero_le _) (Nat.zero_le _) ?_
    refine ww_goto (tgt := 30) C dX4_isRing_22 (by decide) ?_
    exact ww_zret C dX4_isRing_30 (nar_bI _) (Mq.of hX (by unfold aRin; rw [hix]; try rfl) (by rw [hE0]; unfold aRin; rw [hix]; try rfl))
set_option maxHeartbeats 2000000 in
theorem ct_X4_isPlaced {l : Launch} {Γ : Gm} (hl : l.flags = flags0) (hΓ : GOK Γ) {z : ZR} {h : AH} {B : GB} {M : MS} {D : Nat → Nat} {x : Int32} (hz : zle (cst Γ) z) (hX : Mx Γ h D M) (hb : MBd M 30 40 B) (hC : BC B) : Ct l Γ yX4_isPlaced cX4_isPlaced 2 (some .boolean) 3 0 0 [.ref (D 0), .int x] z h (Rv (Mq Γ z h D M (aPla B x))) := by
  refine Ct.of hl hΓ (by decide +kernel) (Nat.le_of_ble_eq_true rfl) (fun X e1 e2 C => ?_)
  subst e1; subst e2
  have C : Cx X cX4_isPlaced 2 "RingDominoModel" "isPlaced" (some .boolean) [] 3 := C
  have hB := hC.1
  obtain ⟨⟨⟨c1, c2⟩, ⟨r1, r2⟩⟩, t1, bl1, bu1, bp1, bn1⟩ := id hB
  have hzz := BO.z hB
  have hz0 : 0 < Bz B := Nat.mul_pos (by omega) (by omega)
  have X0 := hX.m
  have hR := Mx.n (z := z) hX hb
  have hP : MrP (xG X) z h (D 0) (D 10) B := ⟨_, D, Or.inl X0, hR⟩
  obtain ⟨o, nn, rn, nu, tu, S, Ht, Hn, hnu, Hs, Ha, Hc, Hu, htu⟩ := id hR
  show WW X (Rv (Mq (xG X) z h D M (aPla B x))) z h 0 0 0 [(0, .ref (D 0)), (1, .int x)] []
  refine ww_aload_n C dX4_isPlaced_0 rfl 0 rfl rfl ?_
  refine ww_iconst C dX4_isPlaced_1 cI_0 ?_
  refine pf_X4_65_X4 (fs' := [.int (nI 0), .ref (D 1), .int (M.1 1), .int (M.1 2), .ref (D 2), .ref (D 3), .ref (D 4), .ref (D 5), .int (M.1 3), .int (M.1 4), .int (M.1 5), .int (M.1 6), .int (M.1 7), .ref (D 6), .ref (D 7), .ref (D 8), .ref (D 9), .ref (D 10), .ref (D 11), .ref (D 12), .ref (D 13), .int (M.1 8), .int (M.1 9), .int (M.1 10)]) C dX4_isPlaced_2 X0 rfl rfl (Nat.le_of_ble_eq_true rfl) rfl ?_
  refine ww_gen (fun h1 hE1 => ?_)
  have X0_h1 : h1 (D 0) = some (.inr (3, [.int (nI 0), .ref (D 1), .int (M.1 1), .int (M.1 2), .ref (D 2), .ref (D 3), .ref (D 4), .ref (D 5), .int (M.1 3), .int (M.1 4), .int (M.1 5), .int (M.1 6), .int (M.1 7), .ref (D 6), .ref (D 7), .ref (D 8), .ref (D 9), .ref (D 10), .ref (D 11), .ref (D 12), .ref (D 13), .int (M.1 8), .int (M.1 9), .int (M.1 10)])) := by rw [hE1]; exact up_s
  have hX1 : Mx (xG X) h1 D (upd M.1 0 (nI 0), M.2) := by rw [hE1]; exact hX.thr _
  have hb1 : MBd (upd M.1 0 (nI 0), M.2) 30 40 B := hb.thr
  have hR1 := Mx.n (z := z) hX1 hb1
  have hP1 : MrP (xG X) z h1 (D 0) (D 10) B := ⟨_, D, Or.inl hX1.m, hR1⟩
  obtain ⟨o1, nn1, rn1, nu1, tu1, S1, Ht1, Hn1, hnu1, Hs1, Ha1, Hc1, Hu1, htu1⟩ := id hR1
  have hE0 : h1 = up h (D 0) (cMd (upd M.1 0 (nI 0)) D) := hE1
  have X1 := hX1.m
  refine ww_aload_n C dX4_isPlaced_5 rfl 0 rfl rfl ?_
  refine ww_iload_n C dX4_isPlaced_6 rfl 1 rfl ?_
  refine cv_X4_400_r (As := [.int x]) (rest := []) C dX4_isPlaced_7 (ct_X4_isTile (Cx.fl C) (Cx.ok C) hz hP1 hC) (rc_X4 (Cx.ok C) (Or.inl X1)) rfl rfl (Nat.le_of_ble_eq_true rfl) (by decide) (Nat.zero_le _) (Nat.zero_le _) ?_
  refine ww_if_eq_b (tgt := 34) C dX4_isPlaced_10 (by decide) (fun c_10 => ?_) (fun c_10 => ?_)
  · skip
    have hix := ixB_f c_10
    refine ww_aload_n C dX4_isPlaced_34 rfl 0 rfl rfl ?_
    refine ww_iconst C dX4_isPlaced_35 cI_1 ?_
    refine cv_X4_391_q (As := [.int (nI 1)]) (rest := []) C dX4_isPlaced_36 (ct_X4_isNot (Cx.fl C) (Cx.ok C) X1) (rc_X4 (Cx.ok C) (Or.inl X1)) rfl rfl (Nat.le_of_ble_eq_true rfl) (by decide) (Nat.zero_le _) (Nat.zero_le _) (fun v z9 h9 q => ?_)
    obtain ⟨rfl, hq1, hq2⟩ := q; replace hq1 := hq1.symm; subst hq1
    exact ww_zret C dX4_isPlaced_39 nar_z0 (Mq.of hX (by unfold aPla; rw [hix]; try rfl) (by rw [hq2, hE0, up_up, upd_upd]; unfold aPla; rw [hix]; try rfl))
  · skip
    obtain ⟨c, hc, hxc, hix⟩ := ixB_t (by omega) c_10
    subst hxc
    refine ww_aload_n C dX4_isPlaced_13 rfl 0 rfl rfl ?_
    refine gf_X4_48_X4 C dX4_isPlaced_14 (Or.inl X1) rfl ?_
    refine gf_X4_293_X6 C dX4_isPlaced_17 Hs1 rfl ?_
    refine ww_iload_n C dX4_isPlaced_20 rfl 1 rfl ?_
    refine ww_iald C dX4_isPlaced_21 Hc1 (by omega) (by decide) ?_
    refine ww_iconst C dX4_isPlaced_22 cI_m1 ?_
    refine ww_icmp_eq_o (tgt := 30) C dX4_isPlaced_23 (by decide) (fun y q => Nat.lt_trans (bp1 c y q) (by decide)) (fun c_23 => ?_) (fun c_23 => ?_)
    · skip
      have hT : (Bp B c).isSome = false := by rw [c_23]; rfl
      refine ww_iconst C dX4_isPlaced_30 cI_0 ?_
      refine ww_goto (tgt := 39) C dX4_isPlaced_31 (by decide) ?_
      exact ww_zret C dX4_isPlaced_39 nar_z0 (Mq.of hX (by unfold aPla; rw [hix]; show _ = bI _; rw [hT]; try rfl) (by rw [hE0]; unfold aPla; rw [hix]; try rfl))
    · skip
      have hT : (Bp B c).isSome = true := Option.isSome_iff_ne_none.mpr c_23
      refine ww_iconst C dX4_isPlaced_26 cI_1 ?_
      refine ww_goto (tgt := 39) C dX4_isPlaced_27 (by decide) ?_
      exact ww_zret C dX4_isPlaced_39 nar_z1 (Mq.of hX (by unfold aPla; rw [hix]; show _ = bI _; rw [hT]; try rfl) (by rw [hE0]; unfold aPla; rw [hix]; try rfl))
set_option maxHeartbeats 2000000 in
theorem ct_X4_waysOf {l : Launch} {Γ : Gm} (hl : l.flags = flags0) (hΓ : GOK Γ) {z : ZR} {h : AH} {B : GB} {M : MS} {D : Nat → Nat} {x : Int32} (hz : zle (cst Γ) z) (hX : Mx Γ h D M) (hb : MBd M 30 40 B) (hC : BC B) : Ct l Γ yX4_waysOf cX4_waysOf 2 (some .int) 7 0 0 [.ref (D 0), .int x] z h (Rv (Mq Γ z h D M (aWay B x))) := by
  refine Ct.of hl hΓ (by decide +kernel) (Nat.le_of_ble_eq_true rfl) (fun X e1 e2 C => ?_)
  subst e1; subst e2
  have C : Cx X cX4_waysOf 2 "RingDominoModel" "waysOf" (some .int) [] 7 := C
  have hB := hC.1
  obtain ⟨⟨⟨c1, c2⟩, ⟨r1, r2⟩⟩, t1, bl1, bu1, bp1, bn1⟩ := id hB
  have hzz := BO.z hB
  have hz0 : 0 < Bz B := Nat.mul_pos (by omega) (by omega)
  have X0 := hX.m
  have hR := Mx.n (z := z) hX hb
  have hP : MrP (xG X) z h (D 0) (D 10) B := ⟨_, D, Or.inl X0, hR⟩
  obtain ⟨o, nn, rn, nu, tu, S, Ht, Hn, hnu, Hs, Ha, Hc, Hu, htu⟩ := id hR
  show WW X (Rv (Mq (xG X) z h D M (aWay B x))) z h 0 0 0 [(0, .ref (D 0)), (1, .int x)] []
  refine ww_aload_n C dX4_waysOf_0 rfl 0 rfl rfl ?_
  refine ww_iconst C dX4_waysOf_1 cI_0 ?_
  refine pf_X4_65_X4 (fs' := [.int (nI 0), .ref (D 1), .int (M.1 1), .int (M.1 2), .ref (D 2), .ref (D 3), .ref (D 4), .ref (D 5), .int (M.1 3), .int (M.1 4), .int (M.1 5), .int (M.1 6), .int (M.1 7), .ref (D 6), .ref (D 7), .ref (D 8), .ref (D 9), .ref (D 10), .ref (D 11), .ref (D 12), .ref (D 13), .int (M.1 8), .int (M.1 9), .int (M.1 10)]) C dX4_waysOf_2 X0 rfl rfl (Nat.le_of_ble_eq_true rfl) rfl ?_
  refine ww_gen (fun h1 hE1 => ?_)
  have X0_h1 : h1 (D 0) = some (.inr (3, [.int (nI 0), .ref (D 1), .int (M.1 1), .int (M.1 2), .ref (D 2), .ref (D 3), .ref (D 4), .ref (D 5), .int (M.1 3), .int (M.1 4), .int (M.1 5), .int (M.1 6), .int (M.1 7), .ref (D 6), .ref (D 7), .ref (D 8), .ref (D 9), .ref (D 10), .ref (D 11), .ref (D 12), .ref (D 13), .int (M.1 8), .int (M.1 9), .int (M.1 10)])) := by rw [hE1]; exact up_s
  have hX1 : Mx (xG X) h1 D (upd M.1 0 (nI 0), M.2) := by rw [hE1]; exact hX.thr _
  have hb1 : MBd (upd M.1 0 (nI 0), M.2) 30 40 B := hb.thr
  have hR1 := Mx.n (z := z) hX1 hb1
  have hP1 : MrP (xG X) z h1 (D 0) (D 10) B := ⟨_, D, Or.inl hX1.m, hR1⟩
  obtain ⟨o1, nn1, rn1, nu1, tu1, S1, Ht1, Hn1, hnu1, Hs1, Ha1, Hc1, Hu1, htu1⟩ := id hR1
  have hE0 : h1 = up h (D 0) (cMd (upd M.1 0 (nI 0)) D) := hE1
  have X1 := hX1.m
  refine ww_aload_n C dX4_waysOf_5 rfl 0 rfl rfl ?_
  refine ww_iload_n C dX4_waysOf_6 rfl 1 rfl ?_
  refine cv_X4_400_r (As := [.int x]) (rest := []) C dX4_waysOf_7 (ct_X4_isTile (Cx.fl C) (Cx.ok C) hz hP1 hC) (rc_X4 (Cx.ok C) (Or.inl X1)) rfl rfl (Nat.le_of_ble_eq_true rfl) (by decide) (Nat.zero_le _) (Nat.zero_le _) ?_
  refine ww_if_eq_b (tgt := 25) C dX4_waysOf_10 (by decide) (fun c_10 => ?_) (fun c_10 => ?_)
  · skip
    have hix := ixB_f c_10
    refine ww_aload_n C dX4_waysOf_25 rfl 0 rfl rfl ?_
    refine ww_iconst C dX4_waysOf_26 cI_1 ?_
    refine cv_X4_254_q (As := [.int (nI 1)]) (rest := []) C dX4_waysOf_27 (ct_X4_no (Cx.fl C) (Cx.ok C) X1) (rc_X4 (Cx.ok C) (Or.inl X1)) rfl rfl (Nat.le_of_ble_eq_true rfl) (by decide) (Nat.zero_le _) (Nat.zero_le _) (fun v z9 h9 q => ?_)
    obtain ⟨rfl, hq1, hq2⟩ := q; replace hq1 := hq1.symm; subst hq1
    exact ww_iret C dX4_waysOf_30 (Mq.of hX (by unfold aWay; rw [hix]; try rfl) (by rw [hq2, hE0, up_up, upd_upd]; unfold aWay; rw [hix]; try rfl))
  · skip
    obtain ⟨c, hc, hxc, hix⟩ := ixB_t (by omega) c_10
    subst hxc
    refine ww_aload_n C dX4_waysOf_13 rfl 0 rfl rfl ?_
    refine ww_aload_n C dX4_waysOf_14 rfl 0 rfl rfl ?_
    refine gf_X4_48_X4 C dX4_waysOf_15 (Or.inl X1) rfl ?_
    refine ww_iload_n C dX4_waysOf_18 rfl 1 rfl ?_
    refine cv_X4_352_r (As := [.ref (D 10), .int (nI c)]) (rest := []) C dX4_waysOf_19 (ct_X4_ways (Cx.fl C) (Cx.ok C) hz hP1 hC hc) (rc_X4 (Cx.ok C) (Or.inl X1)) rfl rfl (Nat.le_of_ble_eq_true rfl) (by decide) (Nat.zero_le _) (Nat.zero_le _) ?_
    refine ww_goto (tgt := 30) C dX4_waysOf_22 (by decide) ?_
    exact ww_iret C dX4_waysOf_30 (Mq.of hX (by unfold aWay; rw [hix]; try rfl) (by rw [hE0]; unfold aWay; rw [hix]; try rfl))
set_option maxHeartbeats 2000000 in
theorem ct_X4_tileAt {l : Launch} {Γ : Gm} (hl : l.flags = flags0) (hΓ : GOK Γ) {z : ZR} {h : AH} {B : GB} {M : MS} {D : Nat → Nat} {x : Int32} (hz : zle (cst Γ) z) (hX : Mx Γ h D M) (hb : MBd M 30 40 B) (hC : BC B) : Ct l Γ yX4_tileAt cX4_tileAt 2 (some .int) 3 0 0 [.ref (D 0), .int x] z h (Rv (Mq Γ z h D M (aTil B x))) := by
  refine Ct.of hl hΓ (by decide +kernel) (Nat.le_of_ble_eq_true rfl) (fun X e1 e2 C => ?_)
  subst e1; subst e2
  have C : Cx X cX4_tileAt 2 "RingDominoModel" "tileAt" (some .int) [] 3 := C
  have hB := hC.1
  obtain ⟨⟨⟨c1, c2⟩, ⟨r1, r2⟩⟩, t1, bl1, bu1, bp1, bn1⟩ := id hB
  have hzz := BO.z hB
  have hz0 : 0 < Bz B := Nat.mul_pos (by omega) (by omega)
  have X0 := hX.m
  have hR := Mx.n (z := z) hX hb
  have hP : MrP (xG X) z h (D 0) (D 10) B := ⟨_, D, Or.inl X0, hR⟩
  obtain ⟨o, nn, rn, nu, tu, S, Ht, Hn, hnu, Hs, Ha, Hc, Hu, htu⟩ := id hR
  show WW X (Rv (Mq (xG X) z h D M (aTil B x))) z h 0 0 0 [(0, .ref (D 0)), (1, .int x)] []
  refine ww_aload_n C dX4_tileAt_0 rfl 0 rfl rfl ?_
  refine ww_iconst C dX4_tileAt_1 cI_0 ?_
  refine pf_X4_65_X4 (fs' := [.int (nI 0), .ref (D 1), .int (M.1 1), .int (M.1 2), .ref (D 2), .ref (D 3), .ref (D 4), .ref (D 5), .int (M.1 3), .int (M.1 4), .int (M.1 5), .int (M.1 6), .int (M.1 7), .ref (D 6), .ref (D 7), .ref (D 8), .ref (D 9), .ref (D 10), .ref (D 11), .ref (D 12), .ref (D 13), .int (M.1 8), .int (M.1 9), .int (M.1 10)]) C dX4_tileAt_2 X0 rfl rfl (Nat.le_of_ble_eq_true rfl) rfl ?_
  refine ww_gen (fun h1 hE1 => ?_)
  have X0_h1 : h1 (D 0) = some (.inr (3, [.int (nI 0), .ref (D 1), .int (M.1 1), .int (M.1 2), .ref (D 2), .ref (D 3), .ref (D 4), .ref (D 5), .int (M.1 3), .int (M.1 4), .int (M.1 5), .int (M.1 6), .int (M.1 7), .ref (D 6), .ref (D 7), .ref (D 8), .ref (D 9), .ref (D 10), .ref (D 11), .ref (D 12), .ref (D 13), .int (M.1 8), .int (M.1 9), .int (M.1 10)])) := by rw [hE1]; exact up_s
  have hX1 : Mx (xG X) h1 D (upd M.1 0 (nI 0), M.2) := by rw [hE1]; exact hX.thr _
  have hb1 : MBd (upd M.1 0 (nI 0), M.2) 30 40 B := hb.thr
  have hR1 := Mx.n (z := z) hX1 hb1
  have hP1 : MrP (xG X) z h1 (D 0) (D 10) B := ⟨_, D, Or.inl hX1.m, hR1⟩
  obtain ⟨o1, nn1, rn1, nu1, tu1, S1, Ht1, Hn1, hnu1, Hs1, Ha1, Hc1, Hu1, htu1⟩ := id hR1
  have hE0 : h1 = up h (D 0) (cMd (upd M.1 0 (nI 0)) D) := hE1
  have X1 := hX1.m
  refine ww_aload_n C dX4_tileAt_5 rfl 0 rfl rfl ?_
  refine ww_iload_n C dX4_tileAt_6 rfl 1 rfl ?_
  refine cv_X4_388_r (As := [.int x]) (rest := []) C dX4_tileAt_7 (ct_X4_isCell (Cx.fl C) (Cx.ok C) hz hP1 hC) (rc_X4 (Cx.ok C) (Or.inl X1)) rfl rfl (Nat.le_of_ble_eq_true rfl) (by decide) (Nat.zero_le _) (Nat.zero_le _) ?_
  refine ww_if_ne_b (tgt := 19) C dX4_tileAt_10 (by decide) (fun c_10 => ?_) (fun c_10 => ?_)
  · skip
    obtain ⟨c, hc, hxc, hix⟩ := ixB_t (by omega) c_10
    subst hxc
    refine ww_aload_n C dX4_tileAt_19 rfl 0 rfl rfl ?_
    refine gf_X4_48_X4 C dX4_tileAt_20 (Or.inl X1) rfl ?_
    refine gf_X4_280_X6 C dX4_tileAt_23 Hs1 rfl ?_
    refine ww_iload_n C dX4_tileAt_26 rfl 1 rfl ?_
    refine ww_iald C dX4_tileAt_27 Ha1 (by omega) (by decide) ?_
    refine ww_iconst C dX4_tileAt_28 cI_m1 ?_
    refine ww_icmp_ne_o (tgt := 40) C dX4_tileAt_29 (by decide) (hC.a c) (fun c_29 => ?_) (fun c_29 => ?_)
    · skip
      obtain ⟨k, hk⟩ := Option.ne_none_iff_exists'.mp c_29
      refine ww_aload_n C dX4_tileAt_40 rfl 0 rfl rfl ?_
      refine gf_X4_48_X4 C dX4_tileAt_41 (Or.inl X1) rfl ?_
      refine gf_X4_280_X6 C dX4_tileAt_44 Hs1 rfl ?_
      refine ww_iload_n C dX4_tileAt_47 rfl 1 rfl ?_
      refine ww_iald C dX4_tileAt_48 Ha1 (by omega) (by decide) ?_
      refine ww_st (st' := [.int (nI k)]) (by rw [hk]; rfl) ?_
      exact ww_iret C dX4_tileAt_49 (Mq.of hX (by unfold aTil; rw [hix]; simp only [hk]; try rfl) (by rw [hE0]; unfold aTil; rw [hix]; simp only [hk]; try rfl))
    · skip
      refine ww_aload_n C dX4_tileAt_32 rfl 0 rfl rfl ?_
      refine ww_iconst C dX4_tileAt_33 cI_2 ?_
      refine cv_X4_254_q (As := [.int (nI 2)]) (rest := []) C dX4_tileAt_34 (ct_X4_no (Cx.fl C) (Cx.ok C) X1) (rc_X4 (Cx.ok C) (Or.inl X1)) rfl rfl (Nat.le_of_ble_eq_true rfl) (by decide) (Nat.zero_le _) (Nat.zero_le _) (fun v z9 h9 q => ?_)
      obtain ⟨rfl, hq1, hq2⟩ := q; replace hq1 := hq1.symm; subst hq1
      refine ww_goto (tgt := 49) C dX4_tileAt_37 (by decide) ?_
      exact ww_iret C dX4_tileAt_49 (Mq.of hX (by unfold aTil; rw [hix]; simp only [c_29]; try rfl) (by rw [hq2, hE0, up_up, upd_upd]; unfold aTil; rw [hix]; simp only [c_29]; try rfl))
  · skip
    have hix := ixB_f c_10
    refine ww_aload_n C dX4_tileAt_13 rfl 0 rfl rfl ?_
    refine ww_iconst C dX4_tileAt_14 cI_1 ?_
    refine cv_X4_254_q (As := [.int (nI 1)]) (rest := []) C dX4_tileAt_15 (ct_X4_no (Cx.fl C) (Cx.ok C) X1) (rc_X4 (Cx.ok C) (Or.inl X1)) rfl rfl (Nat.le_of_ble_eq_true rfl) (by decide) (Nat.zero_le _) (Nat.zero_le _) (fun v z9 h9 q => ?_)
    obtain ⟨rfl, hq1, hq2⟩ := q; replace hq1 := hq1.symm; subst hq1
    exact ww_iret C dX4_tileAt_18 (Mq.of hX (by unfold aTil; rw [hix]; try rfl) (by rw [hq2, hE0, up_up, upd_upd]; unfold aTil; rw [hix]; try rfl))
set_option maxHeartbeats 2000000 in
theorem ct_X4_matchesAt {l : Launch} {Γ : Gm} (hl : l.flags = flags0) (hΓ : GOK Γ) {z : ZR} {h : AH} {m : Nat} {B : GB} {x : Nat} {I : Nat → Int32} {D : Nat → Nat} (hz : zle (cst Γ) z) (Hm : rd z h m (cMd I D)) (hR0 : MrR Γ z h D (D 10) B) (hC : BC B) (hx : x < 49) : Ct l Γ yX4_matchesAt cX4_matchesAt 2 (some .int) 5 0 0 [.ref m, .int (nI x)] z h (RdP z h (some (.int (nI (moN B x))))) := by
  refine Ct.of hl hΓ (by decide +kernel) (Nat.le_of_ble_eq_true rfl) (fun X e1 e2 C => ?_)
  subst e1; subst e2
  have C : Cx X cX4_matchesAt 2 "RingDominoModel" "matchesAt" (some .int) [] 5 := C
  have hR : MrP (xG X) z h m (D 10) B := ⟨I, D, Hm, hR0⟩
  obtain ⟨o, nn, rn, nu, tu, S, Ht, Hn, hnu, Hs, Ha, Hc, Hu, htu⟩ := id hR0
  show WW X (RdP z h (some (.int (nI (moN B x))))) z h 0 0 0 [(0, .ref m), (1, .int (nI x))] []
  refine ww_aload_n C dX4_matchesAt_0 rfl 0 rfl rfl ?_
  refine gf_X4_48_X4 C dX4_matchesAt_1 Hm rfl ?_
  refine gf_X4_280_X6 C dX4_matchesAt_4 Hs rfl ?_
  refine ww_iload_n C dX4_matchesAt_7 rfl 1 rfl ?_
  refine ww_iald C dX4_matchesAt_8 Ha (by omega) (by decide) ?_
  refine ww_iconst C dX4_matchesAt_9 cI_m1 ?_
  refine ww_icmp_ne_o (tgt := 17) C dX4_matchesAt_10 (by decide) (hC.a x) (fun c_10 => ?_) (fun c_10 => ?_)
  · skip
    have hmo : moN B x = arN B x := by unfold moN; rw [← atO_is, Option.isSome_iff_ne_none.mpr c_10]; rfl
    refine ww_aload_n C dX4_matchesAt_17 rfl 0 rfl rfl ?_
    refine ww_aload_n C dX4_matchesAt_18 rfl 0 rfl rfl ?_
    refine gf_X4_48_X4 C dX4_matchesAt_19 Hm rfl ?_
    refine ww_iload_n C dX4_matchesAt_22 rfl 1 rfl ?_
    refine cv_X4_299_r (As := [.ref (D 10), .int (nI x)]) (rest := []) C dX4_matchesAt_23 (ct_X4_tilesBeside (Cx.fl C) (Cx.ok C) hz hR hC hx) (rc_X4 (Cx.ok C) Hm) rfl rfl (Nat.le_of_ble_eq_true rfl) (by decide) (Nat.zero_le _) (Nat.zero_le _) ?_
    exact ww_iret C dX4_matchesAt_26 (RdP.i (by rw [hmo]))
  · skip
    have hmo : moN B x = 0 := by unfold moN; rw [← atO_is, c_10]; rfl
    refine ww_iconst C dX4_matchesAt_13 cI_0 ?_
    refine ww_goto (tgt := 26) C dX4_matchesAt_14 (by decide) ?_
    exact ww_iret C dX4_matchesAt_26 (RdP.i (by rw [hmo]))
set_option maxHeartbeats 2000000 in
theorem ct_X4_matchesOf {l : Launch} {Γ : Gm} (hl : l.flags = flags0) (hΓ : GOK Γ) {z : ZR} {h : AH} {B : GB} {M : MS} {D : Nat → Nat} {x : Int32} (hz : zle (cst Γ) z) (hX : Mx Γ h D M) (hb : MBd M 30 40 B) (hC : BC B) : Ct l Γ yX4_matchesOf cX4_matchesOf 2 (some .int) 6 0 0 [.ref (D 0), .int x] z h (Rv (Mq Γ z h D M (aMaO B x))) := by
  refine Ct.of hl hΓ (by decide +kernel) (Nat.le_of_ble_eq_true rfl) (fun X e1 e2 C => ?_)
  subst e1; subst e2
  have C : Cx X cX4_matchesOf 2 "RingDominoModel" "matchesOf" (some .int) [] 6 := C
  have hB := hC.1
  obtain ⟨⟨⟨c1, c2⟩, ⟨r1, r2⟩⟩, t1, bl1, bu1, bp1, bn1⟩ := id hB
  have hzz := BO.z hB
  have hz0 : 0 < Bz B := Nat.mul_pos (by omega) (by omega)
  have X0 := hX.m
  have hR := Mx.n (z := z) hX hb
  have hP : MrP (xG X) z h (D 0) (D 10) B := ⟨_, D, Or.inl X0, hR⟩
  obtain ⟨o, nn, rn, nu, tu, S, Ht, Hn, hnu, Hs, Ha, Hc, Hu, htu⟩ := id hR
  show WW X (Rv (Mq (xG X) z h D M (aMaO B x))) z h 0 0 0 [(0, .ref (D 0)), (1, .int x)] []
  refine ww_aload_n C dX4_matchesOf_0 rfl 0 rfl rfl ?_
  refine ww_iconst C dX4_matchesOf_1 cI_0 ?_
  refine pf_X4_65_X4 (fs' := [.int (nI 0), .ref (D 1), .int (M.1 1), .int (M.1 2), .ref (D 2), .ref (D 3), .ref (D 4), .ref (D 5), .int (M.1 3), .int (M.1 4), .int (M.1 5), .int (M.1 6), .int (M.1 7), .ref (D 6), .ref (D 7), .ref (D 8), .ref (D 9), .ref (D 10), .ref (D 11), .ref (D 12), .ref (D 13), .int (M.1 8), .int (M.1 9), .int (M.1 10)]) C dX4_matchesOf_2 X0 rfl rfl (Nat.le_of_ble_eq_true rfl) rfl ?_
  refine ww_gen (fun h1 hE1 => ?_)
  have X0_h1 : h1 (D 0) = some (.inr (3, [.int (nI 0), .ref (D 1), .int (M.1 1), .int (M.1 2), .ref (D 2), .ref (D 3), .ref (D 4), .ref (D 5), .int (M.1 3), .int (M.1 4), .int (M.1 5), .int (M.1 6), .int (M.1 7), .ref (D 6), .ref (D 7), .ref (D 8), .ref (D 9), .ref (D 10), .ref (D 11), .ref (D 12), .ref (D 13), .int (M.1 8), .int (M.1 9), .int (M.1 10)])) := by rw [hE1]; exact up_s
  have hX1 : Mx (xG X) h1 D (upd M.1 0 (nI 0), M.2) := by rw [hE1]; exact hX.thr _
  have hb1 : MBd (upd M.1 0 (nI 0), M.2) 30 40 B := hb.thr
  have hR1 := Mx.n (z := z) hX1 hb1
  have hP1 : MrP (xG X) z h1 (D 0) (D 10) B := ⟨_, D, Or.inl hX1.m, hR1⟩
  obtain ⟨o1, nn1, rn1, nu1, tu1, S1, Ht1, Hn1, hnu1, Hs1, Ha1, Hc1, Hu1, htu1⟩ := id hR1
  have hE0 : h1 = up h (D 0) (cMd (upd M.1 0 (nI 0)) D) := hE1
  have X1 := hX1.m
  refine ww_aload_n C dX4_matchesOf_5 rfl 0 rfl rfl ?_
  refine ww_iload_n C dX4_matchesOf_6 rfl 1 rfl ?_
  refine cv_X4_388_r (As := [.int x]) (rest := []) C dX4_matchesOf_7 (ct_X4_isCell (Cx.fl C) (Cx.ok C) hz hP1 hC) (rc_X4 (Cx.ok C) (Or.inl X1)) rfl rfl (Nat.le_of_ble_eq_true rfl) (by decide) (Nat.zero_le _) (Nat.zero_le _) ?_
  refine ww_if_eq_b (tgt := 21) C dX4_matchesOf_10 (by decide) (fun c_10 => ?_) (fun c_10 => ?_)
  · skip
    have hix := ixB_f c_10
    refine ww_aload_n C dX4_matchesOf_21 rfl 0 rfl rfl ?_
    refine ww_iconst C dX4_matchesOf_22 cI_1 ?_
    refine cv_X4_254_q (As := [.int (nI 1)]) (rest := []) C dX4_matchesOf_23 (ct_X4_no (Cx.fl C) (Cx.ok C) X1) (rc_X4 (Cx.ok C) (Or.inl X1)) rfl rfl (Nat.le_of_ble_eq_true rfl) (by decide) (Nat.zero_le _) (Nat.zero_le _) (fun v z9 h9 q => ?_)
    obtain ⟨rfl, hq1, hq2⟩ := q; replace hq1 := hq1.symm; subst hq1
    exact ww_iret C dX4_matchesOf_26 (Mq.of hX (by unfold aMaO; rw [hix]; try rfl) (by rw [hq2, hE0, up_up, upd_upd]; unfold aMaO; rw [hix]; try rfl))
  · skip
    obtain ⟨c, hc, hxc, hix⟩ := ixB_t (by omega) c_10
    subst hxc
    refine ww_aload_n C dX4_matchesOf_13 rfl 0 rfl rfl ?_
    refine ww_iload_n C dX4_matchesOf_14 rfl 1 rfl ?_
    refine cv_X4_397_r (As := [.int (nI c)]) (rest := []) C dX4_matchesOf_15 (ct_X4_matchesAt (Cx.fl C) (Cx.ok C) hz (Or.inl X1) hR1 hC (by omega)) (rc_X4 (Cx.ok C) (Or.inl X1)) rfl rfl (Nat.le_of_ble_eq_true rfl) (by decide) (Nat.zero_le _) (Nat.zero_le _) ?_
    refine ww_goto (tgt := 26) C dX4_matchesOf_18 (by decide) ?_
    exact ww_iret C dX4_matchesOf_26 (Mq.of hX (by unfold aMaO; rw [hix]; try rfl) (by rw [hE0]; unfold aMaO; rw [hix]; try rfl))
set_option maxHeartbeats 2000000 in
theorem ct_X4_leftover {l : Launch} {Γ : Gm} (hl : l.flags = flags0) (hΓ : GOK Γ) {z : ZR} {h : AH} {m : Nat} {B : GB} {k : Nat} {I : Nat → Int32} {D : Nat → Nat} (hz : zle (cst Γ) z) (Hm : rd z h m (cMd I D)) (hR0 : MrR Γ z h D (D 10) B) (hC : BC B) (hk : k < Bt B) : Ct l Γ yX4_leftover cX4_leftover 2 (some .boolean) 7 0 0 [.ref m, .int (nI k)] z h (RdP z h (some (.int (bI (lfN B k))))) := by
  refine Ct.of hl hΓ (by decide +kernel) (Nat.le_of_ble_eq_true rfl) (fun X e1 e2 C => ?_)
  subst e1; subst e2
  have C : Cx X cX4_leftover 2 "RingDominoModel" "leftover" (some .boolean) [] 7 := C
  have hR : MrP (xG X) z h m (D 10) B := ⟨I, D, Hm, hR0⟩
  obtain ⟨o, nn, rn, nu, tu, S, Ht, Hn, hnu, Hs, Ha, Hc, Hu, htu⟩ := id hR0
  have bp1 := hC.1.2.2.2.2.1
  have t1 := hC.1.2.1
  show WW X (RdP z h (some (.int (bI (lfN B k))))) z h 0 0 0 [(0, .ref m), (1, .int (nI k))] []
  refine ww_aload_n C dX4_leftover_0 rfl 0 rfl rfl ?_
  refine gf_X4_48_X4 C dX4_leftover_1 Hm rfl ?_
  refine gf_X4_293_X6 C dX4_leftover_4 Hs rfl ?_
  refine ww_iload_n C dX4_leftover_7 rfl 1 rfl ?_
  refine ww_iald C dX4_leftover_8 Hc (by omega) (by decide) ?_
  refine ww_iconst C dX4_leftover_9 cI_m1 ?_
  refine ww_icmp_ne_o (tgt := 30) C dX4_leftover_10 (by decide) (fun y q => Nat.lt_trans (bp1 k y q) (by decide)) (fun c_10 => ?_) (fun c_10 => ?_)
  · skip
    refine ww_iconst C dX4_leftover_30 cI_0 ?_
    exact ww_zret C dX4_leftover_31 nar_z0 (RdP.i (by unfold lfN; rw [show (Bp B k).isNone = false from by rw [← Option.not_isSome, Option.isSome_iff_ne_none.mpr c_10]; rfl]; try rfl))
  · skip
    refine ww_aload_n C dX4_leftover_13 rfl 0 rfl rfl ?_
    refine ww_aload_n C dX4_leftover_14 rfl 0 rfl rfl ?_
    refine gf_X4_48_X4 C dX4_leftover_15 Hm rfl ?_
    refine ww_iload_n C dX4_leftover_18 rfl 1 rfl ?_
    refine cv_X4_355_r (As := [.ref (D 10), .int (nI k)]) (rest := []) C dX4_leftover_19 (ct_X4_firstWay (Cx.fl C) (Cx.ok C) hz hR hC hk) (rc_X4 (Cx.ok C) Hm) rfl rfl (Nat.le_of_ble_eq_true rfl) (by decide) (Nat.zero_le _) (Nat.zero_le _) ?_
    refine ww_iconst C dX4_leftover_22 cI_m1 ?_
    refine ww_tern_icmp_ne_o C dX4_leftover_23 dX4_leftover_26 dX4_leftover_27 dX4_leftover_30 (fw_lt hC.1) ?_
    exact ww_zret C dX4_leftover_31 (nar_bI _) (RdP.i (by unfold lfN; rw [c_10, ← fw_wy]; try rfl))
set_option maxHeartbeats 2000000 in
theorem ct_X4_isLeftover {l : Launch} {Γ : Gm} (hl : l.flags = flags0) (hΓ : GOK Γ) {z : ZR} {h : AH} {B : GB} {M : MS} {D : Nat → Nat} {x : Int32} (hz : zle (cst Γ) z) (hX : Mx Γ h D M) (hb : MBd M 30 40 B) (hC : BC B) : Ct l Γ yX4_isLeftover cX4_isLeftover 2 (some .boolean) 8 0 0 [.ref (D 0), .int x] z h (Rv (Mq Γ z h D M (aLef B x))) := by
  refine Ct.of hl hΓ (by decide +kernel) (Nat.le_of_ble_eq_true rfl) (fun X e1 e2 C => ?_)
  subst e1; subst e2
  have C : Cx X cX4_isLeftover 2 "RingDominoModel" "isLeftover" (some .boolean) [] 8 := C
  have hB := hC.1
  obtain ⟨⟨⟨c1, c2⟩, ⟨r1, r2⟩⟩, t1, bl1, bu1, bp1, bn1⟩ := id hB
  have hzz := BO.z hB
  have hz0 : 0 < Bz B := Nat.mul_pos (by omega) (by omega)
  have X0 := hX.m
  have hR := Mx.n (z := z) hX hb
  have hP : MrP (xG X) z h (D 0) (D 10) B := ⟨_, D, Or.inl X0, hR⟩
  obtain ⟨o, nn, rn, nu, tu, S, Ht, Hn, hnu, Hs, Ha, Hc, Hu, htu⟩ := id hR
  show WW X (Rv (Mq (xG X) z h D M (aLef B x))) z h 0 0 0 [(0, .ref (D 0)), (1, .int x)] []
  refine ww_aload_n C dX4_isLeftover_0 rfl 0 rfl rfl ?_
  refine ww_iconst C dX4_isLeftover_1 cI_0 ?_
  refine pf_X4_65_X4 (fs' := [.int (nI 0), .ref (D 1), .int (M.1 1), .int (M.1 2), .ref (D 2), .ref (D 3), .ref (D 4), .ref (D 5), .int (M.1 3), .int (M.1 4), .int (M.1 5), .int (M.1 6), .int (M.1 7), .ref (D 6), .ref (D 7), .ref (D 8), .ref (D 9), .ref (D 10), .ref (D 11), .ref (D 12), .ref (D 13), .int (M.1 8), .int (M.1 9), .int (M.1 10)]) C dX4_isLeftover_2 X0 rfl rfl (Nat.le_of_ble_eq_true rfl) rfl ?_
  refine ww_gen (fun h1 hE1 => ?_)
  have X0_h1 : h1 (D 0) = some (.inr (3, [.int (nI 0), .ref (D 1), .int (M.1 1), .int (M.1 2), .ref (D 2), .ref (D 3), .ref (D 4), .ref (D 5), .int (M.1 3), .int (M.1 4), .int (M.1 5), .int (M.1 6), .int (M.1 7), .ref (D 6), .ref (D 7), .ref (D 8), .ref (D 9), .ref (D 10), .ref (D 11), .ref (D 12), .ref (D 13), .int (M.1 8), .int (M.1 9), .int (M.1 10)])) := by rw [hE1]; exact up_s
  have hX1 : Mx (xG X) h1 D (upd M.1 0 (nI 0), M.2) := by rw [hE1]; exact hX.thr _
  have hb1 : MBd (upd M.1 0 (nI 0), M.2) 30 40 B := hb.thr
  have hR1 := Mx.n (z := z) hX1 hb1
  have hP1 : MrP (xG X) z h1 (D 0) (D 10) B := ⟨_, D, Or.inl hX1.m, hR1⟩
  obtain ⟨o1, nn1, rn1, nu1, tu1, S1, Ht1, Hn1, hnu1, Hs1, Ha1, Hc1, Hu1, htu1⟩ := id hR1
  have hE0 : h1 = up h (D 0) (cMd (upd M.1 0 (nI 0)) D) := hE1
  have X1 := hX1.m
  refine ww_aload_n C dX4_isLeftover_5 rfl 0 rfl rfl ?_
  refine ww_iload_n C dX4_isLeftover_6 rfl 1 rfl ?_
  refine cv_X4_400_r (As := [.int x]) (rest := []) C dX4_isLeftover_7 (ct_X4_isTile (Cx.fl C) (Cx.ok C) hz hP1 hC) (rc_X4 (Cx.ok C) (Or.inl X1)) rfl rfl (Nat.le_of_ble_eq_true rfl) (by decide) (Nat.zero_le _) (Nat.zero_le _) ?_
  refine ww_if_eq_b (tgt := 21) C dX4_isLeftover_10 (by decide) (fun c_10 => ?_) (fun c_10 => ?_)
  · skip
    have hix := ixB_f c_10
    refine ww_aload_n C dX4_isLeftover_21 rfl 0 rfl rfl ?_
    refine ww_iconst C dX4_isLeftover_22 cI_1 ?_
    refine cv_X4_391_q (As := [.int (nI 1)]) (rest := []) C dX4_isLeftover_23 (ct_X4_isNot (Cx.fl C) (Cx.ok C) X1) (rc_X4 (Cx.ok C) (Or.inl X1)) rfl rfl (Nat.le_of_ble_eq_true rfl) (by decide) (Nat.zero_le _) (Nat.zero_le _) (fun v z9 h9 q => ?_)
    obtain ⟨rfl, hq1, hq2⟩ := q; replace hq1 := hq1.symm; subst hq1
    exact ww_zret C dX4_isLeftover_26 nar_z0 (Mq.of hX (by unfold aLef; rw [hix]; try rfl) (by rw [hq2, hE0, up_up, upd_upd]; unfold aLef; rw [hix]; try rfl))
  · skip
    obtain ⟨c, hc, hxc, hix⟩ := ixB_t (by omega) c_10
    subst hxc
    refine ww_aload_n C dX4_isLeftover_13 rfl 0 rfl rfl ?_
    refine ww_iload_n C dX4_isLeftover_14 rfl 1 rfl ?_
    refine cv_X4_409_r (As := [.int (nI c)]) (rest := []) C dX4_isLeftover_15 (ct_X4_leftover (Cx.fl C) (Cx.ok C) hz (Or.inl X1) hR1 hC hc) (rc_X4 (Cx.ok C) (Or.inl X1)) rfl rfl (Nat.le_of_ble_eq_true rfl) (by decide) (Nat.zero_le _) (Nat.zero_le _) ?_
    refine ww_goto (tgt := 26) C dX4_isLeftover_18 (by decide) ?_
    exact ww_zret C dX4_isLeftover_26 (nar_bI _) (Mq.of hX (by unfold aLef; rw [hix]; try rfl) (by rw [hE0]; unfold aLef; rw [hix]; try rfl))
set_option maxHeartbeats 2000000 in
theorem ct_X4_bestCell {l : Launch} {Γ : Gm} (hl : l.flags = flags0) (hΓ : GOK Γ) {z : ZR} {h : AH} {B : GB} {M : MS} {D : Nat → Nat} {x : Int32} (hz : zle (cst Γ) z) (hX : Mx Γ h D M) (hb : MBd M 30 40 B) (hC : BC B) : Ct l Γ yX4_bestCell cX4_bestCell 2 (some .int) 7 0 0 [.ref (D 0), .int x] z h (Rv (Mq Γ z h D M (aBeC B x))) := by
  refine Ct.of hl hΓ (by decide +kernel) (Nat.le_of_ble_eq_true rfl) (fun X e1 e2 C => ?_)
  subst e1; subst e2
  have C : Cx X cX4_bestCell 2 "RingDominoModel" "bestCell" (some .int) [] 7 := C
  have hB := hC.1
  obtain ⟨⟨⟨c1, c2⟩, ⟨r1, r2⟩⟩, t1, bl1, bu1, bp1, bn1⟩ := id hB
  have hzz := BO.z hB
  have hz0 : 0 < Bz B := Nat.mul_pos (by omega) (by omega)
  have X0 := hX.m
  have hR := Mx.n (z := z) hX hb
  have hP : MrP (xG X) z h (D 0) (D 10) B := ⟨_, D, Or.inl X0, hR⟩
  obtain ⟨o, nn, rn, nu, tu, S, Ht, Hn, hnu, Hs, Ha, Hc, Hu, htu⟩ := id hR
  show WW X (Rv (Mq (xG X) z h D M (aBeC B x))) z h 0 0 0 [(0, .ref (D 0)), (1, .int x)] []
  refine ww_aload_n C dX4_bestCell_0 rfl 0 rfl rfl ?_
  refine ww_iconst C dX4_bestCell_1 cI_0 ?_
  refine pf_X4_65_X4 (fs' := [.int (nI 0), .ref (D 1), .int (M.1 1), .int (M.1 2), .ref (D 2), .ref (D 3), .ref (D 4), .ref (D 5), .int (M.1 3), .int (M.1 4), .int (M.1 5), .int (M.1 6), .int (M.1 7), .ref (D 6), .ref (D 7), .ref (D 8), .ref (D 9), .ref (D 10), .ref (D 11), .ref (D 12), .ref (D 13), .int (M.1 8), .int (M.1 9), .int (M.1 10)]) C dX4_bestCell_2 X0 rfl rfl (Nat.le_of_ble_eq_true rfl) rfl ?_
  refine ww_gen (fun h1 hE1 => ?_)
  have X0_h1 : h1 (D 0) = some (.inr (3, [.int (nI 0), .ref (D 1), .int (M.1 1), .int (M.1 2), .ref (D 2), .ref (D 3), .ref (D 4), .ref (D 5), .int (M.1 3), .int (M.1 4), .int (M.1 5), .int (M.1 6), .int (M.1 7), .ref (D 6), .ref (D 7), .ref (D 8), .ref (D 9), .ref (D 10), .ref (D 11), .ref (D 12), .ref (D 13), .int (M.1 8), .int (M.1 9), .int (M.1 10)])) := by rw [hE1]; exact up_s
  have hX1 : Mx (xG X) h1 D (upd M.1 0 (nI 0), M.2) := by rw [hE1]; exact hX.thr _
  have hb1 : MBd (upd M.1 0 (nI 0), M.2) 30 40 B := hb.thr
  have hR1 := Mx.n (z := z) hX1 hb1
  have hP1 : MrP (xG X) z h1 (D 0) (D 10) B := ⟨_, D, Or.inl hX1.m, hR1⟩
  obtain ⟨o1, nn1, rn1, nu1, tu1, S1, Ht1, Hn1, hnu1, Hs1, Ha1, Hc1, Hu1, htu1⟩ := id hR1
  have hE0 : h1 = up h (D 0) (cMd (upd M.1 0 (nI 0)) D) := hE1
  have X1 := hX1.m
  refine ww_aload_n C dX4_bestCell_5 rfl 0 rfl rfl ?_
  refine ww_iload_n C dX4_bestCell_6 rfl 1 rfl ?_
  refine cv_X4_400_r (As := [.int x]) (rest := []) C dX4_bestCell_7 (ct_X4_isTile (Cx.fl C) (Cx.ok C) hz hP1 hC) (rc_X4 (Cx.ok C) (Or.inl X1)) rfl rfl (Nat.le_of_ble_eq_true rfl) (by decide) (Nat.zero_le _) (Nat.zero_le _) ?_
  refine ww_if_ne_b (tgt := 19) C dX4_bestCell_10 (by decide) (fun c_10 => ?_) (fun c_10 => ?_)
  · skip
    obtain ⟨c, hc, hxc, hix⟩ := ixB_t (by omega) c_10
    subst hxc
    refine ww_aload_n C dX4_bestCell_19 rfl 0 rfl rfl ?_
    refine ww_aload_n C dX4_bestCell_20 rfl 0 rfl rfl ?_
    refine gf_X4_48_X4 C dX4_bestCell_21 (Or.inl X1) rfl ?_
    refine ww_iload_n C dX4_bestCell_24 rfl 1 rfl ?_
    refine cv_X4_418_q (As := [.ref (D 10), .int (nI c)]) (rest := []) C dX4_bestCell_25 (ct_X4_hasBest (Cx.fl C) (Cx.ok C) hz X1 hR1 hC hc) (rc_X4 (Cx.ok C) (Or.inl X1)) rfl rfl (Nat.le_of_ble_eq_true rfl) (by decide) (Nat.zero_le _) (Nat.zero_le _) (fun v z8 h8 q => ?_)
    obtain ⟨rfl, hq3, hq4⟩ := q; replace hq3 := hq3.symm; subst hq3
    have X8 : h8 (D 0) = some (cMd (bgI (upd M.1 0 (nI 0)) B c (6 * Bz B)) D) := by rw [hq4]; exact up_s
    rw [hE0, up_up] at hq4
    refine ww_if_eq_b (tgt := 38) C dX4_bestCell_28 (by decide) (fun c_28 => ?_) (fun c_28 => ?_)
    · skip
      have hb0 : bwN B c (6 * Bz B) = none := by cases hb : bwN B c (6 * Bz B) with | none => rfl | some r => rw [hb] at c_28; cases c_28
      refine ww_aload_n C dX4_bestCell_38 rfl 0 rfl rfl ?_
      refine ww_iconst C dX4_bestCell_39 cI_2 ?_
      refine cv_X4_254_q (As := [.int (nI 2)]) (rest := []) C dX4_bestCell_40 (ct_X4_no (Cx.fl C) (Cx.ok C) X8) (rc_X4 (Cx.ok C) (Or.inl X8)) rfl rfl (Nat.le_of_ble_eq_true rfl) (by decide) (Nat.zero_le _) (Nat.zero_le _) (fun v z9 h9 q => ?_)
      obtain ⟨rfl, hq1, hq2⟩ := q; replace hq1 := hq1.symm; subst hq1
      exact ww_iret C dX4_bestCell_43 (Mq.ofI hX (by unfold aBeC; rw [hix]; simp only [hb0]; try rfl) (I1 := bgI (upd M.1 0 (nI 0)) B c (6 * Bz B)) (fun j hj => bgI_mag hj) (by rw [hq2, hq4, up_up]; unfold aBeC; rw [hix]; simp only [hb0]; try rfl))
    · skip
      obtain ⟨⟨wy, pp⟩, hbw⟩ := Option.isSome_iff_exists.mp c_28
      refine ww_aload_n C dX4_bestCell_31 rfl 0 rfl rfl ?_
      refine gf_X4_337_X4 C dX4_bestCell_32 (Or.inl X8) rfl ?_
      refine ww_goto (tgt := 43) C dX4_bestCell_35 (by decide) ?_
      exact ww_iret C dX4_bestCell_43 (Mq.ofI hX (by unfold aBeC; rw [hix]; simp only [hbw]; unfold bgI; rw [hbw]; try rfl) (I1 := bgI (upd M.1 0 (nI 0)) B c (6 * Bz B)) (fun j hj => bgI_mag hj) (by rw [hq4]; congr 2; funext j; by_cases hj : j = 0; { subst hj; rw [bgI_lo (by decide)]; unfold aBeC; rw [hix]; simp only [hbw]; rfl }; { rw [upd_ne hj] }))
  · skip
    have hix := ixB_f c_10
    refine ww_aload_n C dX4_bestCell_13 rfl 0 rfl rfl ?_
    refine ww_iconst C dX4_bestCell_14 cI_1 ?_
    refine cv_X4_254_q (As := [.int (nI 1)]) (rest := []) C dX4_bestCell_15 (ct_X4_no (Cx.fl C) (Cx.ok C) X1) (rc_X4 (Cx.ok C) (Or.inl X1)) rfl rfl (Nat.le_of_ble_eq_true rfl) (by decide) (Nat.zero_le _) (Nat.zero_le _) (fun v z9 h9 q => ?_)
    obtain ⟨rfl, hq1, hq2⟩ := q; replace hq1 := hq1.symm; subst hq1
    exact ww_iret C dX4_bestCell_18 (Mq.of hX (by unfold aBeC; rw [hix]; try rfl) (by rw [hq2, hE0, up_up, upd_upd]; unfold aBeC; rw [hix]; try rfl))
set_option maxHeartbeats 2000000 in
theorem ct_X4_bestTurn {l : Launch} {Γ : Gm} (hl : l.flags = flags0) (hΓ : GOK Γ) {z : ZR} {h : AH} {B : GB} {M : MS} {D : Nat → Nat} {x : Int32} (hz : zle (cst Γ) z) (hX : Mx Γ h D M) (hb : MBd M 30 40 B) (hC : BC B) : Ct l Γ yX4_bestTurn cX4_bestTurn 2 (some .int) 7 0 0 [.ref (D 0), .int x] z h (Rv (Mq Γ z h D M (aBeT B x))) := by
  refine Ct.of hl hΓ (by decide +kernel) (Nat.le_of_ble_eq_true rfl) (fun X e1 e2 C => ?_)
  subst e1; subst e2
  have C : Cx X cX4_bestTurn 2 "RingDominoModel" "bestTurn" (some .int) [] 7 := C
  have hB := hC.1
  obtain ⟨⟨⟨c1, c2⟩, ⟨r1, r2⟩⟩, t1, bl1, bu1, bp1, bn1⟩ := id hB
  have hzz := BO.z hB
  have hz0 : 0 < Bz B := Nat.mul_pos (by omega) (by omega)
  have X0 := hX.m
  have hR := Mx.n (z := z) hX hb
  have hP : MrP (xG X) z h (D 0) (D 10) B := ⟨_, D, Or.inl X0, hR⟩
  obtain ⟨o, nn, rn, nu, tu, S, Ht, Hn, hnu, Hs, Ha, Hc, Hu, htu⟩ := id hR
  show WW X (Rv (Mq (xG X) z h D M (aBeT B x))) z h 0 0 0 [(0, .ref (D 0)), (1, .int x)] []
  refine ww_aload_n C dX4_bestTurn_0 rfl 0 rfl rfl ?_
  refine ww_iconst C dX4_bestTurn_1 cI_0 ?_
  refine pf_X4_65_X4 (fs' := [.int (nI 0), .ref (D 1), .int (M.1 1), .int (M.1 2), .ref (D 2), .ref (D 3), .ref (D 4), .ref (D 5), .int (M.1 3), .int (M.1 4), .int (M.1 5), .int (M.1 6), .int (M.1 7), .ref (D 6), .ref (D 7), .ref (D 8), .ref (D 9), .ref (D 10), .ref (D 11), .ref (D 12), .ref (D 13), .int (M.1 8), .int (M.1 9), .int (M.1 10)]) C dX4_bestTurn_2 X0 rfl rfl (Nat.le_of_ble_eq_true rfl) rfl ?_
  refine ww_gen (fun h1 hE1 => ?_)
  have X0_h1 : h1 (D 0) = some (.inr (3, [.int (nI 0), .ref (D 1), .int (M.1 1), .int (M.1 2), .ref (D 2), .ref (D 3), .ref (D 4), .ref (D 5), .int (M.1 3), .int (M.1 4), .int (M.1 5), .int (M.1 6), .int (M.1 7), .ref (D 6), .ref (D 7), .ref (D 8), .ref (D 9), .ref (D 10), .ref (D 11), .ref (D 12), .ref (D 13), .int (M.1 8), .int (M.1 9), .int (M.1 10)])) := by rw [hE1]; exact up_s
  have hX1 : Mx (xG X) h1 D (upd M.1 0 (nI 0), M.2) := by rw [hE1]; exact hX.thr _
  have hb1 : MBd (upd M.1 0 (nI 0), M.2) 30 40 B := hb.thr
  have hR1 := Mx.n (z := z) hX1 hb1
  have hP1 : MrP (xG X) z h1 (D 0) (D 10) B := ⟨_, D, Or.inl hX1.m, hR1⟩
  obtain ⟨o1, nn1, rn1, nu1, tu1, S1, Ht1, Hn1, hnu1, Hs1, Ha1, Hc1, Hu1, htu1⟩ := id hR1
  have hE0 : h1 = up h (D 0) (cMd (upd M.1 0 (nI 0)) D) := hE1
  have X1 := hX1.m
  refine ww_aload_n C dX4_bestTurn_5 rfl 0 rfl rfl ?_
  refine ww_iload_n C dX4_bestTurn_6 rfl 1 rfl ?_
  refine cv_X4_400_r (As := [.int x]) (rest := []) C dX4_bestTurn_7 (ct_X4_isTile (Cx.fl C) (Cx.ok C) hz hP1 hC) (rc_X4 (Cx.ok C) (Or.inl X1)) rfl rfl (Nat.le_of_ble_eq_true rfl) (by decide) (Nat.zero_le _) (Nat.zero_le _) ?_
  refine ww_if_ne_b (tgt := 19) C dX4_bestTurn_10 (by decide) (fun c_10 => ?_) (fun c_10 => ?_)
  · skip
    obtain ⟨c, hc, hxc, hix⟩ := ixB_t (by omega) c_10
    subst hxc
    refine ww_aload_n C dX4_bestTurn_19 rfl 0 rfl rfl ?_
    refine ww_aload_n C dX4_bestTurn_20 rfl 0 rfl rfl ?_
    refine gf_X4_48_X4 C dX4_bestTurn_21 (Or.inl X1) rfl ?_
    refine ww_iload_n C dX4_bestTurn_24 rfl 1 rfl ?_
    refine cv_X4_418_q (As := [.ref (D 10), .int (nI c)]) (rest := []) C dX4_bestTurn_25 (ct_X4_hasBest (Cx.fl C) (Cx.ok C) hz X1 hR1 hC hc) (rc_X4 (Cx.ok C) (Or.inl X1)) rfl rfl (Nat.le_of_ble_eq_true rfl) (by decide) (Nat.zero_le _) (Nat.zero_le _) (fun v z8 h8 q => ?_)
    obtain ⟨rfl, hq3, hq4⟩ := q; replace hq3 := hq3.symm; subst hq3
    have X8 : h8 (D 0) = some (cMd (bgI (upd M.1 0 (nI 0)) B c (6 * Bz B)) D) := by rw [hq4]; exact up_s
    rw [hE0, up_up] at hq4
    refine ww_if_eq_b (tgt := 38) C dX4_bestTurn_28 (by decide) (fun c_28 => ?_) (fun c_28 => ?_)
    · skip
      have hb0 : bwN B c (6 * Bz B) = none := by cases hb : bwN B c (6 * Bz B) with | none => rfl | some r => rw [hb] at c_28; cases c_28
      refine ww_aload_n C dX4_bestTurn_38 rfl 0 rfl rfl ?_
      refine ww_iconst C dX4_bestTurn_39 cI_2 ?_
      refine cv_X4_254_q (As := [.int (nI 2)]) (rest := []) C dX4_bestTurn_40 (ct_X4_no (Cx.fl C) (Cx.ok C) X8) (rc_X4 (Cx.ok C) (Or.inl X8)) rfl rfl (Nat.le_of_ble_eq_true rfl) (by decide) (Nat.zero_le _) (Nat.zero_le _) (fun v z9 h9 q => ?_)
      obtain ⟨rfl, hq1, hq2⟩ := q; replace hq1 := hq1.symm; subst hq1
      exact ww_iret C dX4_bestTurn_43 (Mq.ofI hX (by unfold aBeT; rw [hix]; simp only [hb0]; try rfl) (I1 := bgI (upd M.1 0 (nI 0)) B c (6 * Bz B)) (fun j hj => bgI_mag hj) (by rw [hq2, hq4, up_up]; unfold aBeT; rw [hix]; simp only [hb0]; try rfl))
    · skip
      obtain ⟨⟨wy, pp⟩, hbw⟩ := Option.isSome_iff_exists.mp c_28
      refine ww_aload_n C dX4_bestTurn_31 rfl 0 rfl rfl ?_
      refine gf_X4_340_X4 C dX4_bestTurn_32 (Or.inl X8) rfl ?_
      refine ww_goto (tgt := 43) C dX4_bestTurn_35 (by decide) ?_
      exact ww_iret C dX4_bestTurn_43 (Mq.ofI hX (by unfold aBeT; rw [hix]; simp only [hbw]; unfold bgI; rw [hbw]; try rfl) (I1 := bgI (upd M.1 0 (nI 0)) B c (6 * Bz B)) (fun j hj => bgI_mag hj) (by rw [hq4]; congr 2; funext j; by_cases hj : j = 0; { subst hj; rw [bgI_lo (by decide)]; unfold aBeT; rw [hix]; simp only [hbw]; rfl }; { rw [upd_ne hj] }))
  · skip
    have hix := ixB_f c_10
    refine ww_aload_n C dX4_bestTurn_13 rfl 0 rfl rfl ?_
    refine ww_iconst C dX4_bestTurn_14 cI_1 ?_
    refine cv_X4_254_q (As := [.int (nI 1)]) (rest := []) C dX4_bestTurn_15 (ct_X4_no (Cx.fl C) (Cx.ok C) X1) (rc_X4 (Cx.ok C) (Or.inl X1)) rfl rfl (Nat.le_of_ble_eq_true rfl) (by decide) (Nat.zero_le _) (Nat.zero_le _) (fun v z9 h9 q => ?_)
    obtain ⟨rfl, hq1, hq2⟩ := q; replace hq1 := hq1.symm; subst hq1
    exact ww_iret C dX4_bestTurn_18 (Mq.of hX (by unfold aBeT; rw [hix]; try rfl) (by rw [hq2, hE0, up_up, upd_upd]; unfold aBeT; rw [hix]; try rfl))
end MO3
