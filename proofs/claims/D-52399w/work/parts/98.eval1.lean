section EV1
set_option maxRecDepth 100000
set_option maxHeartbeats 2000000 in
theorem ct_X30_join {l : Launch} {Γ : Gm} (hl : l.flags = flags0) (hΓ : GOK Γ) {z : ZR} {h : AH} {s : Nat} {x y : Int32}  : CtY l Γ yX30_join cX30_join 3 (some .int) 2 0 0 [.ref s, .int x, .int y] z h (RdP z h (some (.int (jnI 40 x y)))) := by
  refine CtY.of hl hΓ (by decide +kernel) (Nat.le_of_ble_eq_true rfl) (fun X e1 e2 C => ?_)
  subst e1; subst e2
  have C : Cx X cX30_join 3 "RingDomino$Sign$1" "join" (some .int) [] 2 := C
  show WW X (RdP z h (some (.int (jnI 40 x y)))) z h 0 0 0 [(0, .ref s), (1, .int x), (2, .int y)] []
  refine ww_iload_n C dX30_join_0 rfl 1 rfl ?_
  refine ww_iload_n C dX30_join_1 rfl 2 rfl ?_
  refine ww_iadd C dX30_join_2 ?_
  exact ww_iret C dX30_join_3 (RdP.i (by rfl))
set_option maxHeartbeats 2000000 in
theorem ct_X31_join {l : Launch} {Γ : Gm} (hl : l.flags = flags0) (hΓ : GOK Γ) {z : ZR} {h : AH} {s : Nat} {x y : Int32}  : CtY l Γ yX31_join cX31_join 3 (some .int) 2 0 0 [.ref s, .int x, .int y] z h (RdP z h (some (.int (jnI 41 x y)))) := by
  refine CtY.of hl hΓ (by decide +kernel) (Nat.le_of_ble_eq_true rfl) (fun X e1 e2 C => ?_)
  subst e1; subst e2
  have C : Cx X cX31_join 3 "RingDomino$Sign$2" "join" (some .int) [] 2 := C
  show WW X (RdP z h (some (.int (jnI 41 x y)))) z h 0 0 0 [(0, .ref s), (1, .int x), (2, .int y)] []
  refine ww_iload_n C dX31_join_0 rfl 1 rfl ?_
  refine ww_iload_n C dX31_join_1 rfl 2 rfl ?_
  refine ww_isub C dX31_join_2 ?_
  exact ww_iret C dX31_join_3 (RdP.i (by rfl))
set_option maxHeartbeats 2000000 in
theorem ct_X32_join {l : Launch} {Γ : Gm} (hl : l.flags = flags0) (hΓ : GOK Γ) {z : ZR} {h : AH} {s : Nat} {x y : Int32}  : CtY l Γ yX32_join cX32_join 3 (some .int) 2 0 0 [.ref s, .int x, .int y] z h (RdP z h (some (.int (jnI 42 x y)))) := by
  refine CtY.of hl hΓ (by decide +kernel) (Nat.le_of_ble_eq_true rfl) (fun X e1 e2 C => ?_)
  subst e1; subst e2
  have C : Cx X cX32_join 3 "RingDomino$Sign$3" "join" (some .int) [] 2 := C
  show WW X (RdP z h (some (.int (jnI 42 x y)))) z h 0 0 0 [(0, .ref s), (1, .int x), (2, .int y)] []
  refine ww_iload_n C dX32_join_0 rfl 1 rfl ?_
  refine ww_iload_n C dX32_join_1 rfl 2 rfl ?_
  refine ww_imul C dX32_join_2 ?_
  exact ww_iret C dX32_join_3 (RdP.i (by rfl))
set_option maxHeartbeats 2000000 in
theorem ct_X33_join {l : Launch} {Γ : Gm} (hl : l.flags = flags0) (hΓ : GOK Γ) {z : ZR} {h : AH} {s : Nat} {x y : Int32}  : CtY l Γ yX33_join cX33_join 3 (some .int) 2 0 0 [.ref s, .int x, .int y] z h (RdP z h (some (.int (jnI 43 x y)))) := by
  refine CtY.of hl hΓ (by decide +kernel) (Nat.le_of_ble_eq_true rfl) (fun X e1 e2 C => ?_)
  subst e1; subst e2
  have C : Cx X cX33_join 3 "RingDomino$Sign$4" "join" (some .int) [] 2 := C
  show WW X (RdP z h (some (.int (jnI 43 x y)))) z h 0 0 0 [(0, .ref s), (1, .int x), (2, .int y)] []
  refine ww_iload_n C dX33_join_0 rfl 2 rfl ?_
  refine ww_if_ne (tgt := 8) C dX33_join_1 (by decide) (fun c_1 => ?_) (fun c_1 => ?_)
  · skip
    refine ww_iload_n C dX33_join_8 rfl 1 rfl ?_
    refine ww_iload_n C dX33_join_9 rfl 2 rfl ?_
    refine ww_idiv C dX33_join_10 c_1 ?_
    exact ww_iret C dX33_join_11 (RdP.i (by show _ = (if y = 0 then 0 else x / y); rw [if_neg c_1]))
  · skip
    refine ww_iconst C dX33_join_4 cI_0 ?_
    refine ww_goto (tgt := 11) C dX33_join_5 (by decide) ?_
    exact ww_iret C dX33_join_11 (RdP.i (by show _ = (if y = 0 then 0 else x / y); rw [if_pos c_1]; try rfl))
set_option maxHeartbeats 2000000 in
theorem ct_X34_join {l : Launch} {Γ : Gm} (hl : l.flags = flags0) (hΓ : GOK Γ) {z : ZR} {h : AH} {s : Nat} {x y : Int32}  : CtY l Γ yX34_join cX34_join 3 (some .int) 2 0 0 [.ref s, .int x, .int y] z h (RdP z h (some (.int (jnI 22 x y)))) := by
  refine CtY.of hl hΓ (by decide +kernel) (Nat.le_of_ble_eq_true rfl) (fun X e1 e2 C => ?_)
  subst e1; subst e2
  have C : Cx X cX34_join 3 "RingDomino$Sign$5" "join" (some .int) [] 2 := C
  show WW X (RdP z h (some (.int (jnI 22 x y)))) z h 0 0 0 [(0, .ref s), (1, .int x), (2, .int y)] []
  refine ww_iload_n C dX34_join_0 rfl 1 rfl ?_
  refine ww_iload_n C dX34_join_1 rfl 2 rfl ?_
  refine cs_X34_7_r (As := [.int x, .int y]) (rest := []) C dX34_join_2 (ct_J14_minI (Cx.fl C) (Cx.ok C)) rfl rfl (Nat.le_of_ble_eq_true rfl) (by decide) (Nat.zero_le _) (Nat.zero_le _) ?_
  exact ww_iret C dX34_join_5 (RdP.i (by rfl))
set_option maxHeartbeats 2000000 in
theorem ct_X35_join {l : Launch} {Γ : Gm} (hl : l.flags = flags0) (hΓ : GOK Γ) {z : ZR} {h : AH} {s : Nat} {x y : Int32}  : CtY l Γ yX35_join cX35_join 3 (some .int) 2 0 0 [.ref s, .int x, .int y] z h (RdP z h (some (.int (jnI 23 x y)))) := by
  refine CtY.of hl hΓ (by decide +kernel) (Nat.le_of_ble_eq_true rfl) (fun X e1 e2 C => ?_)
  subst e1; subst e2
  have C : Cx X cX35_join 3 "RingDomino$Sign$6" "join" (some .int) [] 2 := C
  show WW X (RdP z h (some (.int (jnI 23 x y)))) z h 0 0 0 [(0, .ref s), (1, .int x), (2, .int y)] []
  refine ww_iload_n C dX35_join_0 rfl 1 rfl ?_
  refine ww_iload_n C dX35_join_1 rfl 2 rfl ?_
  refine cs_X35_7_r (As := [.int x, .int y]) (rest := []) C dX35_join_2 (ct_J14_maxI (Cx.fl C) (Cx.ok C)) rfl rfl (Nat.le_of_ble_eq_true rfl) (by decide) (Nat.zero_le _) (Nat.zero_le _) ?_
  exact ww_iret C dX35_join_5 (RdP.i (by rfl))
set_option maxHeartbeats 2000000 in
theorem ct_X27_of {l : Launch} {Γ : Gm} (hl : l.flags = flags0) (hΓ : GOK Γ) {z : ZR} {h : AH} {s g : Nat} {A : Nat → Nat} {B : GB} {rn dn : Int32} {k : Int32} (hz : zle (cst Γ) z) (hG : GmP Γ z h g A B rn dn) (hC : BC B) : CtY l Γ yX27_of cX27_of 3 (some .int) 8 0 0 [.ref s, .ref g, .int k] z h (RdP z h (some (.int rn))) := by
  refine CtY.of hl hΓ (by decide +kernel) (Nat.le_of_ble_eq_true rfl) (fun X e1 e2 C => ?_)
  subst e1; subst e2
  have C : Cx X cX27_of 3 "RingDomino$What$1" "of" (some .int) [] 8 := C
  have hB := hC.1
  have hbl := BO.l hB
  have hzz := BO.z hB
  have Hg := hG.1
  show WW X (RdP z h (some (.int rn))) z h 0 0 0 [(0, .ref s), (1, .ref g), (2, .int k)] []
  refine ww_aload_n C dX27_of_0 rfl 1 rfl rfl ?_
  refine gf_X27_7_X3 C dX27_of_1 Hg rfl ?_
  exact ww_iret C dX27_of_4 (RdP.i (by rfl))
set_option maxHeartbeats 2000000 in
theorem ct_X36_of {l : Launch} {Γ : Gm} (hl : l.flags = flags0) (hΓ : GOK Γ) {z : ZR} {h : AH} {s g : Nat} {A : Nat → Nat} {B : GB} {rn dn : Int32} {k : Int32} (hz : zle (cst Γ) z) (hG : GmP Γ z h g A B rn dn) (hC : BC B) : CtY l Γ yX36_of cX36_of 3 (some .int) 8 0 0 [.ref s, .ref g, .int k] z h (RdP z h (some (.int (nI (plN B))))) := by
  refine CtY.of hl hΓ (by decide +kernel) (Nat.le_of_ble_eq_true rfl) (fun X e1 e2 C => ?_)
  subst e1; subst e2
  have C : Cx X cX36_of 3 "RingDomino$What$2" "of" (some .int) [] 8 := C
  have hB := hC.1
  have hbl := BO.l hB
  have hzz := BO.z hB
  have Hg := hG.1
  show WW X (RdP z h (some (.int (nI (plN B))))) z h 0 0 0 [(0, .ref s), (1, .ref g), (2, .int k)] []
  refine ww_aload_n C dX36_of_0 rfl 1 rfl rfl ?_
  refine cv_X36_7_r (As := []) (rest := []) C dX36_of_1 (ct_X3_placed (Cx.fl C) (Cx.ok C) hG hB.1 hbl) (rc_X3 (Cx.ok C) Hg) rfl rfl (Nat.le_of_ble_eq_true rfl) (by decide) (Nat.zero_le _) (Nat.zero_le _) ?_
  exact ww_iret C dX36_of_4 (RdP.i (by rfl))
set_option maxHeartbeats 2000000 in
theorem ct_X37_of {l : Launch} {Γ : Gm} (hl : l.flags = flags0) (hΓ : GOK Γ) {z : ZR} {h : AH} {s g : Nat} {A : Nat → Nat} {B : GB} {rn dn : Int32} {k : Int32} (hz : zle (cst Γ) z) (hG : GmP Γ z h g A B rn dn) (hC : BC B) : CtY l Γ yX37_of cX37_of 3 (some .int) 8 0 0 [.ref s, .ref g, .int k] z h (RdP z h (some (.int (nI (maN B))))) := by
  refine CtY.of hl hΓ (by decide +kernel) (Nat.le_of_ble_eq_true rfl) (fun X e1 e2 C => ?_)
  subst e1; subst e2
  have C : Cx X cX37_of 3 "RingDomino$What$3" "of" (some .int) [] 8 := C
  have hB := hC.1
  have hbl := BO.l hB
  have hzz := BO.z hB
  have Hg := hG.1
  show WW X (RdP z h (some (.int (nI (maN B))))) z h 0 0 0 [(0, .ref s), (1, .ref g), (2, .int k)] []
  refine ww_aload_n C dX37_of_0 rfl 1 rfl rfl ?_
  refine cv_X37_7_r (As := []) (rest := []) C dX37_of_1 (ct_X3_matches (Cx.fl C) (Cx.ok C) hG hB.1 hbl) (rc_X3 (Cx.ok C) Hg) rfl rfl (Nat.le_of_ble_eq_true rfl) (by decide) (Nat.zero_le _) (Nat.zero_le _) ?_
  exact ww_iret C dX37_of_4 (RdP.i (by rfl))
set_option maxHeartbeats 2000000 in
theorem ct_X38_of {l : Launch} {Γ : Gm} (hl : l.flags = flags0) (hΓ : GOK Γ) {z : ZR} {h : AH} {s g : Nat} {A : Nat → Nat} {B : GB} {rn dn : Int32} {k : Int32} (hz : zle (cst Γ) z) (hG : GmP Γ z h g A B rn dn) (hC : BC B) : CtY l Γ yX38_of cX38_of 3 (some .int) 8 0 0 [.ref s, .ref g, .int k] z h (RdP z h (some (.int (nI (poN B))))) := by
  refine CtY.of hl hΓ (by decide +kernel) (Nat.le_of_ble_eq_true rfl) (fun X e1 e2 C => ?_)
  subst e1; subst e2
  have C : Cx X cX38_of 3 "RingDomino$What$4" "of" (some .int) [] 8 := C
  have hB := hC.1
  have hbl := BO.l hB
  have hzz := BO.z hB
  have Hg := hG.1
  show WW X (RdP z h (some (.int (nI (poN B))))) z h 0 0 0 [(0, .ref s), (1, .ref g), (2, .int k)] []
  refine ww_aload_n C dX38_of_0 rfl 1 rfl rfl ?_
  refine cv_X38_7_r (As := []) (rest := []) C dX38_of_1 (ct_X3_points (Cx.fl C) (Cx.ok C) hz hG hB) (rc_X3 (Cx.ok C) Hg) rfl rfl (Nat.le_of_ble_eq_true rfl) (by decide) (Nat.zero_le _) (Nat.zero_le _) ?_
  exact ww_iret C dX38_of_4 (RdP.i (by rfl))
set_option maxHeartbeats 2000000 in
theorem ct_X39_of {l : Launch} {Γ : Gm} (hl : l.flags = flags0) (hΓ : GOK Γ) {z : ZR} {h : AH} {s g : Nat} {A : Nat → Nat} {B : GB} {rn dn : Int32} {k : Int32} (hz : zle (cst Γ) z) (hG : GmP Γ z h g A B rn dn) (hC : BC B) : CtY l Γ yX39_of cX39_of 3 (some .int) 8 0 0 [.ref s, .ref g, .int k] z h (RdP z h (some (.int (nI (rgN B))))) := by
  refine CtY.of hl hΓ (by decide +kernel) (Nat.le_of_ble_eq_true rfl) (fun X e1 e2 C => ?_)
  subst e1; subst e2
  have C : Cx X cX39_of 3 "RingDomino$What$5" "of" (some .int) [] 8 := C
  have hB := hC.1
  have hbl := BO.l hB
  have hzz := BO.z hB
  have Hg := hG.1
  show WW X (RdP z h (some (.int (nI (rgN B))))) z h 0 0 0 [(0, .ref s), (1, .ref g), (2, .int k)] []
  refine ww_aload_n C dX39_of_0 rfl 1 rfl rfl ?_
  refine cv_X39_7_r (As := []) (rest := []) C dX39_of_1 (ct_X3_rings (Cx.fl C) (Cx.ok C) hG hB.1 hbl) (rc_X3 (Cx.ok C) Hg) rfl rfl (Nat.le_of_ble_eq_true rfl) (by decide) (Nat.zero_le _) (Nat.zero_le _) ?_
  exact ww_iret C dX39_of_4 (RdP.i (by rfl))
set_option maxHeartbeats 2000000 in
theorem ct_X40_of {l : Launch} {Γ : Gm} (hl : l.flags = flags0) (hΓ : GOK Γ) {z : ZR} {h : AH} {s g : Nat} {A : Nat → Nat} {B : GB} {rn dn : Int32} {k : Int32} (hz : zle (cst Γ) z) (hG : GmP Γ z h g A B rn dn) (hC : BC B) : CtY l Γ yX40_of cX40_of 3 (some .int) 8 0 0 [.ref s, .ref g, .int k] z h (RdP z h (some (.int (nI (Bz B - plN B))))) := by
  refine CtY.of hl hΓ (by decide +kernel) (Nat.le_of_ble_eq_true rfl) (fun X e1 e2 C => ?_)
  subst e1; subst e2
  have C : Cx X cX40_of 3 "RingDomino$What$6" "of" (some .int) [] 8 := C
  have hB := hC.1
  have hbl := BO.l hB
  have hzz := BO.z hB
  have Hg := hG.1
  have hpl : plN B ≤ Bz B := cnt_le _ _
  show WW X (RdP z h (some (.int (nI (Bz B - plN B))))) z h 0 0 0 [(0, .ref s), (1, .ref g), (2, .int k)] []
  refine ww_aload_n C dX40_of_0 rfl 1 rfl rfl ?_
  refine cv_X40_7_r (As := []) (rest := []) C dX40_of_1 (ct_X3_cells (Cx.fl C) (Cx.ok C) hG hB.1) (rc_X3 (Cx.ok C) Hg) rfl rfl (Nat.le_of_ble_eq_true rfl) (by decide) (Nat.zero_le _) (Nat.zero_le _) ?_
  refine ww_aload_n C dX40_of_4 rfl 1 rfl rfl ?_
  refine cv_X40_13_r (As := []) (rest := [.int (nI (Bz B))]) C dX40_of_5 (ct_X3_placed (Cx.fl C) (Cx.ok C) hG hB.1 hbl) (rc_X3 (Cx.ok C) Hg) rfl rfl (Nat.le_of_ble_eq_true rfl) (by decide) (Nat.zero_le _) (Nat.zero_le _) ?_
  refine ww_isubn C dX40_of_8 (by omega) ?_
  exact ww_iret C dX40_of_9 (RdP.i (by rfl))
set_option maxHeartbeats 2000000 in
theorem ct_X41_of {l : Launch} {Γ : Gm} (hl : l.flags = flags0) (hΓ : GOK Γ) {z : ZR} {h : AH} {s g : Nat} {A : Nat → Nat} {B : GB} {rn dn : Int32} {k : Nat} (hz : zle (cst Γ) z) (hG : GmP Γ z h g A B rn dn) (hC : BC B) (hk : k < Bt B) : CtY l Γ yX41_of cX41_of 3 (some .int) 8 0 0 [.ref s, .ref g, .int (nI k)] z h (RdP z h (some (.int (nI (wyN B k))))) := by
  refine CtY.of hl hΓ (by decide +kernel) (Nat.le_of_ble_eq_true rfl) (fun X e1 e2 C => ?_)
  subst e1; subst e2
  have C : Cx X cX41_of 3 "RingDomino$What$7" "of" (some .int) [] 8 := C
  have hB := hC.1
  have hbl := BO.l hB
  have hzz := BO.z hB
  have Hg := hG.1
  show WW X (RdP z h (some (.int (nI (wyN B k))))) z h 0 0 0 [(0, .ref s), (1, .ref g), (2, .int (nI k))] []
  refine ww_aload_n C dX41_of_0 rfl 1 rfl rfl ?_
  refine ww_iload_n C dX41_of_1 rfl 2 rfl ?_
  refine cv_X41_7_r (As := [.int (nI k)]) (rest := []) C dX41_of_2 (ct_X3_ways (Cx.fl C) (Cx.ok C) hz hG hB hk) (rc_X3 (Cx.ok C) Hg) rfl rfl (Nat.le_of_ble_eq_true rfl) (by decide) (Nat.zero_le _) (Nat.zero_le _) ?_
  exact ww_iret C dX41_of_5 (RdP.i (by rfl))
set_option maxHeartbeats 2000000 in
theorem ct_X13_of {l : Launch} {Γ : Gm} (hl : l.flags = flags0) (hΓ : GOK Γ) {z : ZR} {h : AH} {a g : Nat} {x : Int32} {d9 : Nat} (Ha : rd z h a (.inr (11, [.int x]))) (hd9 : 1 ≤ d9) : Ct l Γ yX13_of cX13_of 2 (some .int) d9 0 0 [.ref a, .ref g] z h (RdP z h (some (.int x))) := by
  refine Ct.of hl hΓ (by decide +kernel) (Nat.le_of_ble_eq_true rfl) (fun X e1 e2 C => ?_)
  subst e1; subst e2
  have C : Cx X cX13_of 2 "RingDomino$Plain" "of" (some .int) [] d9 := C
  show WW X (RdP z h (some (.int x))) z h 0 0 0 [(0, .ref a), (1, .ref g)] []
  refine ww_aload_n C dX13_of_0 rfl 0 rfl rfl ?_
  refine gf_X13_7_X13 C dX13_of_1 Ha rfl ?_
  exact ww_iret C dX13_of_4 (RdP.i (by rfl))
set_option maxHeartbeats 2000000 in
theorem ct_X14_of_9 {l : Launch} {Γ : Gm} (hl : l.flags = flags0) (hΓ : GOK Γ) {z : ZR} {h : AH} {a g : Nat} {A : Nat → Nat} {B : GB} {rn dn k : Int32} {d9 : Nat} (hz : zle (cst Γ) z) (hG : GmP Γ z h g A B rn dn) (hC : BC B) (Ha : rd z h a (.inr (12, [.ref (gE Γ 22), .int k]))) (hd9 : 9 ≤ d9) : Ct l Γ yX14_of cX14_of 2 (some .int) d9 0 0 [.ref a, .ref g] z h (RdP z h (some (.int (rn)))) := by
  refine Ct.of hl hΓ (by decide +kernel) (Nat.le_of_ble_eq_true rfl) (fun X e1 e2 C => ?_)
  subst e1; subst e2
  have C : Cx X cX14_of 2 "RingDomino$Asked" "of" (some .int) [] d9 := C
  show WW X (RdP z h (some (.int (rn)))) z h 0 0 0 [(0, .ref a), (1, .ref g)] []
  refine ww_aload_n C dX14_of_0 rfl 0 rfl rfl ?_
  refine gf_X14_7_X14 C dX14_of_1 Ha rfl ?_
  refine ww_aload_n C dX14_of_4 rfl 1 rfl rfl ?_
  refine ww_aload_n C dX14_of_5 rfl 0 rfl rfl ?_
  refine gf_X14_13_X14 C dX14_of_6 Ha rfl ?_
  refine cy_X14_17_X27_r (As := [.ref g, .int k]) (rest := []) C dX14_of_9 (ct_X27_of (Cx.fl C) (Cx.ok C) hz hG hC) (rcv_ex (Cx.ok C) (k := 22) rfl (by decide +kernel) : rcv (xG X) _ _ (gE (xG X) 22) "RingDomino$What$1") rfl rfl (Nat.le_of_ble_eq_true rfl) (by omega) (Nat.zero_le _) (Nat.zero_le _) ?_
  exact ww_iret C dX14_of_12 (RdP.i (by rfl))
set_option maxHeartbeats 2000000 in
theorem ct_X14_of_10 {l : Launch} {Γ : Gm} (hl : l.flags = flags0) (hΓ : GOK Γ) {z : ZR} {h : AH} {a g : Nat} {A : Nat → Nat} {B : GB} {rn dn k : Int32} {d9 : Nat} (hz : zle (cst Γ) z) (hG : GmP Γ z h g A B rn dn) (hC : BC B) (Ha : rd z h a (.inr (12, [.ref (gE Γ 23), .int k]))) (hd9 : 9 ≤ d9) : Ct l Γ yX14_of cX14_of 2 (some .int) d9 0 0 [.ref a, .ref g] z h (RdP z h (some (.int (nI (plN B))))) := by
  refine Ct.of hl hΓ (by decide +kernel) (Nat.le_of_ble_eq_true rfl) (fun X e1 e2 C => ?_)
  subst e1; subst e2
  have C : Cx X cX14_of 2 "RingDomino$Asked" "of" (some .int) [] d9 := C
  show WW X (RdP z h (some (.int (nI (plN B))))) z h 0 0 0 [(0, .ref a), (1, .ref g)] []
  refine ww_aload_n C dX14_of_0 rfl 0 rfl rfl ?_
  refine gf_X14_7_X14 C dX14_of_1 Ha rfl ?_
  refine ww_aload_n C dX14_of_4 rfl 1 rfl rfl ?_
  refine ww_aload_n C dX14_of_5 rfl 0 rfl rfl ?_
  refine gf_X14_13_X14 C dX14_of_6 Ha rfl ?_
  refine cy_X14_17_X36_r (As := [.ref g, .int k]) (rest := []) C dX14_of_9 (ct_X36_of (Cx.fl C) (Cx.ok C) hz hG hC) (rcv_ex (Cx.ok C) (k := 23) rfl (by decide +kernel) : rcv (xG X) _ _ (gE (xG X) 23) "RingDomino$What$2") rfl rfl (Nat.le_of_ble_eq_true rfl) (by omega) (Nat.zero_le _) (Nat.zero_le _) ?_
  exact ww_iret C dX14_of_12 (RdP.i (by rfl))
set_option maxHeartbeats 2000000 in
theorem ct_X14_of_11 {l : Launch} {Γ : Gm} (hl : l.flags = flags0) (hΓ : GOK Γ) {z : ZR} {h : AH} {a g : Nat} {A : Nat → Nat} {B : GB} {rn dn k : Int32} {d9 : Nat} (hz : zle (cst Γ) z) (hG : GmP Γ z h g A B rn dn) (hC : BC B) (Ha : rd z h a (.inr (12, [.ref (gE Γ 24), .int k]))) (hd9 : 9 ≤ d9) : Ct l Γ yX14_of cX14_of 2 (some .int) d9 0 0 [.ref a, .ref g] z h (RdP z h (some (.int (nI (maN B))))) := by
  refine Ct.of hl hΓ (by decide +kernel) (Nat.le_of_ble_eq_true rfl) (fun X e1 e2 C => ?_)
  subst e1; subst e2
  have C : Cx X cX14_of 2 "RingDomino$Asked" "of" (some .int) [] d9 := C
  show WW X (RdP z h (some (.int (nI (maN B))))) z h 0 0 0 [(0, .ref a), (1, .ref g)] []
  refine ww_aload_n C dX14_of_0 rfl 0 rfl rfl ?_
  refine gf_X14_7_X14 C dX14_of_1 Ha rfl ?_
  refine ww_aload_n C dX14_of_4 rfl 1 rfl rfl ?_
  refine ww_aload_n C dX14_of_5 rfl 0 rfl rfl ?_
  refine gf_X14_13_X14 C dX14_of_6 Ha rfl ?_
  refine cy_X14_17_X37_r (As := [.ref g, .int k]) (rest := []) C dX14_of_9 (ct_X37_of (Cx.fl C) (Cx.ok C) hz hG hC) (rcv_ex (Cx.ok C) (k := 24) rfl (by decide +kernel) : rcv (xG X) _ _ (gE (xG X) 24) "RingDomino$What$3") rfl rfl (Nat.le_of_ble_eq_true rfl) (by omega) (Nat.zero_le _) (Nat.zero_le _) ?_
  exact ww_iret C dX14_of_12 (RdP.i (by rfl))
set_option maxHeartbeats 2000000 in
theorem ct_X14_of_12 {l : Launch} {Γ : Gm} (hl : l.flags = flags0) (hΓ : GOK Γ) {z : ZR} {h : AH} {a g : Nat} {A : Nat → Nat} {B : GB} {rn dn k : Int32} {d9 : Nat} (hz : zle (cst Γ) z) (hG : GmP Γ z h g A B rn dn) (hC : BC B) (Ha : rd z h a (.inr (12, [.ref (gE Γ 25), .int k]))) (hd9 : 9 ≤ d9) : Ct l Γ yX14_of cX14_of 2 (some .int) d9 0 0 [.ref a, .ref g] z h (RdP z h (some (.int (nI (poN B))))) := by
  refine Ct.of hl hΓ (by decide +kernel) (Nat.le_of_ble_eq_true rfl) (fun X e1 e2 C => ?_)
  subst e1; subst e2
  have C : Cx X cX14_of 2 "RingDomino$Asked" "of" (some .int) [] d9 := C
  show WW X (RdP z h (some (.int (nI (poN B))))) z h 0 0 0 [(0, .ref a), (1, .ref g)] []
  refine ww_aload_n C dX14_of_0 rfl 0 rfl rfl ?_
  refine gf_X14_7_X14 C dX14_of_1 Ha rfl ?_
  refine ww_aload_n C dX14_of_4 rfl 1 rfl rfl ?_
  refine ww_aload_n C dX14_of_5 rfl 0 rfl rfl ?_
  refine gf_X14_13_X14 C dX14_of_6 Ha rfl ?_
  refine cy_X14_17_X38_r (As := [.ref g, .int k]) (rest := []) C dX14_of_9 (ct_X38_of (Cx.fl C) (Cx.ok C) hz hG hC) (rcv_ex (Cx.ok C) (k := 25) rfl (by decide +kernel) : rcv (xG X) _ _ (gE (xG X) 25) "RingDomino$What$4") rfl rfl (Nat.le_of_ble_eq_true rfl) (by omega) (Nat.zero_le _) (Nat.zero_le _) ?_
  exact ww_iret C dX14_of_12 (RdP.i (by rfl))
set_option maxHeartbeats 2000000 in
theorem ct_X14_of_13 {l : Launch} {Γ : Gm} (hl : l.flags = flags0) (hΓ : GOK Γ) {z : ZR} {h : AH} {a g : Nat} {A : Nat → Nat} {B : GB} {rn dn k : Int32} {d9 : Nat} (hz : zle (cst Γ) z) (hG : GmP Γ z h g A B rn dn) (hC : BC B) (Ha : rd z h a (.inr (12, [.ref (gE Γ 26), .int k]))) (hd9 : 9 ≤ d9) : Ct l Γ yX14_of cX14_of 2 (some .int) d9 0 0 [.ref a, .ref g] z h (RdP z h (some (.int (nI (rgN B))))) := by
  refine Ct.of hl hΓ (by decide +kernel) (Nat.le_of_ble_eq_true rfl) (fun X e1 e2 C => ?_)
  subst e1; subst e2
  have C : Cx X cX14_of 2 "RingDomino$Asked" "of" (some .int) [] d9 := C
  show WW X (RdP z h (some (.int (nI (rgN B))))) z h 0 0 0 [(0, .ref a), (1, .ref g)] []
  refine ww_aload_n C dX14_of_0 rfl 0 rfl rfl ?_
  refine gf_X14_7_X14 C dX14_of_1 Ha rfl ?_
  refine ww_aload_n C dX14_of_4 rfl 1 rfl rfl ?_
  refine ww_aload_n C dX14_of_5 rfl 0 rfl rfl ?_
  refine gf_X14_13_X14 C dX14_of_6 Ha rfl ?_
  refine cy_X14_17_X39_r (As := [.ref g, .int k]) (rest := []) C dX14_of_9 (ct_X39_of (Cx.fl C) (Cx.ok C) hz hG hC) (rcv_ex (Cx.ok C) (k := 26) rfl (by decide +kernel) : rcv (xG X) _ _ (gE (xG X) 26) "RingDomino$What$5") rfl rfl (Nat.le_of_ble_eq_true rfl) (by omega) (Nat.zero_le _) (Nat.zero_le _) ?_
  exact ww_iret C dX14_of_12 (RdP.i (by rfl))
set_option maxHeartbeats 2000000 in
theorem ct_X14_of_14 {l : Launch} {Γ : Gm} (hl : l.flags = flags0) (hΓ : GOK Γ) {z : ZR} {h : AH} {a g : Nat} {A : Nat → Nat} {B : GB} {rn dn k : Int32} {d9 : Nat} (hz : zle (cst Γ) z) (hG : GmP Γ z h g A B rn dn) (hC : BC B) (Ha : rd z h a (.inr (12, [.ref (gE Γ 27), .int k]))) (hd9 : 9 ≤ d9) : Ct l Γ yX14_of cX14_of 2 (some .int) d9 0 0 [.ref a, .ref g] z h (RdP z h (some (.int (nI (Bz B - plN B))))) := by
  refine Ct.of hl hΓ (by decide +kernel) (Nat.le_of_ble_eq_true rfl) (fun X e1 e2 C => ?_)
  subst e1; subst e2
  have C : Cx X cX14_of 2 "RingDomino$Asked" "of" (some .int) [] d9 := C
  show WW X (RdP z h (some (.int (nI (Bz B - plN B))))) z h 0 0 0 [(0, .ref a), (1, .ref g)] []
  refine ww_aload_n C dX14_of_0 rfl 0 rfl rfl ?_
  refine gf_X14_7_X14 C dX14_of_1 Ha rfl ?_
  refine ww_aload_n C dX14_of_4 rfl 1 rfl rfl ?_
  refine ww_aload_n C dX14_of_5 rfl 0 rfl rfl ?_
  refine gf_X14_13_X14 C dX14_of_6 Ha rfl ?_
  refine cy_X14_17_X40_r (As := [.ref g, .int k]) (rest := []) C dX14_of_9 (ct_X40_of (Cx.fl C) (Cx.ok C) hz hG hC) (rcv_ex (Cx.ok C) (k := 27) rfl (by decide +kernel) : rcv (xG X) _ _ (gE (xG X) 27) "RingDomino$What$6") rfl rfl (Nat.le_of_ble_eq_true rfl) (by omega) (Nat.zero_le _) (Nat.zero_le _) ?_
  exact ww_iret C dX14_of_12 (RdP.i (by rfl))
set_option maxHeartbeats 2000000 in
theorem ct_X14_of_15 {l : Launch} {Γ : Gm} (hl : l.flags = flags0) (hΓ : GOK Γ) {z : ZR} {h : AH} {a g k : Nat} {A : Nat → Nat} {B : GB} {rn dn : Int32} {d9 : Nat} (hz : zle (cst Γ) z) (hG : GmP Γ z h g A B rn dn) (hC : BC B) (hk : k < Bt B) (Ha : rd z h a (.inr (12, [.ref (gE Γ 28), .int (nI k)]))) (hd9 : 9 ≤ d9) : Ct l Γ yX14_of cX14_of 2 (some .int) d9 0 0 [.ref a, .ref g] z h (RdP z h (some (.int (nI (wyN B k))))) := by
  refine Ct.of hl hΓ (by decide +kernel) (Nat.le_of_ble_eq_true rfl) (fun X e1 e2 C => ?_)
  subst e1; subst e2
  have C : Cx X cX14_of 2 "RingDomino$Asked" "of" (some .int) [] d9 := C
  show WW X (RdP z h (some (.int (nI (wyN B k))))) z h 0 0 0 [(0, .ref a), (1, .ref g)] []
  refine ww_aload_n C dX14_of_0 rfl 0 rfl rfl ?_
  refine gf_X14_7_X14 C dX14_of_1 Ha rfl ?_
  refine ww_aload_n C dX14_of_4 rfl 1 rfl rfl ?_
  refine ww_aload_n C dX14_of_5 rfl 0 rfl rfl ?_
  refine gf_X14_13_X14 C dX14_of_6 Ha rfl ?_
  refine cy_X14_17_X41_r (As := [.ref g, .int (nI k)]) (rest := []) C dX14_of_9 (ct_X41_of (Cx.fl C) (Cx.ok C) hz hG hC hk) (rcv_ex (Cx.ok C) (k := 28) rfl (by decide +kernel) : rcv (xG X) _ _ (gE (xG X) 28) "RingDomino$What$7") rfl rfl (Nat.le_of_ble_eq_true rfl) (by omega) (Nat.zero_le _) (Nat.zero_le _) ?_
  exact ww_iret C dX14_of_12 (RdP.i (by rfl))
/-- a sum that is asked: its class, its contract -/
def SmC (l : Launch) (Γ : Gm) (d : Nat) (z : ZR) (h : AH) (a g : Nat) (x : Int32) : Prop := (rcv Γ z h a "RingDomino$Plain" ∧ Ct l Γ yX13_of cX13_of 2 (some .int) d 0 0 [.ref a, .ref g] z h (RdP z h (some (.int x)))) ∨ (rcv Γ z h a "RingDomino$Asked" ∧ Ct l Γ yX14_of cX14_of 2 (some .int) d 0 0 [.ref a, .ref g] z h (RdP z h (some (.int x)))) ∨ (rcv Γ z h a "RingDomino$Turned" ∧ Ct l Γ yX15_of cX15_of 2 (some .int) d 0 0 [.ref a, .ref g] z h (RdP z h (some (.int x)))) ∨ (rcv Γ z h a "RingDomino$Joined" ∧ Ct l Γ yX16_of cX16_of 2 (some .int) d 0 0 [.ref a, .ref g] z h (RdP z h (some (.int x))))
section SMR
variable {X : XT} {P : Oc → ZR → AH → Prop} {z : ZR} {h : AH} {kc ns pc nL d : Nat} {lv : List (Nat × Value)} {cc : ByteArray} {mn : String} {ret : Option FieldType} {hh : List (Nat × Nat × Nat × Nat)}
theorem sm_X16_20 (C : Cx X cc nL "RingDomino$Joined" mn ret hh d) {a g dy : Nat} {x : Int32} {rest st0 : List Value} (hd : decode cc pc = .ok (.invokevirtual 20, 3)) (hS : SmC (xl X) (xG X) dy z h a g x) (hs : st0 = [Value.ref g].reverse ++ .ref a :: rest) (hst : (rest.map fun v => v.category).sum ≤ 8) (hdy : dy + 1 ≤ d) (k : WW X P z h (kc - 0) (ns - 0) (pc + 3) lv (.int x :: rest)) : WW X P z h kc ns pc lv st0 := by
  rcases hS with ⟨h1, h2⟩ | ⟨h1, h2⟩ | ⟨h1, h2⟩ | ⟨h1, h2⟩
  · exact ca_X16_20_X13_r (As := [.ref g]) C hd h2 h1 rfl hs hst hdy (Nat.zero_le _) (Nat.zero_le _) k
  · exact ca_X16_20_X14_r (As := [.ref g]) C hd h2 h1 rfl hs hst hdy (Nat.zero_le _) (Nat.zero_le _) k
  · exact ca_X16_20_X15_r (As := [.ref g]) C hd h2 h1 rfl hs hst hdy (Nat.zero_le _) (Nat.zero_le _) k
  · exact ca_X16_20_X16_r (As := [.ref g]) C hd h2 h1 rfl hs hst hdy (Nat.zero_le _) (Nat.zero_le _) k
theorem sm_X15_13 (C : Cx X cc nL "RingDomino$Turned" mn ret hh d) {a g dy : Nat} {x : Int32} {rest st0 : List Value} (hd : decode cc pc = .ok (.invokevirtual 13, 3)) (hS : SmC (xl X) (xG X) dy z h a g x) (hs : st0 = [Value.ref g].reverse ++ .ref a :: rest) (hst : (rest.map fun v => v.category).sum ≤ 8) (hdy : dy + 1 ≤ d) (k : WW X P z h (kc - 0) (ns - 0) (pc + 3) lv (.int x :: rest)) : WW X P z h kc ns pc lv st0 := by
  rcases hS with ⟨h1, h2⟩ | ⟨h1, h2⟩ | ⟨h1, h2⟩ | ⟨h1, h2⟩
  · exact ca_X15_13_X13_r (As := [.ref g]) C hd h2 h1 rfl hs hst hdy (Nat.zero_le _) (Nat.zero_le _) k
  · exact ca_X15_13_X14_r (As := [.ref g]) C hd h2 h1 rfl hs hst hdy (Nat.zero_le _) (Nat.zero_le _) k
  · exact ca_X15_13_X15_r (As := [.ref g]) C hd h2 h1 rfl hs hst hdy (Nat.zero_le _) (Nat.zero_le _) k
  · exact ca_X15_13_X16_r (As := [.ref g]) C hd h2 h1 rfl hs hst hdy (Nat.zero_le _) (Nat.zero_le _) k
theorem sm_X22_20 (C : Cx X cc nL "RingDomino$Compared" mn ret hh d) {a g dy : Nat} {x : Int32} {rest st0 : List Value} (hd : decode cc pc = .ok (.invokevirtual 20, 3)) (hS : SmC (xl X) (xG X) dy z h a g x) (hs : st0 = [Value.ref g].reverse ++ .ref a :: rest) (hst : (rest.map fun v => v.category).sum ≤ 8) (hdy : dy + 1 ≤ d) (k : WW X P z h (kc - 0) (ns - 0) (pc + 3) lv (.int x :: rest)) : WW X P z h kc ns pc lv st0 := by
  rcases hS with ⟨h1, h2⟩ | ⟨h1, h2⟩ | ⟨h1, h2⟩ | ⟨h1, h2⟩
  · exact ca_X22_20_X13_r (As := [.ref g]) C hd h2 h1 rfl hs hst hdy (Nat.zero_le _) (Nat.zero_le _) k
  · exact ca_X22_20_X14_r (As := [.ref g]) C hd h2 h1 rfl hs hst hdy (Nat.zero_le _) (Nat.zero_le _) k
  · exact ca_X22_20_X15_r (As := [.ref g]) C hd h2 h1 rfl hs hst hdy (Nat.zero_le _) (Nat.zero_le _) k
  · exact ca_X22_20_X16_r (As := [.ref g]) C hd h2 h1 rfl hs hst hdy (Nat.zero_le _) (Nat.zero_le _) k
theorem sm_X26_21 (C : Cx X cc nL "RingDomino$Craft$1" mn ret hh d) {a g dy : Nat} {x : Int32} {rest st0 : List Value} (hd : decode cc pc = .ok (.invokevirtual 21, 3)) (hS : SmC (xl X) (xG X) dy z h a g x) (hs : st0 = [Value.ref g].reverse ++ .ref a :: rest) (hst : (rest.map fun v => v.category).sum ≤ 8) (hdy : dy + 1 ≤ d) (k : WW X P z h (kc - 0) (ns - 0) (pc + 3) lv (.int x :: rest)) : WW X P z h kc ns pc lv st0 := by
  rcases hS with ⟨h1, h2⟩ | ⟨h1, h2⟩ | ⟨h1, h2⟩ | ⟨h1, h2⟩
  · exact ca_X26_21_X13_r (As := [.ref g]) C hd h2 h1 rfl hs hst hdy (Nat.zero_le _) (Nat.zero_le _) k
  · exact ca_X26_21_X14_r (As := [.ref g]) C hd h2 h1 rfl hs hst hdy (Nat.zero_le _) (Nat.zero_le _) k
  · exact ca_X26_21_X15_r (As := [.ref g]) C hd h2 h1 rfl hs hst hdy (Nat.zero_le _) (Nat.zero_le _) k
  · exact ca_X26_21_X16_r (As := [.ref g]) C hd h2 h1 rfl hs hst hdy (Nat.zero_le _) (Nat.zero_le _) k
end SMR
set_option maxHeartbeats 2000000 in
theorem ct_X15_of {l : Launch} {Γ : Gm} (hl : l.flags = flags0) (hΓ : GOK Γ) {z : ZR} {h : AH} {a b g dy : Nat} {x : Int32} {d9 : Nat} (Ha : rd z h a (.inr (13, [.ref b]))) (hS : SmC l Γ dy z h b g x) (hd9 : dy + 1 ≤ d9) : Ct l Γ yX15_of cX15_of 2 (some .int) d9 0 0 [.ref a, .ref g] z h (RdP z h (some (.int (-x)))) := by
  refine Ct.of hl hΓ (by decide +kernel) (Nat.le_of_ble_eq_true rfl) (fun X e1 e2 C => ?_)
  subst e1; subst e2
  have C : Cx X cX15_of 2 "RingDomino$Turned" "of" (some .int) [] d9 := C
  show WW X (RdP z h (some (.int (-x)))) z h 0 0 0 [(0, .ref a), (1, .ref g)] []
  refine ww_aload_n C dX15_of_0 rfl 0 rfl rfl ?_
  refine gf_X15_7_X15 C dX15_of_1 Ha rfl ?_
  refine ww_aload_n C dX15_of_4 rfl 1 rfl rfl ?_
  refine sm_X15_13 C dX15_of_5 hS rfl (Nat.le_of_ble_eq_true rfl) (by omega) ?_
  refine ww_ineg C dX15_of_8 ?_
  exact ww_iret C dX15_of_9 (RdP.i (by rfl))
set_option maxHeartbeats 2000000 in
theorem ct_X16_of_40 {l : Launch} {Γ : Gm} (hl : l.flags = flags0) (hΓ : GOK Γ) {z : ZR} {h : AH} {a b c g dy : Nat} {x y : Int32} {d9 : Nat} (Ha : rd z h a (.inr (14, [.ref (gE Γ 17), .ref b, .ref c]))) (hS : SmC l Γ dy z h b g x) (hS2 : SmC l Γ dy z h c g y) (hd9 : dy + 3 ≤ d9) : Ct l Γ yX16_of cX16_of 2 (some .int) d9 0 0 [.ref a, .ref g] z h (RdP z h (some (.int (jnI 40 x y)))) := by
  refine Ct.of hl hΓ (by decide +kernel) (Nat.le_of_ble_eq_true rfl) (fun X e1 e2 C => ?_)
  subst e1; subst e2
  have C : Cx X cX16_of 2 "RingDomino$Joined" "of" (some .int) [] d9 := C
  show WW X (RdP z h (some (.int (jnI 40 x y)))) z h 0 0 0 [(0, .ref a), (1, .ref g)] []
  refine ww_aload_n C dX16_of_0 rfl 0 rfl rfl ?_
  refine gf_X16_7_X16 C dX16_of_1 Ha rfl ?_
  refine ww_aload_n C dX16_of_4 rfl 0 rfl rfl ?_
  refine gf_X16_13_X16 C dX16_of_5 Ha rfl ?_
  refine ww_aload_n C dX16_of_8 rfl 1 rfl rfl ?_
  refine sm_X16_20 C dX16_of_9 hS rfl (Nat.le_of_ble_eq_true rfl) (by omega) ?_
  refine ww_aload_n C dX16_of_12 rfl 0 rfl rfl ?_
  refine gf_X16_17_X16 C dX16_of_13 Ha rfl ?_
  refine ww_aload_n C dX16_of_16 rfl 1 rfl rfl ?_
  refine sm_X16_20 C dX16_of_17 hS2 rfl (Nat.le_of_ble_eq_true rfl) (by omega) ?_
  refine cy_X16_24_X30_r (As := [.int x, .int y]) (rest := []) C dX16_of_20 (ct_X30_join (Cx.fl C) (Cx.ok C)) (rcv_ex (Cx.ok C) (k := 17) rfl (by decide +kernel) : rcv (xG X) _ _ (gE (xG X) 17) "RingDomino$Sign$1") rfl rfl (Nat.le_of_ble_eq_true rfl) (by omega) (Nat.zero_le _) (Nat.zero_le _) ?_
  exact ww_iret C dX16_of_23 (RdP.i (by rfl))
set_option maxHeartbeats 2000000 in
theorem ct_X16_of_41 {l : Launch} {Γ : Gm} (hl : l.flags = flags0) (hΓ : GOK Γ) {z : ZR} {h : AH} {a b c g dy : Nat} {x y : Int32} {d9 : Nat} (Ha : rd z h a (.inr (14, [.ref (gE Γ 18), .ref b, .ref c]))) (hS : SmC l Γ dy z h b g x) (hS2 : SmC l Γ dy z h c g y) (hd9 : dy + 3 ≤ d9) : Ct l Γ yX16_of cX16_of 2 (some .int) d9 0 0 [.ref a, .ref g] z h (RdP z h (some (.int (jnI 41 x y)))) := by
  refine Ct.of hl hΓ (by decide +kernel) (Nat.le_of_ble_eq_true rfl) (fun X e1 e2 C => ?_)
  subst e1; subst e2
  have C : Cx X cX16_of 2 "RingDomino$Joined" "of" (some .int) [] d9 := C
  show WW X (RdP z h (some (.int (jnI 41 x y)))) z h 0 0 0 [(0, .ref a), (1, .ref g)] []
  refine ww_aload_n C dX16_of_0 rfl 0 rfl rfl ?_
  refine gf_X16_7_X16 C dX16_of_1 Ha rfl ?_
  refine ww_aload_n C dX16_of_4 rfl 0 rfl rfl ?_
  refine gf_X16_13_X16 C dX16_of_5 Ha rfl ?_
  refine ww_aload_n C dX16_of_8 rfl 1 rfl rfl ?_
  refine sm_X16_20 C dX16_of_9 hS rfl (Nat.le_of_ble_eq_true rfl) (by omega) ?_
  refine ww_aload_n C dX16_of_12 rfl 0 rfl rfl ?_
  refine gf_X16_17_X16 C dX16_of_13 Ha rfl ?_
  refine ww_aload_n C dX16_of_16 rfl 1 rfl rfl ?_
  refine sm_X16_20 C dX16_of_17 hS2 rfl (Nat.le_of_ble_eq_true rfl) (by omega) ?_
  refine cy_X16_24_X31_r (As := [.int x, .int y]) (rest := []) C dX16_of_20 (ct_X31_join (Cx.fl C) (Cx.ok C)) (rcv_ex (Cx.ok C) (k := 18) rfl (by decide +kernel) : rcv (xG X) _ _ (gE (xG X) 18) "RingDomino$Sign$2") rfl rfl (Nat.le_of_ble_eq_true rfl) (by omega) (Nat.zero_le _) (Nat.zero_le _) ?_
  exact ww_iret C dX16_of_23 (RdP.i (by rfl))
set_option maxHeartbeats 2000000 in
theorem ct_X16_of_42 {l : Launch} {Γ : Gm} (hl : l.flags = flags0) (hΓ : GOK Γ) {z : ZR} {h : AH} {a b c g dy : Nat} {x y : Int32} {d9 : Nat} (Ha : rd z h a (.inr (14, [.ref (gE Γ 15), .ref b, .ref c]))) (hS : SmC l Γ dy z h b g x) (hS2 : SmC l Γ dy z h c g y) (hd9 : dy + 3 ≤ d9) : Ct l Γ yX16_of cX16_of 2 (some .int) d9 0 0 [.ref a, .ref g] z h (RdP z h (some (.int (jnI 42 x y)))) := by
  refine Ct.of hl hΓ (by decide +kernel) (Nat.le_of_ble_eq_true rfl) (fun X e1 e2 C => ?_)
  subst e1; subst e2
  have C : Cx X cX16_of 2 "RingDomino$Joined" "of" (some .int) [] d9 := C
  show WW X (RdP z h (some (.int (jnI 42 x y)))) z h 0 0 0 [(0, .ref a), (1, .ref g)] []
  refine ww_aload_n C dX16_of_0 rfl 0 rfl rfl ?_
  refine gf_X16_7_X16 C dX16_of_1 Ha rfl ?_
  refine ww_aload_n C dX16_of_4 rfl 0 rfl rfl ?_
  refine gf_X16_13_X16 C dX16_of_5 Ha rfl ?_
  refine ww_aload_n C dX16_of_8 rfl 1 rfl rfl ?_
  refine sm_X16_20 C dX16_of_9 hS rfl (Nat.le_of_ble_eq_true rfl) (by omega) ?_
  refine ww_aload_n C dX16_of_12 rfl 0 rfl rfl ?_
  refine gf_X16_17_X16 C dX16_of_13 Ha rfl ?_
  refine ww_aload_n C dX16_of_16 rfl 1 rfl rfl ?_
  refine sm_X16_20 C dX16_of_17 hS2 rfl (Nat.le_of_ble_eq_true rfl) (by omega) ?_
  refine cy_X16_24_X32_r (As := [.int x, .int y]) (rest := []) C dX16_of_20 (ct_X32_join (Cx.fl C) (Cx.ok C)) (rcv_ex (Cx.ok C) (k := 15) rfl (by decide +kernel) : rcv (xG X) _ _ (gE (xG X) 15) "RingDomino$Sign$3") rfl rfl (Nat.le_of_ble_eq_true rfl) (by omega) (Nat.zero_le _) (Nat.zero_le _) ?_
  exact ww_iret C dX16_of_23 (RdP.i (by rfl))
set_option maxHeartbeats 2000000 in
theorem ct_X16_of_43 {l : Launch} {Γ : Gm} (hl : l.flags = flags0) (hΓ : GOK Γ) {z : ZR} {h : AH} {a b c g dy : Nat} {x y : Int32} {d9 : Nat} (Ha : rd z h a (.inr (14, [.ref (gE Γ 16), .ref b, .ref c]))) (hS : SmC l Γ dy z h b g x) (hS2 : SmC l Γ dy z h c g y) (hd9 : dy + 3 ≤ d9) : Ct l Γ yX16_of cX16_of 2 (some .int) d9 0 0 [.ref a, .ref g] z h (RdP z h (some (.int (jnI 43 x y)))) := by
  refine Ct.of hl hΓ (by decide +kernel) (Nat.le_of_ble_eq_true rfl) (fun X e1 e2 C => ?_)
  subst e1; subst e2
  have C : Cx X cX16_of 2 "RingDomino$Joined" "of" (some .int) [] d9 := C
  show WW X (RdP z h (some (.int (jnI 43 x y)))) z h 0 0 0 [(0, .ref a), (1, .ref g)] []
  refine ww_aload_n C dX16_of_0 rfl 0 rfl rfl ?_
  refine gf_X16_7_X16 C dX16_of_1 Ha rfl ?_
  refine ww_aload_n C dX16_of_4 rfl 0 rfl rfl ?_
  refine gf_X16_13_X16 C dX16_of_5 Ha rfl ?_
  refine ww_aload_n C dX16_of_8 rfl 1 rfl rfl ?_
  refine sm_X16_20 C dX16_of_9 hS rfl (Nat.le_of_ble_eq_true rfl) (by omega) ?_
  refine ww_aload_n C dX16_of_12 rfl 0 rfl rfl ?_
  refine gf_X16_17_X16 C dX16_of_13 Ha rfl ?_
  refine ww_aload_n C dX16_of_16 rfl 1 rfl rfl ?_
  refine sm_X16_20 C dX16_of_17 hS2 rfl (Nat.le_of_ble_eq_true rfl) (by omega) ?_
  refine cy_X16_24_X33_r (As := [.int x, .int y]) (rest := []) C dX16_of_20 (ct_X33_join (Cx.fl C) (Cx.ok C)) (rcv_ex (Cx.ok C) (k := 16) rfl (by decide +kernel) : rcv (xG X) _ _ (gE (xG X) 16) "RingDomino$Sign$4") rfl rfl (Nat.le_of_ble_eq_true rfl) (by omega) (Nat.zero_le _) (Nat.zero_le _) ?_
  exact ww_iret C dX16_of_23 (RdP.i (by rfl))
set_option maxHeartbeats 2000000 in
theorem ct_X16_of_22 {l : Launch} {Γ : Gm} (hl : l.flags = flags0) (hΓ : GOK Γ) {z : ZR} {h : AH} {a b c g dy : Nat} {x y : Int32} {d9 : Nat} (Ha : rd z h a (.inr (14, [.ref (gE Γ 13), .ref b, .ref c]))) (hS : SmC l Γ dy z h b g x) (hS2 : SmC l Γ dy z h c g y) (hd9 : dy + 3 ≤ d9) : Ct l Γ yX16_of cX16_of 2 (some .int) d9 0 0 [.ref a, .ref g] z h (RdP z h (some (.int (jnI 22 x y)))) := by
  refine Ct.of hl hΓ (by decide +kernel) (Nat.le_of_ble_eq_true rfl) (fun X e1 e2 C => ?_)
  subst e1; subst e2
  have C : Cx X cX16_of 2 "RingDomino$Joined" "of" (some .int) [] d9 := C
  show WW X (RdP z h (some (.int (jnI 22 x y)))) z h 0 0 0 [(0, .ref a), (1, .ref g)] []
  refine ww_aload_n C dX16_of_0 rfl 0 rfl rfl ?_
  refine gf_X16_7_X16 C dX16_of_1 Ha rfl ?_
  refine ww_aload_n C dX16_of_4 rfl 0 rfl rfl ?_
  refine gf_X16_13_X16 C dX16_of_5 Ha rfl ?_
  refine ww_aload_n C dX16_of_8 rfl 1 rfl rfl ?_
  refine sm_X16_20 C dX16_of_9 hS rfl (Nat.le_of_ble_eq_true rfl) (by omega) ?_
  refine ww_aload_n C dX16_of_12 rfl 0 rfl rfl ?_
  refine gf_X16_17_X16 C dX16_of_13 Ha rfl ?_
  refine ww_aload_n C dX16_of_16 rfl 1 rfl rfl ?_
  refine sm_X16_20 C dX16_of_17 hS2 rfl (Nat.le_of_ble_eq_true rfl) (by omega) ?_
  refine cy_X16_24_X34_r (As := [.int x, .int y]) (rest := []) C dX16_of_20 (ct_X34_join (Cx.fl C) (Cx.ok C)) (rcv_ex (Cx.ok C) (k := 13) rfl (by decide +kernel) : rcv (xG X) _ _ (gE (xG X) 13) "RingDomino$Sign$5") rfl rfl (Nat.le_of_ble_eq_true rfl) (by omega) (Nat.zero_le _) (Nat.zero_le _) ?_
  exact ww_iret C dX16_of_23 (RdP.i (by rfl))
set_option maxHeartbeats 2000000 in
theorem ct_X16_of_23 {l : Launch} {Γ : Gm} (hl : l.flags = flags0) (hΓ : GOK Γ) {z : ZR} {h : AH} {a b c g dy : Nat} {x y : Int32} {d9 : Nat} (Ha : rd z h a (.inr (14, [.ref (gE Γ 14), .ref b, .ref c]))) (hS : SmC l Γ dy z h b g x) (hS2 : SmC l Γ dy z h c g y) (hd9 : dy + 3 ≤ d9) : Ct l Γ yX16_of cX16_of 2 (some .int) d9 0 0 [.ref a, .ref g] z h (RdP z h (some (.int (jnI 23 x y)))) := by
  refine Ct.of hl hΓ (by decide +kernel) (Nat.le_of_ble_eq_true rfl) (fun X e1 e2 C => ?_)
  subst e1; subst e2
  have C : Cx X cX16_of 2 "RingDomino$Joined" "of" (some .int) [] d9 := C
  show WW X (RdP z h (some (.int (jnI 23 x y)))) z h 0 0 0 [(0, .ref a), (1, .ref g)] []
  refine ww_aload_n C dX16_of_0 rfl 0 rfl rfl ?_
  refine gf_X16_7_X16 C dX16_of_1 Ha rfl ?_
  refine ww_aload_n C dX16_of_4 rfl 0 rfl rfl ?_
  refine gf_X16_13_X16 C dX16_of_5 Ha rfl ?_
  refine ww_aload_n C dX16_of_8 rfl 1 rfl rfl ?_
  refine sm_X16_20 C dX16_of_9 hS rfl (Nat.le_of_ble_eq_true rfl) (by omega) ?_
  refine ww_aload_n C dX16_of_12 rfl 0 rfl rfl ?_
  refine gf_X16_17_X16 C dX16_of_13 Ha rfl ?_
  refine ww_aload_n C dX16_of_16 rfl 1 rfl rfl ?_
  refine sm_X16_20 C dX16_of_17 hS2 rfl (Nat.le_of_ble_eq_true rfl) (by omega) ?_
  refine cy_X16_24_X35_r (As := [.int x, .int y]) (rest := []) C dX16_of_20 (ct_X35_join (Cx.fl C) (Cx.ok C)) (rcv_ex (Cx.ok C) (k := 14) rfl (by decide +kernel) : rcv (xG X) _ _ (gE (xG X) 14) "RingDomino$Sign$6") rfl rfl (Nat.le_of_ble_eq_true rfl) (by omega) (Nat.zero_le _) (Nat.zero_le _) ?_
  exact ww_iret C dX16_of_23 (RdP.i (by rfl))
end EV1
