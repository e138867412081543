section COM3
set_option maxRecDepth 100000
set_option maxHeartbeats 2000000 in
theorem ct_X1_columns {l : Launch} {Γ : Gm} (hl : l.flags = flags0) (hΓ : GOK Γ) {z : ZR} {h : AH} {a tp g ah : Nat} {er : Int32} {A : Nat → Nat} {B : GB} {rn dn : Int32} (hz : zle (cst Γ) z) (Ha : rd z h a (.inr (0, [.ref tp, .int er, .ref g, .ref ah]))) (hG : GmP Γ z h g A B rn dn) (hB : BO B) : Ct l Γ yX1_columns cX1_columns 1 (some .int) 8 0 0 [.ref a] z h (RdP z h (some (.int (nI (Bc B))))) := by
  refine Ct.of hl hΓ (by decide +kernel) (Nat.le_of_ble_eq_true rfl) (fun X e1 e2 C => ?_)
  subst e1; subst e2
  have C : Cx X cX1_columns 1 "RingDomino" "columns" (some .int) [] 8 := C
  have Hg := hG.1
  have hzz := BO.z hB
  have hbl := BO.l hB
  have hbt := hB.2.1
  show WW X (RdP z h (some (.int (nI (Bc B))))) z h 0 0 0 [(0, .ref a)] []
  refine ww_aload_n C dX1_columns_0 rfl 0 rfl rfl ?_
  refine gf_X1_50_X1 C dX1_columns_1 Ha rfl ?_
  refine gf_X1_114_X3 C dX1_columns_4 Hg rfl ?_
  exact ww_iret C dX1_columns_7 (RdP.i (by rfl))
set_option maxHeartbeats 2000000 in
theorem ct_X1_rows {l : Launch} {Γ : Gm} (hl : l.flags = flags0) (hΓ : GOK Γ) {z : ZR} {h : AH} {a tp g ah : Nat} {er : Int32} {A : Nat → Nat} {B : GB} {rn dn : Int32} (hz : zle (cst Γ) z) (Ha : rd z h a (.inr (0, [.ref tp, .int er, .ref g, .ref ah]))) (hG : GmP Γ z h g A B rn dn) (hB : BO B) : Ct l Γ yX1_rows cX1_rows 1 (some .int) 8 0 0 [.ref a] z h (RdP z h (some (.int (nI (Br B))))) := by
  refine Ct.of hl hΓ (by decide +kernel) (Nat.le_of_ble_eq_true rfl) (fun X e1 e2 C => ?_)
  subst e1; subst e2
  have C : Cx X cX1_rows 1 "RingDomino" "rows" (some .int) [] 8 := C
  have Hg := hG.1
  have hzz := BO.z hB
  have hbl := BO.l hB
  have hbt := hB.2.1
  show WW X (RdP z h (some (.int (nI (Br B))))) z h 0 0 0 [(0, .ref a)] []
  refine ww_aload_n C dX1_rows_0 rfl 0 rfl rfl ?_
  refine gf_X1_50_X1 C dX1_rows_1 Ha rfl ?_
  refine gf_X1_117_X3 C dX1_rows_4 Hg rfl ?_
  exact ww_iret C dX1_rows_7 (RdP.i (by rfl))
set_option maxHeartbeats 2000000 in
theorem ct_X1_rounds {l : Launch} {Γ : Gm} (hl : l.flags = flags0) (hΓ : GOK Γ) {z : ZR} {h : AH} {a tp g ah : Nat} {er : Int32} {A : Nat → Nat} {B : GB} {rn dn : Int32} (hz : zle (cst Γ) z) (Ha : rd z h a (.inr (0, [.ref tp, .int er, .ref g, .ref ah]))) (hG : GmP Γ z h g A B rn dn) (hB : BO B) : Ct l Γ yX1_rounds cX1_rounds 1 (some .int) 8 0 0 [.ref a] z h (RdP z h (some (.int rn))) := by
  refine Ct.of hl hΓ (by decide +kernel) (Nat.le_of_ble_eq_true rfl) (fun X e1 e2 C => ?_)
  subst e1; subst e2
  have C : Cx X cX1_rounds 1 "RingDomino" "rounds" (some .int) [] 8 := C
  have Hg := hG.1
  have hzz := BO.z hB
  have hbl := BO.l hB
  have hbt := hB.2.1
  show WW X (RdP z h (some (.int rn))) z h 0 0 0 [(0, .ref a)] []
  refine ww_aload_n C dX1_rounds_0 rfl 0 rfl rfl ?_
  refine gf_X1_50_X1 C dX1_rounds_1 Ha rfl ?_
  refine gf_X1_120_X3 C dX1_rounds_4 Hg rfl ?_
  exact ww_iret C dX1_rounds_7 (RdP.i (by rfl))
set_option maxHeartbeats 2000000 in
theorem ct_X1_errorAt {l : Launch} {Γ : Gm} (hl : l.flags = flags0) (hΓ : GOK Γ) {z : ZR} {h : AH} {a tp g ah : Nat} {er : Int32} {A : Nat → Nat} {B : GB} {rn dn : Int32} (hz : zle (cst Γ) z) (Ha : rd z h a (.inr (0, [.ref tp, .int er, .ref g, .ref ah]))) (hG : GmP Γ z h g A B rn dn) (hB : BO B) : Ct l Γ yX1_errorAt cX1_errorAt 1 (some .int) 8 0 0 [.ref a] z h (RdP z h (some (.int er))) := by
  refine Ct.of hl hΓ (by decide +kernel) (Nat.le_of_ble_eq_true rfl) (fun X e1 e2 C => ?_)
  subst e1; subst e2
  have C : Cx X cX1_errorAt 1 "RingDomino" "errorAt" (some .int) [] 8 := C
  have Hg := hG.1
  have hzz := BO.z hB
  have hbl := BO.l hB
  have hbt := hB.2.1
  show WW X (RdP z h (some (.int er))) z h 0 0 0 [(0, .ref a)] []
  refine ww_aload_n C dX1_errorAt_0 rfl 0 rfl rfl ?_
  refine gf_X1_43_X1 C dX1_errorAt_1 Ha rfl ?_
  exact ww_iret C dX1_errorAt_4 (RdP.i (by rfl))
set_option maxHeartbeats 2000000 in
theorem ct_X1_tiles {l : Launch} {Γ : Gm} (hl : l.flags = flags0) (hΓ : GOK Γ) {z : ZR} {h : AH} {a tp g ah : Nat} {er : Int32} {A : Nat → Nat} {B : GB} {rn dn : Int32} (hz : zle (cst Γ) z) (Ha : rd z h a (.inr (0, [.ref tp, .int er, .ref g, .ref ah]))) (hG : GmP Γ z h g A B rn dn) (hB : BO B) : Ct l Γ yX1_tiles cX1_tiles 1 (some .int) 8 0 0 [.ref a] z h (RdP z h (some (.int (nI (Bt B))))) := by
  refine Ct.of hl hΓ (by decide +kernel) (Nat.le_of_ble_eq_true rfl) (fun X e1 e2 C => ?_)
  subst e1; subst e2
  have C : Cx X cX1_tiles 1 "RingDomino" "tiles" (some .int) [] 8 := C
  have Hg := hG.1
  have hzz := BO.z hB
  have hbl := BO.l hB
  have hbt := hB.2.1
  show WW X (RdP z h (some (.int (nI (Bt B))))) z h 0 0 0 [(0, .ref a)] []
  refine ww_aload_n C dX1_tiles_0 rfl 0 rfl rfl ?_
  refine gf_X1_50_X1 C dX1_tiles_1 Ha rfl ?_
  refine gf_X1_96_X3 C dX1_tiles_4 Hg rfl ?_
  have hTl := hG.2.2.1
  refine cv_X1_100_r (As := []) (rest := []) C dX1_tiles_7 (ct_J2_size (Cx.fl C) (Cx.ok C) hTl) (ALp.rc (Cx.ok C) hTl) rfl rfl (Nat.le_of_ble_eq_true rfl) (by decide) (Nat.zero_le _) (Nat.zero_le _) ?_
  exact ww_iret C dX1_tiles_10 (RdP.i (by rfl))
set_option maxHeartbeats 2000000 in
theorem ct_X1_placedTiles {l : Launch} {Γ : Gm} (hl : l.flags = flags0) (hΓ : GOK Γ) {z : ZR} {h : AH} {a tp g ah : Nat} {er : Int32} {A : Nat → Nat} {B : GB} {rn dn : Int32} (hz : zle (cst Γ) z) (Ha : rd z h a (.inr (0, [.ref tp, .int er, .ref g, .ref ah]))) (hG : GmP Γ z h g A B rn dn) (hB : BO B) : Ct l Γ yX1_placedTiles cX1_placedTiles 1 (some .int) 8 0 0 [.ref a] z h (RdP z h (some (.int (nI (plN B))))) := by
  refine Ct.of hl hΓ (by decide +kernel) (Nat.le_of_ble_eq_true rfl) (fun X e1 e2 C => ?_)
  subst e1; subst e2
  have C : Cx X cX1_placedTiles 1 "RingDomino" "placedTiles" (some .int) [] 8 := C
  have Hg := hG.1
  have hzz := BO.z hB
  have hbl := BO.l hB
  have hbt := hB.2.1
  show WW X (RdP z h (some (.int (nI (plN B))))) z h 0 0 0 [(0, .ref a)] []
  refine ww_aload_n C dX1_placedTiles_0 rfl 0 rfl rfl ?_
  refine gf_X1_50_X1 C dX1_placedTiles_1 Ha rfl ?_
  refine cv_X1_123_r (As := []) (rest := []) C dX1_placedTiles_4 (ct_X3_placed (Cx.fl C) (Cx.ok C) hG hB.1 hbl) (rc_X3 (Cx.ok C) Hg) rfl rfl (Nat.le_of_ble_eq_true rfl) (by decide) (Nat.zero_le _) (Nat.zero_le _) ?_
  exact ww_iret C dX1_placedTiles_7 (RdP.i (by rfl))
set_option maxHeartbeats 2000000 in
theorem ct_X1_matches {l : Launch} {Γ : Gm} (hl : l.flags = flags0) (hΓ : GOK Γ) {z : ZR} {h : AH} {a tp g ah : Nat} {er : Int32} {A : Nat → Nat} {B : GB} {rn dn : Int32} (hz : zle (cst Γ) z) (Ha : rd z h a (.inr (0, [.ref tp, .int er, .ref g, .ref ah]))) (hG : GmP Γ z h g A B rn dn) (hB : BO B) : Ct l Γ yX1_matches cX1_matches 1 (some .int) 8 0 0 [.ref a] z h (RdP z h (some (.int (nI (maN B))))) := by
  refine Ct.of hl hΓ (by decide +kernel) (Nat.le_of_ble_eq_true rfl) (fun X e1 e2 C => ?_)
  subst e1; subst e2
  have C : Cx X cX1_matches 1 "RingDomino" "matches" (some .int) [] 8 := C
  have Hg := hG.1
  have hzz := BO.z hB
  have hbl := BO.l hB
  have hbt := hB.2.1
  show WW X (RdP z h (some (.int (nI (maN B))))) z h 0 0 0 [(0, .ref a)] []
  refine ww_aload_n C dX1_matches_0 rfl 0 rfl rfl ?_
  refine gf_X1_50_X1 C dX1_matches_1 Ha rfl ?_
  refine cv_X1_126_r (As := []) (rest := []) C dX1_matches_4 (ct_X3_matches (Cx.fl C) (Cx.ok C) hG hB.1 hbl) (rc_X3 (Cx.ok C) Hg) rfl rfl (Nat.le_of_ble_eq_true rfl) (by decide) (Nat.zero_le _) (Nat.zero_le _) ?_
  exact ww_iret C dX1_matches_7 (RdP.i (by rfl))
set_option maxHeartbeats 2000000 in
theorem ct_X1_points {l : Launch} {Γ : Gm} (hl : l.flags = flags0) (hΓ : GOK Γ) {z : ZR} {h : AH} {a tp g ah : Nat} {er : Int32} {A : Nat → Nat} {B : GB} {rn dn : Int32} (hz : zle (cst Γ) z) (Ha : rd z h a (.inr (0, [.ref tp, .int er, .ref g, .ref ah]))) (hG : GmP Γ z h g A B rn dn) (hB : BO B) : Ct l Γ yX1_points cX1_points 1 (some .int) 8 0 0 [.ref a] z h (RdP z h (some (.int (nI (poN B))))) := by
  refine Ct.of hl hΓ (by decide +kernel) (Nat.le_of_ble_eq_true rfl) (fun X e1 e2 C => ?_)
  subst e1; subst e2
  have C : Cx X cX1_points 1 "RingDomino" "points" (some .int) [] 8 := C
  have Hg := hG.1
  have hzz := BO.z hB
  have hbl := BO.l hB
  have hbt := hB.2.1
  show WW X (RdP z h (some (.int (nI (poN B))))) z h 0 0 0 [(0, .ref a)] []
  refine ww_aload_n C dX1_points_0 rfl 0 rfl rfl ?_
  refine gf_X1_50_X1 C dX1_points_1 Ha rfl ?_
  refine cv_X1_129_r (As := []) (rest := []) C dX1_points_4 (ct_X3_points (Cx.fl C) (Cx.ok C) hz hG hB) (rc_X3 (Cx.ok C) Hg) rfl rfl (Nat.le_of_ble_eq_true rfl) (by decide) (Nat.zero_le _) (Nat.zero_le _) ?_
  exact ww_iret C dX1_points_7 (RdP.i (by rfl))
set_option maxHeartbeats 2000000 in
theorem ct_X1_rings {l : Launch} {Γ : Gm} (hl : l.flags = flags0) (hΓ : GOK Γ) {z : ZR} {h : AH} {a tp g ah : Nat} {er : Int32} {A : Nat → Nat} {B : GB} {rn dn : Int32} (hz : zle (cst Γ) z) (Ha : rd z h a (.inr (0, [.ref tp, .int er, .ref g, .ref ah]))) (hG : GmP Γ z h g A B rn dn) (hB : BO B) : Ct l Γ yX1_rings cX1_rings 1 (some .int) 8 0 0 [.ref a] z h (RdP z h (some (.int (nI (rgN B))))) := by
  refine Ct.of hl hΓ (by decide +kernel) (Nat.le_of_ble_eq_true rfl) (fun X e1 e2 C => ?_)
  subst e1; subst e2
  have C : Cx X cX1_rings 1 "RingDomino" "rings" (some .int) [] 8 := C
  have Hg := hG.1
  have hzz := BO.z hB
  have hbl := BO.l hB
  have hbt := hB.2.1
  show WW X (RdP z h (some (.int (nI (rgN B))))) z h 0 0 0 [(0, .ref a)] []
  refine ww_aload_n C dX1_rings_0 rfl 0 rfl rfl ?_
  refine gf_X1_50_X1 C dX1_rings_1 Ha rfl ?_
  refine cv_X1_132_r (As := []) (rest := []) C dX1_rings_4 (ct_X3_rings (Cx.fl C) (Cx.ok C) hG hB.1 hbl) (rc_X3 (Cx.ok C) Hg) rfl rfl (Nat.le_of_ble_eq_true rfl) (by decide) (Nat.zero_le _) (Nat.zero_le _) ?_
  exact ww_iret C dX1_rings_7 (RdP.i (by rfl))
end COM3
