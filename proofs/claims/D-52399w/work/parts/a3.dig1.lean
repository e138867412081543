section DIG1
set_option maxRecDepth 100000
set_option maxHeartbeats 2000000 in
theorem ct_X1_one {l : Launch} {Γ : Gm} (hl : l.flags = flags0) (hΓ : GOK Γ) {z : ZR} {h : AH} {q : Bool}  : Ct l Γ yX1_one cX1_one 1 (some .int) 1 0 0 [.int (bI q)] z h (RdP z h (some (.int (bI q)))) := by
  refine Ct.of hl hΓ (by decide +kernel) (Nat.le_of_ble_eq_true rfl) (fun X e1 e2 C => ?_)
  subst e1; subst e2
  have C : Cx X cX1_one 1 "RingDomino" "one" (some .int) [] 1 := C
  show WW X (RdP z h (some (.int (bI q)))) z h 0 0 0 [(0, .int (bI q))] []
  refine ww_iload_n C dX1_one_0 rfl 0 rfl ?_
  refine ww_tern_eq_b C dX1_one_1 dX1_one_4 dX1_one_5 dX1_one_8 ?_
  exact ww_iret C dX1_one_9 (RdP.i (by rfl))
set_option maxHeartbeats 2000000 in
theorem ct_X1_digest {l : Launch} {Γ : Gm} (hl : l.flags = flags0) (hΓ : GOK Γ) {z : ZR} {h : AH} {a tp g ah : Nat} {er : Int32} {A : Nat → Nat} {B : GB} {G : GG} {rn dn : Int32} (hz : zle (cst Γ) z) (Ha : rd z h a (.inr (0, [.ref tp, .int er, .ref g, .ref ah]))) (hM : GmM Γ z h g A B G rn dn) (hC : BC B) : Ct l Γ yX1_digest cX1_digest 8 (some .long) 11 (2 * btC B (Bt B) + 133) (3 * btC B (Bt B) + 888) [.ref a] z h (RdP z h (some (.long (dgA B rn)))) := by
  refine Ct.of hl hΓ (by decide +kernel) (Nat.le_of_ble_eq_true rfl) (fun X e1 e2 C => ?_)
  subst e1; subst e2
  have C : Cx X cX1_digest 8 "RingDomino" "digest" (some .long) [] 11 := C
  have hB := hC.1
  have hG := GmM.p hz hM
  have Hg := hG.1
  have hzz := BO.z hB
  have hbl := BO.l hB
  have hbt := hB.2.1
  show WW X (RdP z h (some (.long (dgA B rn)))) z h (2 * btC B (Bt B) + 133) (3 * btC B (Bt B) + 888) 0 [(0, .ref a)] []
  refine ww_ldc2 C q2417 dX1_digest_0 ?_
  refine ww_lstore_n (lv' := [(1, .long (1009 : Int64)), (0, .ref a)]) C dX1_digest_3 rfl (by decide) rfl ?_
  refine ww_bipush C dX1_digest_4 cB_10 ?_
  refine ww_newa (t := 0) (n := 10) (a0 := (10, .inl (fun _ => 0))) C dX1_digest_6 (by decide) rfl q267 (fun cA => vp_cell_el cA _) (by decide) (by omega) (by omega) (fun ar ar_n ar_z ar_g => ?_)
  refine ww_gen (fun h1 hE1 => ?_)
  have N1_h1 : h1 ar = some (.inl (gA (xG X) 0, (10, .inl (fun _ => 0)))) := by rw [hE1]; exact up_s
  have hb0 : h1 = up h ar (.inl (gA (xG X) 0, (10, .inl (fun _ => 0)))) := hE1
  refine ww_le (kc' := 2 * btC B (Bt B) + 132) (ns' := 3 * btC B (Bt B) + 878) (by omega) (by omega) ?_
  have hle0 : hle h h1 := by rw [hb0]; exact up_hle ar_n
  have Ha0 := Ha.mono (zle.rf) hle0
  have hM0 : GmM (xG X) z h1 g A B G rn dn := hM.ext (fun q e hq _ => hle0 q e hq)
  have hG0 := GmM.p hz hM0
  refine ww_dup C dX1_digest_8 rfl ?_
  refine ww_iconst C dX1_digest_9 cI_0 ?_
  refine ww_aload_n C dX1_digest_10 rfl 1 rfl rfl ?_
  refine cv_X1_245_r (As := []) (rest := [.int (nI 0), .ref ar, .ref ar]) C dX1_digest_11 (ct_X1_columns (Cx.fl C) (Cx.ok C) hz Ha0 hG0 hB) (rc_X1 (Cx.ok C) Ha0) rfl rfl (Nat.le_of_ble_eq_true rfl) (by decide) (Nat.zero_le _) (Nat.zero_le _) ?_
  refine ww_iast C dX1_digest_14 N1_h1 (by decide) (by decide) ?_
  refine ww_gen (fun h2 hE2 => ?_)
  have N1_h2 : h2 ar = some (.inl (gA (xG X) 0, (10, .inl (upd (fun _ => 0) 0 (nI (Bc B)))))) := by rw [hE2]; exact up_s
  have hb1 : h2 = up h ar (.inl (gA (xG X) 0, (10, .inl (upd (fun _ => 0) 0 (nI (Bc B)))))) := by rw [hE2, hb0, up_up]
  have hle1 : hle h h2 := by rw [hb1]; exact up_hle ar_n
  have Ha1 := Ha.mono (zle.rf) hle1
  have hM1 : GmM (xG X) z h2 g A B G rn dn := hM.ext (fun q e hq _ => hle1 q e hq)
  have hG1 := GmM.p hz hM1
  refine ww_dup C dX1_digest_15 rfl ?_
  refine ww_iconst C dX1_digest_16 cI_1 ?_
  refine ww_aload_n C dX1_digest_17 rfl 1 rfl rfl ?_
  refine cv_X1_247_r (As := []) (rest := [.int (nI 1), .ref ar, .ref ar]) C dX1_digest_18 (ct_X1_rows (Cx.fl C) (Cx.ok C) hz Ha1 hG1 hB) (rc_X1 (Cx.ok C) Ha1) rfl rfl (Nat.le_of_ble_eq_true rfl) (by decide) (Nat.zero_le _) (Nat.zero_le _) ?_
  refine ww_iast C dX1_digest_21 N1_h2 (by decide) (by decide) ?_
  refine ww_gen (fun h3 hE3 => ?_)
  have N1_h3 : h3 ar = some (.inl (gA (xG X) 0, (10, .inl (upd (upd (fun _ => 0) 0 (nI (Bc B))) 1 (nI (Br B)))))) := by rw [hE3]; exact up_s
  have hb2 : h3 = up h ar (.inl (gA (xG X) 0, (10, .inl (upd (upd (fun _ => 0) 0 (nI (Bc B))) 1 (nI (Br B)))))) := by rw [hE3, hb1, up_up]
  have hle2 : hle h h3 := by rw [hb2]; exact up_hle ar_n
  have Ha2 := Ha.mono (zle.rf) hle2
  have hM2 : GmM (xG X) z h3 g A B G rn dn := hM.ext (fun q e hq _ => hle2 q e hq)
  have hG2 := GmM.p hz hM2
  refine ww_dup C dX1_digest_22 rfl ?_
  refine ww_iconst C dX1_digest_23 cI_2 ?_
  refine ww_aload_n C dX1_digest_24 rfl 1 rfl rfl ?_
  refine cv_X1_249_r (As := []) (rest := [.int (nI 2), .ref ar, .ref ar]) C dX1_digest_25 (ct_X1_tiles (Cx.fl C) (Cx.ok C) hz Ha2 hG2 hB) (rc_X1 (Cx.ok C) Ha2) rfl rfl (Nat.le_of_ble_eq_true rfl) (by decide) (Nat.zero_le _) (Nat.zero_le _) ?_
  refine ww_iast C dX1_digest_28 N1_h3 (by decide) (by decide) ?_
  refine ww_gen (fun h4 hE4 => ?_)
  have N1_h4 : h4 ar = some (.inl (gA (xG X) 0, (10, .inl (upd (upd (upd (fun _ => 0) 0 (nI (Bc B))) 1 (nI (Br B))) 2 (nI (Bt B)))))) := by rw [hE4]; exact up_s
  have hb3 : h4 = up h ar (.inl (gA (xG X) 0, (10, .inl (upd (upd (upd (fun _ => 0) 0 (nI (Bc B))) 1 (nI (Br B))) 2 (nI (Bt B)))))) := by rw [hE4, hb2, up_up]
  have hle3 : hle h h4 := by rw [hb3]; exact up_hle ar_n
  have Ha3 := Ha.mono (zle.rf) hle3
  have hM3 : GmM (xG X) z h4 g A B G rn dn := hM.ext (fun q e hq _ => hle3 q e hq)
  have hG3 := GmM.p hz hM3
  refine ww_dup C dX1_digest_29 rfl ?_
  refine ww_iconst C dX1_digest_30 cI_3 ?_
  refine ww_aload_n C dX1_digest_31 rfl 1 rfl rfl ?_
  refine cv_X1_251_r (As := []) (rest := [.int (nI 3), .ref ar, .ref ar]) C dX1_digest_32 (ct_X1_rounds (Cx.fl C) (Cx.ok C) hz Ha3 hG3 hB) (rc_X1 (Cx.ok C) Ha3) rfl rfl (Nat.le_of_ble_eq_true rfl) (by decide) (Nat.zero_le _) (Nat.zero_le _) ?_
  refine ww_iast C dX1_digest_35 N1_h4 (by decide) (by decide) ?_
  refine ww_gen (fun h5 hE5 => ?_)
  have N1_h5 : h5 ar = some (.inl (gA (xG X) 0, (10, .inl (upd (upd (upd (upd (fun _ => 0) 0 (nI (Bc B))) 1 (nI (Br B))) 2 (nI (Bt B))) 3 rn)))) := by rw [hE5]; exact up_s
  have hb4 : h5 = up h ar (.inl (gA (xG X) 0, (10, .inl (upd (upd (upd (upd (fun _ => 0) 0 (nI (Bc B))) 1 (nI (Br B))) 2 (nI (Bt B))) 3 rn)))) := by rw [hE5, hb3, up_up]
  have hle4 : hle h h5 := by rw [hb4]; exact up_hle ar_n
  have Ha4 := Ha.mono (zle.rf) hle4
  have hM4 : GmM (xG X) z h5 g A B G rn dn := hM.ext (fun q e hq _ => hle4 q e hq)
  have hG4 := GmM.p hz hM4
  refine ww_dup C dX1_digest_36 rfl ?_
  refine ww_iconst C dX1_digest_37 cI_4 ?_
  refine ww_aload_n C dX1_digest_38 rfl 1 rfl rfl ?_
  refine cv_X1_254_r (As := []) (rest := [.int (nI 4), .ref ar, .ref ar]) C dX1_digest_39 (ct_X1_placedTiles (Cx.fl C) (Cx.ok C) hz Ha4 hG4 hB) (rc_X1 (Cx.ok C) Ha4) rfl rfl (Nat.le_of_ble_eq_true rfl) (by decide) (Nat.zero_le _) (Nat.zero_le _) ?_
  refine ww_iast C dX1_digest_42 N1_h5 (by decide) (by decide) ?_
  refine ww_gen (fun h6 hE6 => ?_)
  have N1_h6 : h6 ar = some (.inl (gA (xG X) 0, (10, .inl (upd (upd (upd (upd (upd (fun _ => 0) 0 (nI (Bc B))) 1 (nI (Br B))) 2 (nI (Bt B))) 3 rn) 4 (nI (plN B)))))) := by rw [hE6]; exact up_s
  have hb5 : h6 = up h ar (.inl (gA (xG X) 0, (10, .inl (upd (upd (upd (upd (upd (fun _ => 0) 0 (nI (Bc B))) 1 (nI (Br B))) 2 (nI (Bt B))) 3 rn) 4 (nI (plN B)))))) := by rw [hE6, hb4, up_up]
  have hle5 : hle h h6 := by rw [hb5]; exact up_hle ar_n
  have Ha5 := Ha.mono (zle.rf) hle5
  have hM5 : GmM (xG X) z h6 g A B G rn dn := hM.ext (fun q e hq _ => hle5 q e hq)
  have hG5 := GmM.p hz hM5
  refine ww_dup C dX1_digest_43 rfl ?_
  refine ww_iconst C dX1_digest_44 cI_5 ?_
  refine ww_aload_n C dX1_digest_45 rfl 1 rfl rfl ?_
  refine cv_X1_257_r (As := []) (rest := [.int (nI 5), .ref ar, .ref ar]) C dX1_digest_46 (ct_X1_matches (Cx.fl C) (Cx.ok C) hz Ha5 hG5 hB) (rc_X1 (Cx.ok C) Ha5) rfl rfl (Nat.le_of_ble_eq_true rfl) (by decide) (Nat.zero_le _) (Nat.zero_le _) ?_
  refine ww_iast C dX1_digest_49 N1_h6 (by decide) (by decide) ?_
  refine ww_gen (fun h7 hE7 => ?_)
  have N1_h7 : h7 ar = some (.inl (gA (xG X) 0, (10, .inl (upd (upd (upd (upd (upd (upd (fun _ => 0) 0 (nI (Bc B))) 1 (nI (Br B))) 2 (nI (Bt B))) 3 rn) 4 (nI (plN B))) 5 (nI (maN B)))))) := by rw [hE7]; exact up_s
  have hb6 : h7 = up h ar (.inl (gA (xG X) 0, (10, .inl (upd (upd (upd (upd (upd (upd (fun _ => 0) 0 (nI (Bc B))) 1 (nI (Br B))) 2 (nI (Bt B))) 3 rn) 4 (nI (plN B))) 5 (nI (maN B)))))) := by rw [hE7, hb5, up_up]
  have hle6 : hle h h7 := by rw [hb6]; exact up_hle ar_n
  have Ha6 := Ha.mono (zle.rf) hle6
  have hM6 : GmM (xG X) z h7 g A B G rn dn := hM.ext (fun q e hq _ => hle6 q e hq)
  have hG6 := GmM.p hz hM6
  refine ww_dup C dX1_digest_50 rfl ?_
  refine ww_bipush C dX1_digest_51 cB_6 ?_
  refine ww_aload_n C dX1_digest_53 rfl 1 rfl rfl ?_
  refine cv_X1_258_r (As := []) (rest := [.int (nI 6), .ref ar, .ref ar]) C dX1_digest_54 (ct_X1_points (Cx.fl C) (Cx.ok C) hz Ha6 hG6 hB) (rc_X1 (Cx.ok C) Ha6) rfl rfl (Nat.le_of_ble_eq_true rfl) (by decide) (Nat.zero_le _) (Nat.zero_le _) ?_
  refine ww_iast C dX1_digest_57 N1_h7 (by decide) (by decide) ?_
  refine ww_gen (fun h8 hE8 => ?_)
  have N1_h8 : h8 ar = some (.inl (gA (xG X) 0, (10, .inl (upd (upd (upd (upd (upd (upd (upd (fun _ => 0) 0 (nI (Bc B))) 1 (nI (Br B))) 2 (nI (Bt B))) 3 rn) 4 (nI (plN B))) 5 (nI (maN B))) 6 (nI (poN B)))))) := by rw [hE8]; exact up_s
  have hb7 : h8 = up h ar (.inl (gA (xG X) 0, (10, .inl (upd (upd (upd (upd (upd (upd (upd (fun _ => 0) 0 (nI (Bc B))) 1 (nI (Br B))) 2 (nI (Bt B))) 3 rn) 4 (nI (plN B))) 5 (nI (maN B))) 6 (nI (poN B)))))) := by rw [hE8, hb6, up_up]
  have hle7 : hle h h8 := by rw [hb7]; exact up_hle ar_n
  have Ha7 := Ha.mono (zle.rf) hle7
  have hM7 : GmM (xG X) z h8 g A B G rn dn := hM.ext (fun q e hq _ => hle7 q e hq)
  have hG7 := GmM.p hz hM7
  refine ww_dup C dX1_digest_58 rfl ?_
  refine ww_bipush C dX1_digest_59 cB_7 ?_
  refine ww_aload_n C dX1_digest_61 rfl 1 rfl rfl ?_
  refine cv_X1_259_r (As := []) (rest := [.int (nI 7), .ref ar, .ref ar]) C dX1_digest_62 (ct_X1_rings (Cx.fl C) (Cx.ok C) hz Ha7 hG7 hB) (rc_X1 (Cx.ok C) Ha7) rfl rfl (Nat.le_of_ble_eq_true rfl) (by decide) (Nat.zero_le _) (Nat.zero_le _) ?_
  refine ww_iast C dX1_digest_65 N1_h8 (by decide) (by decide) ?_
  refine ww_gen (fun h9 hE9 => ?_)
  have N1_h9 : h9 ar = some (.inl (gA (xG X) 0, (10, .inl (upd (upd (upd (upd (upd (upd (upd (upd (fun _ => 0) 0 (nI (Bc B))) 1 (nI (Br B))) 2 (nI (Bt B))) 3 rn) 4 (nI (plN B))) 5 (nI (maN B))) 6 (nI (poN B))) 7 (nI (rgN B)))))) := by rw [hE9]; exact up_s
  have hb8 : h9 = up h ar (.inl (gA (xG X) 0, (10, .inl (upd (upd (upd (upd (upd (upd (upd (upd (fun _ => 0) 0 (nI (Bc B))) 1 (nI (Br B))) 2 (nI (Bt B))) 3 rn) 4 (nI (plN B))) 5 (nI (maN B))) 6 (nI (poN B))) 7 (nI (rgN B)))))) := by rw [hE9, hb7, up_up]
  have hle8 : hle h h9 := by rw [hb8]; exact up_hle ar_n
  have Ha8 := Ha.mono (zle.rf) hle8
  have hM8 : GmM (xG X) z h9 g A B G rn dn := hM.ext (fun q e hq _ => hle8 q e hq)
  have hG8 := GmM.p hz hM8
  refine ww_dup C dX1_digest_66 rfl ?_
  refine ww_bipush C dX1_digest_67 cB_8 ?_
  refine ww_aload_n C dX1_digest_69 rfl 1 rfl rfl ?_
  refine cv_X1_260_r (As := []) (rest := [.int (nI 8), .ref ar, .ref ar]) C dX1_digest_70 (ct_X1_groups (Cx.fl C) (Cx.ok C) hz Ha8 hG8 hB) (rc_X1 (Cx.ok C) Ha8) rfl rfl (Nat.le_of_ble_eq_true rfl) (by decide) (by omega) (by omega) ?_
  refine ww_le (kc' := 2 * btC B (Bt B) + 130) (ns' := 3 * btC B (Bt B) + 780) (by omega) (by omega) ?_
  refine ww_iast C dX1_digest_73 N1_h9 (by decide) (by decide) ?_
  refine ww_gen (fun h10 hE10 => ?_)
  have N1_h10 : h10 ar = some (.inl (gA (xG X) 0, (10, .inl (upd (upd (upd (upd (upd (upd (upd (upd (upd (fun _ => 0) 0 (nI (Bc B))) 1 (nI (Br B))) 2 (nI (Bt B))) 3 rn) 4 (nI (plN B))) 5 (nI (maN B))) 6 (nI (poN B))) 7 (nI (rgN B))) 8 (nI ((grp B (Bz B)).1)))))) := by rw [hE10]; exact up_s
  have hb9 : h10 = up h ar (.inl (gA (xG X) 0, (10, .inl (upd (upd (upd (upd (upd (upd (upd (upd (upd (fun _ => 0) 0 (nI (Bc B))) 1 (nI (Br B))) 2 (nI (Bt B))) 3 rn) 4 (nI (plN B))) 5 (nI (maN B))) 6 (nI (poN B))) 7 (nI (rgN B))) 8 (nI ((grp B (Bz B)).1)))))) := by rw [hE10, hb8, up_up]
  have hle9 : hle h h10 := by rw [hb9]; exact up_hle ar_n
  have Ha9 := Ha.mono (zle.rf) hle9
  have hM9 : GmM (xG X) z h10 g A B G rn dn := hM.ext (fun q e hq _ => hle9 q e hq)
  have hG9 := GmM.p hz hM9
  refine ww_dup C dX1_digest_74 rfl ?_
  refine ww_bipush C dX1_digest_75 cB_9 ?_
  refine ww_aload_n C dX1_digest_77 rfl 1 rfl rfl ?_
  refine cv_X1_261_r (As := []) (rest := [.int (nI 9), .ref ar, .ref ar]) C dX1_digest_78 (ct_X1_bestTile (Cx.fl C) (Cx.ok C) hz Ha9 hM9 hC) (rc_X1 (Cx.ok C) Ha9) rfl rfl (Nat.le_of_ble_eq_true rfl) (by decide) (by omega) (by omega) ?_
  refine ww_le (kc' := 130) (ns' := 780) (by omega) (by omega) ?_
  refine ww_iast C dX1_digest_81 N1_h10 (by decide) (by decide) ?_
  refine ww_gen (fun h11 hE11 => ?_)
  have N1_h11 : h11 ar = some (.inl (gA (xG X) 0, (10, .inl (upd (upd (upd (upd (upd (upd (upd (upd (upd (upd (fun _ => 0) 0 (nI (Bc B))) 1 (nI (Br B))) 2 (nI (Bt B))) 3 rn) 4 (nI (plN B))) 5 (nI (maN B))) 6 (nI (poN B))) 7 (nI (rgN B))) 8 (nI ((grp B (Bz B)).1))) 9 (oI ((btN B (Bt B)).map Prod.fst)))))) := by rw [hE11]; exact up_s
  have hb10 : h11 = up h ar (.inl (gA (xG X) 0, (10, .inl (upd (upd (upd (upd (upd (upd (upd (upd (upd (upd (fun _ => 0) 0 (nI (Bc B))) 1 (nI (Br B))) 2 (nI (Bt B))) 3 rn) 4 (nI (plN B))) 5 (nI (maN B))) 6 (nI (poN B))) 7 (nI (rgN B))) 8 (nI ((grp B (Bz B)).1))) 9 (oI ((btN B (Bt B)).map Prod.fst)))))) := by rw [hE11, hb9, up_up]
  have hle10 : hle h h11 := by rw [hb10]; exact up_hle ar_n
  have Ha10 := Ha.mono (zle.rf) hle10
  have hM10 : GmM (xG X) z h11 g A B G rn dn := hM.ext (fun q e hq _ => hle10 q e hq)
  have hG10 := GmM.p hz hM10
  obtain ⟨F, hFd⟩ : ∃ F : Nat → Int32, F = upd (upd (upd (upd (upd (upd (upd (upd (upd (upd (fun _ => 0) 0 (nI (Bc B))) 1 (nI (Br B))) 2 (nI (Bt B))) 3 rn) 4 (nI (plN B))) 5 (nI (maN B))) 6 (nI (poN B))) 7 (nI (rgN B))) 8 (nI ((grp B (Bz B)).1))) 9 (oI ((btN B (Bt B)).map Prod.fst)) := ⟨_, rfl⟩
  have hFX : ∀ j, j < 10 → F j = dgX B rn j := fun j hj => by
    rcases (show j = 0 ∨ j = 1 ∨ j = 2 ∨ j = 3 ∨ j = 4 ∨ j = 5 ∨ j = 6 ∨ j = 7 ∨ j = 8 ∨ j = 9 by omega) with rfl | rfl | rfl | rfl | rfl | rfl | rfl | rfl | rfl | rfl <;> (rw [hFd]; rfl)
  have har : h11 ar = some (.inl (gA (xG X) 0, (10, .inl F))) := by rw [hFd]; exact N1_h11
  refine ww_astore_n (lv' := [(3, .ref ar), (1, .long (1009 : Int64)), (0, .ref a)]) C dX1_digest_82 rfl (by decide) rfl rfl ?_
  refine ww_aload_n C dX1_digest_83 rfl 0 rfl rfl ?_
  refine ww_astore (lv' := [(4, .ref ar), (3, .ref ar), (1, .long (1009 : Int64)), (0, .ref a)]) C dX1_digest_84 (by decide) rfl rfl ?_
  refine ww_aload C dX1_digest_86 0 rfl rfl ?_
  refine ww_alen (t := 0) C dX1_digest_88 (by decide) (Or.inl har) ?_
  refine ww_istore (lv' := [(5, .int (nI 10)), (4, .ref ar), (3, .ref ar), (1, .long (1009 : Int64)), (0, .ref a)]) C dX1_digest_89 (by decide) rfl ?_
  refine ww_iconst C dX1_digest_91 cI_0 ?_
  refine ww_istore (lv' := [(6, .int (nI 0)), (5, .int (nI 10)), (4, .ref ar), (3, .ref ar), (1, .long (1009 : Int64)), (0, .ref a)]) C dX1_digest_92 (by decide) rfl ?_
  refine ww_z0 (fun hz0 => ?_)
  refine ww_sub [5, 4, 2, 1, 0] rfl ?_
  refine loop_up (N := 10) (M := fun j => WW X (RdP z h (some (.long (dgA B rn)))) z h11 130 780 94 [(0, .ref a), (1, .long (dgL F j)), (4, .ref ar), (5, .int (nI 10)), (6, .int (nI j))] []) ?_ ?_ 0 (Nat.zero_le _) 
  · skip
    show WW X (RdP z h (some (.long (dgA B rn)))) z h11 130 780 94 [(0, .ref a), (1, .long (dgL F 10)), (4, .ref ar), (5, .int (nI 10)), (6, .int (nI 10))] []
    refine ww_iload C dX1_digest_94 4 rfl ?_
    refine ww_iload C dX1_digest_96 3 rfl ?_
    refine ww_icmp_ge_t (tgt := 124) C dX1_digest_98 (by decide) (nI_le (Nat.le_refl _) (by decide)) ?_
    have hd1 : dgL F 10 = dgL (dgX B rn) 10 := dgL_c 10 hFX
    refine ww_iconst C dX1_digest_124 cI_0 ?_
    refine ww_istore (lv' := [(4, .int (nI 0)), (0, .ref a), (1, .long (dgL F 10)), (5, .int (nI 10)), (6, .int (nI 10))]) C dX1_digest_125 (by decide) rfl ?_
    refine ww_sub [1, 2, 0] rfl ?_
    refine ww_lv (lv' := [(0, .ref a), (1, .long (dgC B (dgL (dgX B rn) 10) 0)), (4, .int (nI 0))]) (by rw [hd1]; rfl) ?_
    refine ww_le (kc' := 2 * (49 - 0) + 32) (ns' := 12 * (49 - 0) + 192) (by omega) (by omega) ?_
    refine loop_up (N := (Bz B)) (M := fun c => WW X (RdP z h (some (.long (dgA B rn)))) z h11 (2 * (49 - c) + 32) (12 * (49 - c) + 192) 127 [(0, .ref a), (1, .long (dgC B (dgL (dgX B rn) 10) c)), (4, .int (nI c))] []) ?_ ?_ 0 (Nat.zero_le _) 
    · skip
      show WW X (RdP z h (some (.long (dgA B rn)))) z h11 (2 * (49 - (Bz B)) + 32) (12 * (49 - (Bz B)) + 192) 127 [(0, .ref a), (1, .long (dgC B (dgL (dgX B rn) 10) (Bz B))), (4, .int (nI (Bz B)))] []
      refine ww_iload C dX1_digest_127 2 rfl ?_
      refine ww_aload_n C dX1_digest_129 rfl 0 rfl rfl ?_
      refine gf_X1_50_X1 C dX1_digest_130 Ha10 rfl ?_
      refine cv_X1_103_r (As := []) (rest := [.int (nI (Bz B))]) C dX1_digest_133 (ct_X3_cells (Cx.fl C) (Cx.ok C) hG10 hB.1) (rc_X3 (Cx.ok C) hG10.1) rfl rfl (Nat.le_of_ble_eq_true rfl) (by decide) (Nat.zero_le _) (Nat.zero_le _) ?_
      refine ww_icmp_ge_t (tgt := 196) C dX1_digest_136 (by decide) (nI_le (Nat.le_refl _) (by omega)) ?_
      refine ww_iconst C dX1_digest_196 cI_0 ?_
      refine ww_istore (lv' := [(4, .int (nI 0)), (0, .ref a), (1, .long (dgC B (dgL (dgX B rn) 10) (Bz B)))]) C dX1_digest_197 (by decide) rfl ?_
      refine ww_le (kc' := 32) (ns' := 192) (by omega) (by omega) ?_
      refine ww_sub [1, 2, 0] rfl ?_
      refine ww_lv (lv' := [(0, .ref a), (1, .long (dgT B (dgC B (dgL (dgX B rn) 10) (Bz B)) 0)), (4, .int (nI 0))]) rfl ?_
      refine ww_le (kc' := 2 * (16 - 0)) (ns' := 12 * (16 - 0)) (by omega) (by omega) ?_
      refine loop_up (N := (Bt B)) (M := fun t => WW X (RdP z h (some (.long (dgA B rn)))) z h11 (2 * (16 - t)) (12 * (16 - t)) 199 [(0, .ref a), (1, .long (dgT B (dgC B (dgL (dgX B rn) 10) (Bz B)) t)), (4, .int (nI t))] []) ?_ ?_ 0 (Nat.zero_le _) 
      · skip
        show WW X (RdP z h (some (.long (dgA B rn)))) z h11 (2 * (16 - (Bt B))) (12 * (16 - (Bt B))) 199 [(0, .ref a), (1, .long (dgT B (dgC B (dgL (dgX B rn) 10) (Bz B)) (Bt B))), (4, .int (nI (Bt B)))] []
        refine ww_iload C dX1_digest_199 2 rfl ?_
        refine ww_aload_n C dX1_digest_201 rfl 0 rfl rfl ?_
        refine gf_X1_50_X1 C dX1_digest_202 Ha10 rfl ?_
        refine gf_X1_96_X3 C dX1_digest_205 hG10.1 rfl ?_
        refine cv_X1_100_r (As := []) (rest := [.int (nI (Bt B))]) C dX1_digest_208 (ct_J2_size (Cx.fl C) (Cx.ok C) hG10.2.2.1) (ALp.rc (Cx.ok C) hG10.2.2.1) rfl rfl (Nat.le_of_ble_eq_true rfl) (by decide) (Nat.zero_le _) (Nat.zero_le _) ?_
        refine ww_icmp_ge_t (tgt := 293) C dX1_digest_211 (by decide) (nI_le (Nat.le_refl _) (by omega)) ?_
        refine ww_lload_n C dX1_digest_293 rfl 1 rfl ?_
        refine ww_hs (h' := h) hle10 ?_
        exact ww_lret C dX1_digest_294 (RdP.v (by rfl))
      · intro t hi ih  
        show WW X (RdP z h (some (.long (dgA B rn)))) z h11 (2 * (16 - t)) (12 * (16 - t)) 199 [(0, .ref a), (1, .long (dgT B (dgC B (dgL (dgX B rn) 10) (Bz B)) t)), (4, .int (nI t))] []
        refine ww_iload C dX1_digest_199 2 rfl ?_
        refine ww_aload_n C dX1_digest_201 rfl 0 rfl rfl ?_
        refine gf_X1_50_X1 C dX1_digest_202 Ha10 rfl ?_
        refine gf_X1_96_X3 C dX1_digest_205 hG10.1 rfl ?_
        refine cv_X1_100_r (As := []) (rest := [.int (nI t)]) C dX1_digest_208 (ct_J2_size (Cx.fl C) (Cx.ok C) hG10.2.2.1) (ALp.rc (Cx.ok C) hG10.2.2.1) rfl rfl (Nat.le_of_ble_eq_true rfl) (by decide) (Nat.zero_le _) (Nat.zero_le _) ?_
        refine ww_icmp_ge_f (tgt := 293) C dX1_digest_211 (by decide) (nI_ge hi (by omega)) ?_
        refine ww_lload_n C dX1_digest_214 rfl 1 rfl ?_
        refine ww_ldc2 C q2428 dX1_digest_215 ?_
        refine ww_lmul C dX1_digest_218 ?_
        refine ww_aload_n C dX1_digest_219 rfl 0 rfl rfl ?_
        refine gf_X1_50_X1 C dX1_digest_220 Ha10 rfl ?_
        refine ww_iload C dX1_digest_223 2 rfl ?_
        refine cv_X1_110_r (As := [.int (nI t)]) (rest := [.long ((dgT B (dgC B (dgL (dgX B rn) 10) (Bz B)) t) * (31 : Int64))]) C dX1_digest_225 (ct_X3_isPlaced (Cx.fl C) (Cx.ok C) hz hG10 hB hi) (rc_X3 (Cx.ok C) hG10.1) rfl rfl (Nat.le_of_ble_eq_true rfl) (by decide) (Nat.zero_le _) (Nat.zero_le _) ?_
        refine ww_if_eq_b (tgt := 252) C dX1_digest_228 (by decide) (fun c_228 => ?_) (fun c_228 => ?_)
        · skip
          have htu : tuI B t = -1 := by unfold tuI; rw [c_228]; rfl
          refine ww_iconst C dX1_digest_252 cI_m1 ?_
          refine ww_st (st' := [.int (tuI B t), .long ((dgT B (dgC B (dgL (dgX B rn) 10) (Bz B)) t) * (31 : Int64))]) (by rw [htu]) ?_
          refine ww_i2l C dX1_digest_253 rfl ?_
          refine ww_ladd C dX1_digest_254 ?_
          refine ww_lstore_n (lv' := [(1, .long (((dgT B (dgC B (dgL (dgX B rn) 10) (Bz B)) t) * (31 : Int64)) + ((tuI B t).toInt64))), (0, .ref a), (4, .int (nI t))]) C dX1_digest_255 rfl (by decide) rfl ?_
          refine ww_lload_n C dX1_digest_256 rfl 0 rfl ?_
          refine ww_ldc2 C q2428 dX1_digest_257 ?_
          refine ww_lmul C dX1_digest_260 ?_
          refine ww_aload_n C dX1_digest_261 rfl 1 rfl rfl ?_
          refine ww_iload C dX1_digest_262 2 rfl ?_
          refine cv_X1_270 (As := [.int (nI t)]) (rest := [.long ((((dgT B (dgC B (dgL (dgX B rn) 10) (Bz B)) t) * (31 : Int64)) + ((tuI B t).toInt64)) * (31 : Int64))]) C dX1_digest_264 (ct_X1_waysOf (Cx.fl C) (Cx.ok C) hz Ha10 hG10 hB) (rc_X1 (Cx.ok C) Ha10) rfl rfl (Nat.le_of_ble_eq_true rfl) (by decide) (by omega) (by omega) (fun v9 z9 h9 q9 => ?_) (fun E9 a9 z9 h9 q9 => ?_)
          rotate_left
          · skip
            obtain ⟨-, -, hq3⟩ := q9
            have han : (aWay B (nI t)).2 = 0 := by simp only [aWay, ixO_n hi (show _ < 2 ^ 31 by omega)]
            rcases hq3 with ⟨-, q⟩ | ⟨-, q⟩ <;> (rw [han] at q; cases q)
          obtain ⟨hq0, hq1, hq2, -⟩ := q9; replace hq1 := hq1.symm; replace hq2 := hq2.symm; subst hq0; subst hq1; subst hq2
          refine ww_st (st' := [.int (nI (wyN B t)), .long ((((dgT B (dgC B (dgL (dgX B rn) 10) (Bz B)) t) * (31 : Int64)) + ((tuI B t).toInt64)) * (31 : Int64))]) (by simp only [aWay, ixO_n hi (show _ < 2 ^ 31 by omega)]) ?_
          refine ww_le (kc' := (2 * (16 - t)) - 1) (ns' := (12 * (16 - t)) - 6) (Nat.le_refl _) (Nat.le_refl _) ?_
          refine ww_i2l C dX1_digest_267 rfl ?_
          refine ww_ladd C dX1_digest_268 ?_
          refine ww_lstore_n (lv' := [(1, .long (((((dgT B (dgC B (dgL (dgX B rn) 10) (Bz B)) t) * (31 : Int64)) + ((tuI B t).toInt64)) * (31 : Int64)) + ((nI (wyN B t)).toInt64))), (0, .ref a), (4, .int (nI t))]) C dX1_digest_269 rfl (by decide) rfl ?_
          refine ww_lload_n C dX1_digest_270 rfl 0 rfl ?_
          refine ww_ldc2 C q2428 dX1_digest_271 ?_
          refine ww_lmul C dX1_digest_274 ?_
          refine ww_aload_n C dX1_digest_275 rfl 1 rfl rfl ?_
          refine ww_iload C dX1_digest_276 2 rfl ?_
          refine cv_X1_273 (As := [.int (nI t)]) (rest := [.long ((((((dgT B (dgC B (dgL (dgX B rn) 10) (Bz B)) t) * (31 : Int64)) + ((tuI B t).toInt64)) * (31 : Int64)) + ((nI (wyN B t)).toInt64)) * (31 : Int64))]) C dX1_digest_278 (ct_X1_isLeftover (Cx.fl C) (Cx.ok C) hz Ha10 hG10 hB) (rc_X1 (Cx.ok C) Ha10) rfl rfl (Nat.le_of_ble_eq_true rfl) (by decide) (by omega) (by omega) (fun v9 z9 h9 q9 => ?_) (fun E9 a9 z9 h9 q9 => ?_)
          rotate_left
          · skip
            obtain ⟨-, -, hq3⟩ := q9
            have han : (aLef B (nI t)).2 = 0 := by simp only [aLef, ixO_n hi (show _ < 2 ^ 31 by omega)]
            rcases hq3 with ⟨-, q⟩ | ⟨-, q⟩ <;> (rw [han] at q; cases q)
          obtain ⟨hq0, hq1, hq2, -⟩ := q9; replace hq1 := hq1.symm; replace hq2 := hq2.symm; subst hq0; subst hq1; subst hq2
          refine ww_st (st' := [.int (bI (lfN B t)), .long ((((((dgT B (dgC B (dgL (dgX B rn) 10) (Bz B)) t) * (31 : Int64)) + ((tuI B t).toInt64)) * (31 : Int64)) + ((nI (wyN B t)).toInt64)) * (31 : Int64))]) (by simp only [aLef, ixO_n hi (show _ < 2 ^ 31 by omega)]) ?_
          refine ww_le (kc' := ((2 * (16 - t)) - 1) - 1) (ns' := ((12 * (16 - t)) - 6) - 6) (Nat.le_refl _) (Nat.le_refl _) ?_
          refine cs_X1_266_r (As := [.int (bI (lfN B t))]) (rest := [.long ((((((dgT B (dgC B (dgL (dgX B rn) 10) (Bz B)) t) * (31 : Int64)) + ((tuI B t).toInt64)) * (31 : Int64)) + ((nI (wyN B t)).toInt64)) * (31 : Int64))]) C dX1_digest_281 (ct_X1_one (Cx.fl C) (Cx.ok C)) rfl rfl (Nat.le_of_ble_eq_true rfl) (by decide) (Nat.zero_le _) (Nat.zero_le _) ?_
          refine ww_i2l C dX1_digest_284 rfl ?_
          refine ww_ladd C dX1_digest_285 ?_
          refine ww_lstore_n (lv' := [(1, .long (((((((dgT B (dgC B (dgL (dgX B rn) 10) (Bz B)) t) * (31 : Int64)) + ((tuI B t).toInt64)) * (31 : Int64)) + ((nI (wyN B t)).toInt64)) * (31 : Int64)) + ((bI (lfN B t)).toInt64))), (0, .ref a), (4, .int (nI t))]) C dX1_digest_286 rfl (by decide) rfl ?_
          refine ww_iinc (lv' := [(4, .int (nI (t + 1))), (1, .long (((((((dgT B (dgC B (dgL (dgX B rn) 10) (Bz B)) t) * (31 : Int64)) + ((tuI B t).toInt64)) * (31 : Int64)) + ((nI (wyN B t)).toInt64)) * (31 : Int64)) + ((bI (lfN B t)).toInt64))), (0, .ref a)]) C dX1_digest_287 2 rfl (inc_n _) (by decide) rfl ?_
          refine ww_goto (tgt := 199) C dX1_digest_290 (by decide) ?_
          refine ww_le (kc' := 2 * (16 - (t + 1))) (ns' := 12 * (16 - (t + 1))) (by omega) (by omega) ?_
          refine ww_sub [2, 1, 0] rfl ?_
          exact ww_lv (lv' := [(0, .ref a), (1, .long (dgT B (dgC B (dgL (dgX B rn) 10) (Bz B)) (t + 1))), (4, .int (nI (t + 1)))]) (by rfl) ih
        · skip
          have htu : tuI B t = nI (Bu B t) := by unfold tuI; rw [c_228]; rfl
          have hu6 := hB.2.2.2.1 t hi
          have Hb : rd z h11 (bxA (xG X) (nI (Bu B t))) (.inr (26, [.int (nI (Bu B t))])) := bx_rd hz (nI_rng (by omega))
          refine ww_aload_n C dX1_digest_231 rfl 0 rfl rfl ?_
          refine gf_X1_50_X1 C dX1_digest_232 Ha10 rfl ?_
          refine gf_X1_169_X3 C dX1_digest_235 hG10.1 rfl ?_
          refine ww_iload C dX1_digest_238 2 rfl ?_
          refine cv_X1_163_r (As := [.int (nI t)]) (rest := [.long ((dgT B (dgC B (dgL (dgX B rn) 10) (Bz B)) t) * (31 : Int64))]) C dX1_digest_240 (ct_J2_get (Cx.fl C) (Cx.ok C) hG10.2.2.2.2.2 hi) (ALp.rc (Cx.ok C) hG10.2.2.2.2.2) rfl rfl (Nat.le_of_ble_eq_true rfl) (by decide) (Nat.zero_le _) (Nat.zero_le _) ?_
          refine ww_castS (ci := 26) C q2470 rfl dX1_digest_243 (rc_J19 (Cx.ok C) Hb) ?_
          refine cv_X1_166_r (As := []) (rest := [.long ((dgT B (dgC B (dgL (dgX B rn) 10) (Bz B)) t) * (31 : Int64))]) C dX1_digest_246 (ct_J19_intValue (Cx.fl C) (Cx.ok C) Hb) (rc_J19 (Cx.ok C) Hb) rfl rfl (Nat.le_of_ble_eq_true rfl) (by decide) (Nat.zero_le _) (Nat.zero_le _) ?_
          refine ww_st (st' := [.int (tuI B t), .long ((dgT B (dgC B (dgL (dgX B rn) 10) (Bz B)) t) * (31 : Int64))]) (by rw [htu]) ?_
          refine ww_goto (tgt := 253) C dX1_digest_249 (by decide) ?_
          refine ww_i2l C dX1_digest_253 rfl ?_
          refine ww_ladd C dX1_digest_254 ?_
          refine ww_lstore_n (lv' := [(1, .long (((dgT B (dgC B (dgL (dgX B rn) 10) (Bz B)) t) * (31 : Int64)) + ((tuI B t).toInt64))), (0, .ref a), (4, .int (nI t))]) C dX1_digest_255 rfl (by decide) rfl ?_
          refine ww_lload_n C dX1_digest_256 rfl 0 rfl ?_
          refine ww_ldc2 C q2428 dX1_digest_257 ?_
          refine ww_lmul C dX1_digest_260 ?_
          refine ww_aload_n C dX1_digest_261 rfl 1 rfl rfl ?_
          refine ww_iload C dX1_digest_262 2 rfl ?_
          refine cv_X1_270 (As := [.int (nI t)]) (rest := [.long ((((dgT B (dgC B (dgL (dgX B rn) 10) (Bz B)) t) * (31 : Int64)) + ((tuI B t).toInt64)) * (31 : Int64))]) C dX1_digest_264 (ct_X1_waysOf (Cx.fl C) (Cx.ok C) hz Ha10 hG10 hB) (rc_X1 (Cx.ok C) Ha10) rfl rfl (Nat.le_of_ble_eq_true rfl) (by decide) (by omega) (by omega) (fun v9 z9 h9 q9 => ?_) (fun E9 a9 z9 h9 q9 => ?_)
          rotate_left
          · skip
            obtain ⟨-, -, hq3⟩ := q9
            have han : (aWay B (nI t)).2 = 0 := by simp only [aWay, ixO_n hi (show _ < 2 ^ 31 by omega)]
            rcases hq3 with ⟨-, q⟩ | ⟨-, q⟩ <;> (rw [han] at q; cases q)
          obtain ⟨hq0, hq1, hq2, -⟩ := q9; replace hq1 := hq1.symm; replace hq2 := hq2.symm; subst hq0; subst hq1; subst hq2
          refine ww_st (st' := [.int (nI (wyN B t)), .long ((((dgT B (dgC B (dgL (dgX B rn) 10) (Bz B)) t) * (31 : Int64)) + ((tuI B t).toInt64)) * (31 : Int64))]) (by simp only [aWay, ixO_n hi (show _ < 2 ^ 31 by omega)]) ?_
          refine ww_le (kc' := (2 * (16 - t)) - 1) (ns' := (12 * (16 - t)) - 6) (Nat.le_refl _) (Nat.le_refl _) ?_
          refine ww_i2l C dX1_digest_267 rfl ?_
          refine ww_ladd C dX1_digest_268 ?_
          refine ww_lstore_n (lv' := [(1, .long (((((dgT B (dgC B (dgL (dgX B rn) 10) (Bz B)) t) * (31 : Int64)) + ((tuI B t).toInt64)) * (31 : Int64)) + ((nI (wyN B t)).toInt64))), (0, .ref a), (4, .int (nI t))]) C dX1_digest_269 rfl (by decide) rfl ?_
          refine ww_lload_n C dX1_digest_270 rfl 0 rfl ?_
          refine ww_ldc2 C q2428 dX1_digest_271 ?_
          refine ww_lmul C dX1_digest_274 ?_
          refine ww_aload_n C dX1_digest_275 rfl 1 rfl rfl ?_
          refine ww_iload C dX1_digest_276 2 rfl ?_
          refine cv_X1_273 (As := [.int (nI t)]) (rest := [.long ((((((dgT B (dgC B (dgL (dgX B rn) 10) (Bz B)) t) * (31 : Int64)) + ((tuI B t).toInt64)) * (31 : Int64)) + ((nI (wyN B t)).toInt64)) * (31 : Int64))]) C dX1_digest_278 (ct_X1_isLeftover (Cx.fl C) (Cx.ok C) hz Ha10 hG10 hB) (rc_X1 (Cx.ok C) Ha10) rfl rfl (Nat.le_of_ble_eq_true rfl) (by decide) (by omega) (by omega) (fun v9 z9 h9 q9 => ?_) (fun E9 a9 z9 h9 q9 => ?_)
          rotate_left
          · skip
            obtain ⟨-, -, hq3⟩ := q9
            have han : (aLef B (nI t)).2 = 0 := by simp only [aLef, ixO_n hi (show _ < 2 ^ 31 by omega)]
            rcases hq3 with ⟨-, q⟩ | ⟨-, q⟩ <;> (rw [han] at q; cases q)
          obtain ⟨hq0, hq1, hq2, -⟩ := q9; replace hq1 := hq1.symm; replace hq2 := hq2.symm; subst hq0; subst hq1; subst hq2
          refine ww_st (st' := [.int (bI (lfN B t)), .long ((((((dgT B (dgC B (dgL (dgX B rn) 10) (Bz B)) t) * (31 : Int64)) + ((tuI B t).toInt64)) * (31 : Int64)) + ((nI (wyN B t)).toInt64)) * (31 : Int64))]) (by simp only [aLef, ixO_n hi (show _ < 2 ^ 31 by omega)]) ?_
          refine ww_le (kc' := ((2 * (16 - t)) - 1) - 1) (ns' := ((12 * (16 - t)) - 6) - 6) (Nat.le_refl _) (Nat.le_refl _) ?_
          refine cs_X1_266_r (As := [.int (bI (lfN B t))]) (rest := [.long ((((((dgT B (dgC B (dgL (dgX B rn) 10) (Bz B)) t) * (31 : Int64)) + ((tuI B t).toInt64)) * (31 : Int64)) + ((nI (wyN B t)).toInt64)) * (31 : Int64))]) C dX1_digest_281 (ct_X1_one (Cx.fl C) (Cx.ok C)) rfl rfl (Nat.le_of_ble_eq_true rfl) (by decide) (Nat.zero_le _) (Nat.zero_le _) ?_
          refine ww_i2l C dX1_digest_284 rfl ?_
          refine ww_ladd C dX1_digest_285 ?_
          refine ww_lstore_n (lv' := [(1, .long (((((((dgT B (dgC B (dgL (dgX B rn) 10) (Bz B)) t) * (31 : Int64)) + ((tuI B t).toInt64)) * (31 : Int64)) + ((nI (wyN B t)).toInt64)) * (31 : Int64)) + ((bI (lfN B t)).toInt64))), (0, .ref a), (4, .int (nI t))]) C dX1_digest_286 rfl (by decide) rfl ?_
          refine ww_iinc (lv' := [(4, .int (nI (t + 1))), (1, .long (((((((dgT B (dgC B (dgL (dgX B rn) 10) (Bz B)) t) * (31 : Int64)) + ((tuI B t).toInt64)) * (31 : Int64)) + ((nI (wyN B t)).toInt64)) * (31 : Int64)) + ((bI (lfN B t)).toInt64))), (0, .ref a)]) C dX1_digest_287 2 rfl (inc_n _) (by decide) rfl ?_
          refine ww_goto (tgt := 199) C dX1_digest_290 (by decide) ?_
          refine ww_le (kc' := 2 * (16 - (t + 1))) (ns' := 12 * (16 - (t + 1))) (by omega) (by omega) ?_
          refine ww_sub [2, 1, 0] rfl ?_
          exact ww_lv (lv' := [(0, .ref a), (1, .long (dgT B (dgC B (dgL (dgX B rn) 10) (Bz B)) (t + 1))), (4, .int (nI (t + 1)))]) (by rfl) ih
    · intro c hi ih  
      show WW X (RdP z h (some (.long (dgA B rn)))) z h11 (2 * (49 - c) + 32) (12 * (49 - c) + 192) 127 [(0, .ref a), (1, .long (dgC B (dgL (dgX B rn) 10) c)), (4, .int (nI c))] []
      refine ww_iload C dX1_digest_127 2 rfl ?_
      refine ww_aload_n C dX1_digest_129 rfl 0 rfl rfl ?_
      refine gf_X1_50_X1 C dX1_digest_130 Ha10 rfl ?_
      refine cv_X1_103_r (As := []) (rest := [.int (nI c)]) C dX1_digest_133 (ct_X3_cells (Cx.fl C) (Cx.ok C) hG10 hB.1) (rc_X3 (Cx.ok C) hG10.1) rfl rfl (Nat.le_of_ble_eq_true rfl) (by decide) (Nat.zero_le _) (Nat.zero_le _) ?_
      refine ww_icmp_ge_f (tgt := 196) C dX1_digest_136 (by decide) (nI_ge hi (by omega)) ?_
      have hbc := hbl c
      refine ww_lload_n C dX1_digest_139 rfl 1 rfl ?_
      refine ww_ldc2 C q2428 dX1_digest_140 ?_
      refine ww_lmul C dX1_digest_143 ?_
      refine ww_aload_n C dX1_digest_144 rfl 0 rfl rfl ?_
      refine gf_X1_50_X1 C dX1_digest_145 Ha10 rfl ?_
      refine gf_X1_144_X3 C dX1_digest_148 hG10.1 rfl ?_
      refine ww_iload C dX1_digest_151 2 rfl ?_
      refine ww_iald C dX1_digest_153 hG10.2.1 (by omega) (by decide) ?_
      refine ww_i2l C dX1_digest_154 rfl ?_
      refine ww_ladd C dX1_digest_155 ?_
      refine ww_lconst (v := 1) C dX1_digest_156 rfl ?_
      refine ww_lsub C dX1_digest_157 ?_
      refine ww_st (st' := [.long ((dgC B (dgL (dgX B rn) 10) c) * (31 : Int64) + (oI (atO B c)).toInt64)]) (by rw [lie_e hbc]) ?_
      refine ww_lstore_n (lv' := [(1, .long ((dgC B (dgL (dgX B rn) 10) c) * (31 : Int64) + (oI (atO B c)).toInt64)), (0, .ref a), (4, .int (nI c))]) C dX1_digest_158 rfl (by decide) rfl ?_
      refine ww_lload_n C dX1_digest_159 rfl 0 rfl ?_
      refine ww_ldc2 C q2428 dX1_digest_160 ?_
      refine ww_lmul C dX1_digest_163 ?_
      refine ww_aload_n C dX1_digest_164 rfl 1 rfl rfl ?_
      refine ww_iload C dX1_digest_165 2 rfl ?_
      refine cv_X1_264 (As := [.int (nI c)]) (rest := [.long (((dgC B (dgL (dgX B rn) 10) c) * (31 : Int64) + (oI (atO B c)).toInt64) * (31 : Int64))]) C dX1_digest_167 (ct_X1_matchesOf (Cx.fl C) (Cx.ok C) hz Ha10 hG10 hB) (rc_X1 (Cx.ok C) Ha10) rfl rfl (Nat.le_of_ble_eq_true rfl) (by decide) (by omega) (by omega) (fun v9 z9 h9 q9 => ?_) (fun E9 a9 z9 h9 q9 => ?_)
      rotate_left
      · skip
        obtain ⟨-, -, hq3⟩ := q9
        have han : (aMaO B (nI c)).2 = 0 := by simp only [aMaO, ixO_n hi (show _ < 2 ^ 31 by omega)]
        rcases hq3 with ⟨-, q⟩ | ⟨-, q⟩ <;> (rw [han] at q; cases q)
      obtain ⟨hq0, hq1, hq2, -⟩ := q9; replace hq1 := hq1.symm; replace hq2 := hq2.symm; subst hq0; subst hq1; subst hq2
      refine ww_st (st' := [.int (nI (moN B c)), .long (((dgC B (dgL (dgX B rn) 10) c) * (31 : Int64) + (oI (atO B c)).toInt64) * (31 : Int64))]) (by simp only [aMaO, ixO_n hi (show _ < 2 ^ 31 by omega)]) ?_
      refine ww_le (kc' := (2 * (49 - c) + 32) - 1) (ns' := (12 * (49 - c) + 192) - 6) (Nat.le_refl _) (Nat.le_refl _) ?_
      refine ww_i2l C dX1_digest_170 rfl ?_
      refine ww_ladd C dX1_digest_171 ?_
      refine ww_lstore_n (lv' := [(1, .long ((((dgC B (dgL (dgX B rn) 10) c) * (31 : Int64) + (oI (atO B c)).toInt64) * (31 : Int64)) + ((nI (moN B c)).toInt64))), (0, .ref a), (4, .int (nI c))]) C dX1_digest_172 rfl (by decide) rfl ?_
      refine ww_lload_n C dX1_digest_173 rfl 0 rfl ?_
      refine ww_ldc2 C q2428 dX1_digest_174 ?_
      refine ww_lmul C dX1_digest_177 ?_
      refine ww_aload_n C dX1_digest_178 rfl 1 rfl rfl ?_
      refine ww_iload C dX1_digest_179 2 rfl ?_
      refine cv_X1_265 (As := [.int (nI c)]) (rest := [.long (((((dgC B (dgL (dgX B rn) 10) c) * (31 : Int64) + (oI (atO B c)).toInt64) * (31 : Int64)) + ((nI (moN B c)).toInt64)) * (31 : Int64))]) C dX1_digest_181 (ct_X1_isRing (Cx.fl C) (Cx.ok C) hz Ha10 hG10 hB) (rc_X1 (Cx.ok C) Ha10) rfl rfl (Nat.le_of_ble_eq_true rfl) (by decide) (by omega) (by omega) (fun v9 z9 h9 q9 => ?_) (fun E9 a9 z9 h9 q9 => ?_)
      rotate_left
      · skip
        obtain ⟨-, -, hq3⟩ := q9
        have han : (aRin B (nI c)).2 = 0 := by simp only [aRin, ixO_n hi (show _ < 2 ^ 31 by omega)]
        rcases hq3 with ⟨-, q⟩ | ⟨-, q⟩ <;> (rw [han] at q; cases q)
      obtain ⟨hq0, hq1, hq2, -⟩ := q9; replace hq1 := hq1.symm; replace hq2 := hq2.symm; subst hq0; subst hq1; subst hq2
      refine ww_st (st' := [.int (bI (riN B c)), .long (((((dgC B (dgL (dgX B rn) 10) c) * (31 : Int64) + (oI (atO B c)).toInt64) * (31 : Int64)) + ((nI (moN B c)).toInt64)) * (31 : Int64))]) (by simp only [aRin, ixO_n hi (show _ < 2 ^ 31 by omega)]) ?_
      refine ww_le (kc' := ((2 * (49 - c) + 32) - 1) - 1) (ns' := ((12 * (49 - c) + 192) - 6) - 6) (Nat.le_refl _) (Nat.le_refl _) ?_
      refine cs_X1_266_r (As := [.int (bI (riN B c))]) (rest := [.long (((((dgC B (dgL (dgX B rn) 10) c) * (31 : Int64) + (oI (atO B c)).toInt64) * (31 : Int64)) + ((nI (moN B c)).toInt64)) * (31 : Int64))]) C dX1_digest_184 (ct_X1_one (Cx.fl C) (Cx.ok C)) rfl rfl (Nat.le_of_ble_eq_true rfl) (by decide) (Nat.zero_le _) (Nat.zero_le _) ?_
      refine ww_i2l C dX1_digest_187 rfl ?_
      refine ww_ladd C dX1_digest_188 ?_
      refine ww_lstore_n (lv' := [(1, .long ((((((dgC B (dgL (dgX B rn) 10) c) * (31 : Int64) + (oI (atO B c)).toInt64) * (31 : Int64)) + ((nI (moN B c)).toInt64)) * (31 : Int64)) + ((bI (riN B c)).toInt64))), (0, .ref a), (4, .int (nI c))]) C dX1_digest_189 rfl (by decide) rfl ?_
      refine ww_iinc (lv' := [(4, .int (nI (c + 1))), (1, .long ((((((dgC B (dgL (dgX B rn) 10) c) * (31 : Int64) + (oI (atO B c)).toInt64) * (31 : Int64)) + ((nI (moN B c)).toInt64)) * (31 : Int64)) + ((bI (riN B c)).toInt64))), (0, .ref a)]) C dX1_digest_190 2 rfl (inc_n _) (by decide) rfl ?_
      refine ww_goto (tgt := 127) C dX1_digest_193 (by decide) ?_
      refine ww_le (kc' := 2 * (49 - (c + 1)) + 32) (ns' := 12 * (49 - (c + 1)) + 192) (by omega) (by omega) ?_
      refine ww_sub [2, 1, 0] rfl ?_
      exact ww_lv (lv' := [(0, .ref a), (1, .long (dgC B (dgL (dgX B rn) 10) (c + 1))), (4, .int (nI (c + 1)))]) (by rfl) ih
  · intro j hi ih  
    show WW X (RdP z h (some (.long (dgA B rn)))) z h11 130 780 94 [(0, .ref a), (1, .long (dgL F j)), (4, .ref ar), (5, .int (nI 10)), (6, .int (nI j))] []
    refine ww_iload C dX1_digest_94 4 rfl ?_
    refine ww_iload C dX1_digest_96 3 rfl ?_
    refine ww_icmp_ge_f (tgt := 124) C dX1_digest_98 (by decide) (nI_ge hi (by decide)) ?_
    refine ww_aload C dX1_digest_101 2 rfl rfl ?_
    refine ww_iload C dX1_digest_103 4 rfl ?_
    refine ww_iald C dX1_digest_105 (Or.inl har) (by omega) (by decide) ?_
    refine ww_istore (lv' := [(7, .int (F j)), (0, .ref a), (1, .long (dgL F j)), (4, .ref ar), (5, .int (nI 10)), (6, .int (nI j))]) C dX1_digest_106 (by decide) rfl ?_
    refine ww_lload_n C dX1_digest_108 rfl 2 rfl ?_
    refine ww_ldc2 C q2428 dX1_digest_109 ?_
    refine ww_lmul C dX1_digest_112 ?_
    refine ww_iload C dX1_digest_113 0 rfl ?_
    refine ww_i2l C dX1_digest_115 rfl ?_
    refine ww_ladd C dX1_digest_116 ?_
    refine ww_lstore_n (lv' := [(1, .long (((dgL F j) * (31 : Int64)) + ((F j).toInt64))), (7, .int (F j)), (0, .ref a), (4, .ref ar), (5, .int (nI 10)), (6, .int (nI j))]) C dX1_digest_117 rfl (by decide) rfl ?_
    refine ww_iinc (lv' := [(6, .int (nI (j + 1))), (1, .long (((dgL F j) * (31 : Int64)) + ((F j).toInt64))), (7, .int (F j)), (0, .ref a), (4, .ref ar), (5, .int (nI 10))]) C dX1_digest_118 5 rfl (inc_n _) (by decide) rfl ?_
    refine ww_goto (tgt := 94) C dX1_digest_121 (by decide) ?_
    refine ww_sub [3, 1, 4, 5, 0] rfl ?_
    exact ww_lv (lv' := [(0, .ref a), (1, .long (dgL F (j + 1))), (4, .ref ar), (5, .int (nI 10)), (6, .int (nI (j + 1)))]) (by rfl) ih
end DIG1
