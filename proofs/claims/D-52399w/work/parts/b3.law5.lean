section LAW5
set_option maxRecDepth 100000
theorem uPut_z {B : GB} {x1 x2 x3 : Int32} (h : nI (uPut B x1 x2 x3).1.2 = 0) : (uPut B x1 x2 x3).1.2 = 0 := by
  revert h
  unfold uPut
  repeat' split
  all_goals first | (intro _; rfl) | (intro h; exact absurd (show nI 1 = 0 from h) (by decide)) | (intro h; exact absurd (show nI 2 = 0 from h) (by decide))
theorem uTak_z {B : GB} {x1 : Int32} (h : nI (uTak B x1).1.2 = 0) : (uTak B x1).1.2 = 0 := by
  revert h
  unfold uTak
  repeat' split
  all_goals first | (intro _; rfl) | (intro h; exact absurd (show nI 1 = 0 from h) (by decide)) | (intro h; exact absurd (show nI 2 = 0 from h) (by decide))
theorem uFit_z {B : GB} {x1 : Int32} (h : nI (uFit B x1).1.2 = 0) : (uFit B x1).1.2 = 0 := by
  revert h
  unfold uFit
  repeat' split
  all_goals first | (intro _; rfl) | (intro h; exact absurd (show nI 1 = 0 from h) (by decide)) | (intro h; exact absurd (show nI 2 = 0 from h) (by decide))
theorem uPla_z {T : TD} {B : GB} {rn x1 : Int32} (h : nI (uPla T B rn x1).1.2 = 0) : (uPla T B rn x1).1.2 = 0 := by
  revert h
  unfold uPla
  repeat' split
  all_goals first | (intro _; rfl) | (intro h; exact absurd (show nI 1 = 0 from h) (by decide)) | (intro h; exact absurd (show nI 2 = 0 from h) (by decide))
theorem aPAf_z {T : TD} {B : GB} {rn x1 : Int32} (h : nI (aPAf T B rn x1).2 = 0) : (aPAf T B rn x1).2 = 0 := by
  revert h
  unfold aPAf
  repeat' split
  all_goals first | (intro _; rfl) | (intro h; exact absurd (show nI 1 = 0 from h) (by decide)) | (intro h; exact absurd (show nI 2 = 0 from h) (by decide))
theorem aFd_z {t : TP} {x1 x2 x3 x4 x5 : Int32} (h : nI (aFd t x1 x2 x3 x4 x5).1.2 = 0) : (aFd t x1 x2 x3 x4 x5).1.2 = 0 := by
  revert h
  unfold aFd
  repeat' split
  all_goals first | (intro _; rfl) | (intro h; exact absurd (show nI 1 = 0 from h) (by decide)) | (intro h; exact absurd (show nI 2 = 0 from h) (by decide))
theorem trim_c {t : TP} {v : Int32} (ht : t.2 ≤ 2000) (h : (decide (nI 0 ≤ v) && decide (v ≤ nI t.2)) = true) : ∃ c, c ≤ t.2 ∧ v = nI c := by
  rw [Bool.and_eq_true, decide_eq_true_eq, decide_eq_true_eq, Int32.le_iff_toInt_le, Int32.le_iff_toInt_le, nI_toInt (by decide), nI_toInt (by omega)] at h
  refine ⟨v.toInt.toNat, by omega, ?_⟩
  apply Int32.toInt_inj.mp
  rw [nI_toInt (by omega)]
  omega
theorem nat_ne {Γ : Gm} {h : AH} {tp ba : Nat} {f : Nat → Int32} {t : TP} (hT : TpC Γ h tp ba f t) (e : ba = tp) : False := ne_ob hT.2.1 hT.1 (by simp) e
set_option maxHeartbeats 2000000 in
theorem lwc_26 {X : XT} {P : Oc → ZR → AH → Prop} {z : ZR} {h : AH} {kc ns d : Nat} {a m o b L i : Nat} {xs : Nat → Int32} (C : Cx X cL_law 9 "RingDominoLaw" "law" (some .boolean) [] d) (hd0 : 2100 ≤ d) (hz : zle (cst (xG X)) z) (hI : LwI (xG X) z h a m o) (hs : va_X b L xs (gS (xG X)) (gS (xG X)).heap) (hbs : b < gN (xG X)) (hi : i + 6 ≤ L) (hL : L ≤ 384) (hk : 9390 ≤ kc) (hn : 113000 ≤ ns) (kk : ∀ z' h', zle (cst (xG X)) z' → LwI (xG X) z' h' a m o → WW X P z' h' (kc - 9390) (ns - 113000) 1827 [(4, .int (nI i)), (3, .ref o), (2, .ref m), (1, .ref a), (0, .ref b)] []) : WW X P z h kc ns 1330 [(4, .int (nI i)), (3, .ref o), (2, .ref m), (1, .ref a), (0, .ref b)] [] := by
  obtain ⟨tp, ba, g, ah, A, D, er, t, B, rn, T, Dm, M, f, hCo, hm, hX, hb, hT, hrn, hV, her, Ho, hdj, hno⟩ := hI
  subst hm
  obtain ⟨fb, G, dn, N, Ha, hTp, hTo, hM, hC, hS, hR, hG2, hN, hO, hAh, hd2, hd3⟩ := id hCo
  have hB := hC.1
  have hG := GmM.p hz hM
  have Ho : h o = some (.inl (gA (xG X) 2, (1, .inr (.inl f)))) := Ho
  have hzz := BO.z hB
  have hbt := hB.2.1
  have hto : ∀ q, fpC (xG X) a tp ba g ah A D q → q ≠ o := fun q f e => hno (e ▸ f)
  have fa : fpC (xG X) a tp ba g ah A D a := Or.inl rfl
  have fg : ∀ q, fpG (xG X) g A q → fpC (xG X) a tp ba g ah A D q := fun q f => Or.inr (Or.inr (Or.inr (Or.inl f)))
  have f4 : fpG (xG X) g A (A 4) := Or.inr (Or.inr (Or.inr (Or.inl rfl)))
  have na4 : a ≠ A 4 := fun e => (hd3 a (Or.inl rfl)).1 (e ▸ f4)
  have nag : a ≠ g := fun e => (hd3 a (Or.inl rfl)).1 (Or.inl e)
  have no4 : o ≠ A 4 := fun e => hno (fg _ (e ▸ f4))
  have nog : o ≠ g := fun e => hno (fg _ (Or.inl e))
  refine ww_ow0 hz (fun ow0 => ?_)
  have na6 : a ≠ A 6 := fun e => (hd3 a (Or.inl rfl)).1 (Or.inr (Or.inr (Or.inr (Or.inr (Or.inr (Or.inr ⟨Or.inr (Or.inr (Or.inl e)), ow0 _ _ Ha⟩))))))
  have no6 : o ≠ A 6 := fun e => hno (fg _ (Or.inr (Or.inr (Or.inr (Or.inr (Or.inr (Or.inr ⟨Or.inr (Or.inr (Or.inl e)), ow0 _ _ Ho⟩)))))))
  have na8 : a ≠ A 8 := fun e => (hd3 a (Or.inl rfl)).1 (Or.inr (Or.inr (Or.inr (Or.inr (Or.inr (Or.inr ⟨Or.inr (Or.inr (Or.inr e)), ow0 _ _ Ha⟩))))))
  have no8 : o ≠ A 8 := fun e => hno (fg _ (Or.inr (Or.inr (Or.inr (Or.inr (Or.inr (Or.inr ⟨Or.inr (Or.inr (Or.inr e)), ow0 _ _ Ho⟩)))))))
  refine ww_lv (lv' := [(4, .int (nI i)), (3, .ref o), (2, .ref (Dm 0)), (1, .ref a), (0, .ref b)]) rfl ?_
  show WW X P z h kc ns 1330 [(4, .int (nI i)), (3, .ref o), (2, .ref (Dm 0)), (1, .ref a), (0, .ref b)] []
  have hnao : a ≠ o := hto a fa
  refine ww_aload_n C dL_law_1330 rfl 3 rfl rfl ?_
  refine ww_aload_n C dL_law_1331 rfl 4 rfl rfl ?_
  refine ww_iload C dL_law_1332 0 rfl ?_
  refine ww_iconst C dL_law_1334 cI_1 ?_
  refine ww_iaddn C dL_law_1335 ?_
  refine ww_sld (j := (i + 1)) C hs hbs (by omega) (by omega) dL_law_1336 ?_
  refine ww_aload_n C dL_law_1337 rfl 4 rfl rfl ?_
  refine ww_iload C dL_law_1338 0 rfl ?_
  refine ww_iconst C dL_law_1340 cI_2 ?_
  refine ww_iaddn C dL_law_1341 ?_
  refine ww_sld (j := (i + 2)) C hs hbs (by omega) (by omega) dL_law_1342 ?_
  refine ww_aload_n C dL_law_1343 rfl 4 rfl rfl ?_
  refine ww_iload C dL_law_1344 0 rfl ?_
  refine ww_iconst C dL_law_1346 cI_3 ?_
  refine ww_iaddn C dL_law_1347 ?_
  refine ww_sld (j := (i + 3)) C hs hbs (by omega) (by omega) dL_law_1348 ?_
  refine ww_aload_n C dL_law_1349 rfl 1 rfl rfl ?_
  refine cs_X0_190_q (As := [.ref a, .int (xs (i + 1)), .int (xs (i + 2)), .int (xs (i + 3)), .ref o]) (rest := []) C dL_law_1350 (ct_X0_putTile (Cx.fl C) (Cx.ok C) hz (Or.inl Ha) hM hC na4 na6 na8 Ho hnao no4 no6 no8) rfl rfl (Nat.le_of_ble_eq_true rfl) (by omega) (by omega) (by omega) (fun v7 z7 k7 q7 => ?_)
  obtain ⟨hv7, hz7, f7, hE7, hf7⟩ := q7; replace hz7 := hz7.symm; subst hz7; subst hv7
  refine ww_le (kc' := kc - 9390) (ns' := ns - 113000) (by omega) (by omega) ?_
  have hu := uPut_ok hC (xs (i + 1)) (xs (i + 2)) (xs (i + 3))
  obtain ⟨hM1, hF1⟩ := up_gm hM hu
  obtain ⟨hx, hxd⟩ : ∃ hx, hx = (if (uPut B (xs (i + 1)) (xs (i + 2)) (xs (i + 3))).1.2 = 0 then gmH (xG X) h A G (uPut B (xs (i + 1)) (xs (i + 2)) (xs (i + 3))).2 else h) := ⟨_, rfl⟩
  rw [← hxd] at hM1 hF1 hE7
  have hFo : ∀ q, q ≠ o → k7 q = hx q := fun q hq => by rw [hE7, up_n hq]
  have Ho7 : k7 o = some (cOu (xG X) f7) := by rw [hE7]; exact up_s
  have hCo1 := CoI.gm Ha hTp hTo hS hR hG2 hN hO hAh hd2 hd3 ow0 hF1 hM1 hu.1 hu.2.1
  refine ww_istore (lv' := [(5, .int (nI (uPut B (xs (i + 1)) (xs (i + 2)) (xs (i + 3))).1.2)), (4, .int (nI i)), (3, .ref o), (2, .ref (Dm 0)), (1, .ref a), (0, .ref b)]) C dL_law_1353 (by decide) rfl ?_
  refine ww_aload_n C dL_law_1355 rfl 3 rfl rfl ?_
  refine ww_aload_n C dL_law_1356 rfl 5 rfl rfl ?_
  refine ww_iload C dL_law_1357 1 rfl ?_
  refine ww_iconst C dL_law_1359 cI_1 ?_
  refine ww_iaddn C dL_law_1360 ?_
  refine ww_sld (j := (i + 1)) C hs hbs (by omega) (by omega) dL_law_1361 ?_
  refine ww_aload_n C dL_law_1362 rfl 5 rfl rfl ?_
  refine ww_iload C dL_law_1363 1 rfl ?_
  refine ww_iconst C dL_law_1365 cI_2 ?_
  refine ww_iaddn C dL_law_1366 ?_
  refine ww_sld (j := (i + 2)) C hs hbs (by omega) (by omega) dL_law_1367 ?_
  refine ww_aload_n C dL_law_1368 rfl 5 rfl rfl ?_
  refine ww_iload C dL_law_1369 1 rfl ?_
  refine ww_iconst C dL_law_1371 cI_3 ?_
  refine ww_iaddn C dL_law_1372 ?_
  refine ww_sld (j := (i + 3)) C hs hbs (by omega) (by omega) dL_law_1373 ?_
  have hXa : Mx (xG X) k7 Dm M := ⟨fun j hj => by rw [hFo _ (hdj j hj).2]; exact fr_fp hF1 (fun f => (hdj j hj).1 (fg _ f)) (ow0 _ _ (hX.1 j hj)) (hX.1 j hj), hX.2⟩
  refine cv_X0_192_q (As := [.int (xs (i + 1)), .int (xs (i + 2)), .int (xs (i + 3))]) (rest := []) C dL_law_1374 (ct_X4_putTile (Cx.fl C) (Cx.ok C) hz hXa hb hC) (rc_X4 (Cx.ok C) (Or.inl hXa.m)) rfl rfl (Nat.le_of_ble_eq_true rfl) (by omega) (Nat.zero_le _) (Nat.zero_le _) (fun v8 z8 k8 q8 => ?_)
  obtain ⟨hv8, hz8, M8, hg8, hb8, ht8, hX8, hF8⟩ := q8; replace hz8 := hz8.symm; subst hz8; subst hv8
  have hI8 : LwI (xG X) z k8 a (Dm 0) o := LwI.wr hCo1 hb8 (hg8.w.td hT) ((hg8.1 31 (by omega)).trans hrn) (hg8.w.tv hV) ((hg8.1 2 (by omega)).trans her) hdj hno hFo Ho7 hX8 hF8
  have Ho8 : k8 o = some (.inl (gA (xG X) 2, (1, .inr (.inl f7)))) := by rw [hF8 o (fun i hi => ((hdj i hi).2).symm)]; exact Ho7
  refine ww_istore (lv' := [(6, .int ((uPut B (xs (i + 1)) (xs (i + 2)) (xs (i + 3))).1.1)), (5, .int (nI (uPut B (xs (i + 1)) (xs (i + 2)) (xs (i + 3))).1.2)), (4, .int (nI i)), (3, .ref o), (2, .ref (Dm 0)), (1, .ref a), (0, .ref b)]) C dL_law_1377 (by decide) rfl ?_
  refine ww_aload_n C dL_law_1379 rfl 4 rfl rfl ?_
  refine cv_X0_97_r (As := []) (rest := []) C dL_law_1380 (ct_X4_thrown (Cx.fl C) (Cx.ok C) hX8.m) (rc_X4 (Cx.ok C) (Or.inl hX8.m)) rfl rfl (Nat.le_of_ble_eq_true rfl) (by omega) (Nat.zero_le _) (Nat.zero_le _) ?_
  refine ww_iload C dL_law_1383 1 rfl ?_
  refine ww_icmp_eq_t (tgt := 1390) C dL_law_1385 (by decide) ht8 ?_
  refine ww_iload C dL_law_1390 1 rfl ?_
  refine ww_if_ne (tgt := 1407) C dL_law_1392 (by decide) (fun c_1392 => ?_) (fun c_1392 => ?_)
  · skip
    refine ww_goto (tgt := 1827) C dL_law_1407 (by decide) ?_
    refine ww_sub [2, 3, 4, 5, 6] rfl ?_
    exact ww_le (by omega) (by omega) (kk _ _ hz hI8)
  · skip
    have c9 : nI (uPut B (xs (i + 1)) (xs (i + 2)) (xs (i + 3))).1.2 = 0 := by first | exact c_1392 | (exact Decidable.not_not.mp c_1392)
    have hq0 : (uPut B (xs (i + 1)) (xs (i + 2)) (xs (i + 3))).1.2 = 0 := uPut_z c9
    have hf0 := hf7 hq0
    refine ww_aload_n C dL_law_1395 rfl 3 rfl rfl ?_
    refine ww_iconst C dL_law_1396 cI_0 ?_
    refine ww_lald C dL_law_1397 (Or.inl Ho8) (by decide) (by decide) ?_
    refine ww_iload C dL_law_1398 0 rfl ?_
    refine ww_i2l C dL_law_1400 rfl ?_
    refine ww_lcmp C dL_law_1401 ?_
    refine ww_if_eq_t (tgt := 1407) C dL_law_1402 (by decide) (by rw [hf0]; exact cmp_s _) ?_
    refine ww_goto (tgt := 1827) C dL_law_1407 (by decide) ?_
    refine ww_sub [2, 3, 4, 5, 6] rfl ?_
    exact ww_le (by omega) (by omega) (kk _ _ hz hI8)
set_option maxHeartbeats 2000000 in
theorem lwc_27 {X : XT} {P : Oc → ZR → AH → Prop} {z : ZR} {h : AH} {kc ns d : Nat} {a m o b L i : Nat} {xs : Nat → Int32} (C : Cx X cL_law 9 "RingDominoLaw" "law" (some .boolean) [] d) (hd0 : 2100 ≤ d) (hz : zle (cst (xG X)) z) (hI : LwI (xG X) z h a m o) (hs : va_X b L xs (gS (xG X)) (gS (xG X)).heap) (hbs : b < gN (xG X)) (hi : i + 6 ≤ L) (hL : L ≤ 384) (hk : 9390 ≤ kc) (hn : 113000 ≤ ns) (kk : ∀ z' h', zle (cst (xG X)) z' → LwI (xG X) z' h' a m o → WW X P z' h' (kc - 9390) (ns - 113000) 1827 [(4, .int (nI i)), (3, .ref o), (2, .ref m), (1, .ref a), (0, .ref b)] []) : WW X P z h kc ns 1410 [(4, .int (nI i)), (3, .ref o), (2, .ref m), (1, .ref a), (0, .ref b)] [] := by
  obtain ⟨tp, ba, g, ah, A, D, er, t, B, rn, T, Dm, M, f, hCo, hm, hX, hb, hT, hrn, hV, her, Ho, hdj, hno⟩ := hI
  subst hm
  obtain ⟨fb, G, dn, N, Ha, hTp, hTo, hM, hC, hS, hR, hG2, hN, hO, hAh, hd2, hd3⟩ := id hCo
  have hB := hC.1
  have hG := GmM.p hz hM
  have Ho : h o = some (.inl (gA (xG X) 2, (1, .inr (.inl f)))) := Ho
  have hzz := BO.z hB
  have hbt := hB.2.1
  have hto : ∀ q, fpC (xG X) a tp ba g ah A D q → q ≠ o := fun q f e => hno (e ▸ f)
  have fa : fpC (xG X) a tp ba g ah A D a := Or.inl rfl
  have fg : ∀ q, fpG (xG X) g A q → fpC (xG X) a tp ba g ah A D q := fun q f => Or.inr (Or.inr (Or.inr (Or.inl f)))
  have f4 : fpG (xG X) g A (A 4) := Or.inr (Or.inr (Or.inr (Or.inl rfl)))
  have na4 : a ≠ A 4 := fun e => (hd3 a (Or.inl rfl)).1 (e ▸ f4)
  have nag : a ≠ g := fun e => (hd3 a (Or.inl rfl)).1 (Or.inl e)
  have no4 : o ≠ A 4 := fun e => hno (fg _ (e ▸ f4))
  have nog : o ≠ g := fun e => hno (fg _ (Or.inl e))
  refine ww_ow0 hz (fun ow0 => ?_)
  have na6 : a ≠ A 6 := fun e => (hd3 a (Or.inl rfl)).1 (Or.inr (Or.inr (Or.inr (Or.inr (Or.inr (Or.inr ⟨Or.inr (Or.inr (Or.inl e)), ow0 _ _ Ha⟩))))))
  have no6 : o ≠ A 6 := fun e => hno (fg _ (Or.inr (Or.inr (Or.inr (Or.inr (Or.inr (Or.inr ⟨Or.inr (Or.inr (Or.inl e)), ow0 _ _ Ho⟩)))))))
  have na8 : a ≠ A 8 := fun e => (hd3 a (Or.inl rfl)).1 (Or.inr (Or.inr (Or.inr (Or.inr (Or.inr (Or.inr ⟨Or.inr (Or.inr (Or.inr e)), ow0 _ _ Ha⟩))))))
  have no8 : o ≠ A 8 := fun e => hno (fg _ (Or.inr (Or.inr (Or.inr (Or.inr (Or.inr (Or.inr ⟨Or.inr (Or.inr (Or.inr e)), ow0 _ _ Ho⟩)))))))
  refine ww_lv (lv' := [(4, .int (nI i)), (3, .ref o), (2, .ref (Dm 0)), (1, .ref a), (0, .ref b)]) rfl ?_
  show WW X P z h kc ns 1410 [(4, .int (nI i)), (3, .ref o), (2, .ref (Dm 0)), (1, .ref a), (0, .ref b)] []
  have hnao : a ≠ o := hto a fa
  refine ww_aload_n C dL_law_1410 rfl 3 rfl rfl ?_
  refine ww_aload_n C dL_law_1411 rfl 4 rfl rfl ?_
  refine ww_iload C dL_law_1412 0 rfl ?_
  refine ww_iconst C dL_law_1414 cI_1 ?_
  refine ww_iaddn C dL_law_1415 ?_
  refine ww_sld (j := (i + 1)) C hs hbs (by omega) (by omega) dL_law_1416 ?_
  refine ww_aload_n C dL_law_1417 rfl 1 rfl rfl ?_
  refine cs_X0_193_q (As := [.ref a, .int (xs (i + 1)), .ref o]) (rest := []) C dL_law_1418 (ct_X0_takeTile (Cx.fl C) (Cx.ok C) hz (Or.inl Ha) hM hC na4 na6 na8 Ho hnao no4 no6 no8) rfl rfl (Nat.le_of_ble_eq_true rfl) (by omega) (by omega) (by omega) (fun v7 z7 k7 q7 => ?_)
  obtain ⟨hv7, hz7, f7, hE7, hf7⟩ := q7; replace hz7 := hz7.symm; subst hz7; subst hv7
  refine ww_le (kc' := kc - 9390) (ns' := ns - 113000) (by omega) (by omega) ?_
  have hu := uTak_ok hC (xs (i + 1))
  obtain ⟨hM1, hF1⟩ := up_gm hM hu
  obtain ⟨hx, hxd⟩ : ∃ hx, hx = (if (uTak B (xs (i + 1))).1.2 = 0 then gmH (xG X) h A G (uTak B (xs (i + 1))).2 else h) := ⟨_, rfl⟩
  rw [← hxd] at hM1 hF1 hE7
  have hFo : ∀ q, q ≠ o → k7 q = hx q := fun q hq => by rw [hE7, up_n hq]
  have Ho7 : k7 o = some (cOu (xG X) f7) := by rw [hE7]; exact up_s
  have hCo1 := CoI.gm Ha hTp hTo hS hR hG2 hN hO hAh hd2 hd3 ow0 hF1 hM1 hu.1 hu.2.1
  refine ww_istore (lv' := [(5, .int (nI (uTak B (xs (i + 1))).1.2)), (4, .int (nI i)), (3, .ref o), (2, .ref (Dm 0)), (1, .ref a), (0, .ref b)]) C dL_law_1421 (by decide) rfl ?_
  refine ww_aload_n C dL_law_1423 rfl 3 rfl rfl ?_
  refine ww_aload_n C dL_law_1424 rfl 5 rfl rfl ?_
  refine ww_iload C dL_law_1425 1 rfl ?_
  refine ww_iconst C dL_law_1427 cI_1 ?_
  refine ww_iaddn C dL_law_1428 ?_
  refine ww_sld (j := (i + 1)) C hs hbs (by omega) (by omega) dL_law_1429 ?_
  have hXa : Mx (xG X) k7 Dm M := ⟨fun j hj => by rw [hFo _ (hdj j hj).2]; exact fr_fp hF1 (fun f => (hdj j hj).1 (fg _ f)) (ow0 _ _ (hX.1 j hj)) (hX.1 j hj), hX.2⟩
  refine cv_X0_195_q (As := [.int (xs (i + 1))]) (rest := []) C dL_law_1430 (ct_X4_takeTile (Cx.fl C) (Cx.ok C) hz hXa hb hC) (rc_X4 (Cx.ok C) (Or.inl hXa.m)) rfl rfl (Nat.le_of_ble_eq_true rfl) (by omega) (Nat.zero_le _) (Nat.zero_le _) (fun v8 z8 k8 q8 => ?_)
  obtain ⟨hv8, hz8, M8, hg8, hb8, ht8, hX8, hF8⟩ := q8; replace hz8 := hz8.symm; subst hz8; subst hv8
  have hI8 : LwI (xG X) z k8 a (Dm 0) o := LwI.wr hCo1 hb8 (hg8.w.td hT) ((hg8.1 31 (by omega)).trans hrn) (hg8.w.tv hV) ((hg8.1 2 (by omega)).trans her) hdj hno hFo Ho7 hX8 hF8
  have Ho8 : k8 o = some (.inl (gA (xG X) 2, (1, .inr (.inl f7)))) := by rw [hF8 o (fun i hi => ((hdj i hi).2).symm)]; exact Ho7
  refine ww_istore (lv' := [(6, .int ((uTak B (xs (i + 1))).1.1)), (5, .int (nI (uTak B (xs (i + 1))).1.2)), (4, .int (nI i)), (3, .ref o), (2, .ref (Dm 0)), (1, .ref a), (0, .ref b)]) C dL_law_1433 (by decide) rfl ?_
  refine ww_aload_n C dL_law_1435 rfl 4 rfl rfl ?_
  refine cv_X0_97_r (As := []) (rest := []) C dL_law_1436 (ct_X4_thrown (Cx.fl C) (Cx.ok C) hX8.m) (rc_X4 (Cx.ok C) (Or.inl hX8.m)) rfl rfl (Nat.le_of_ble_eq_true rfl) (by omega) (Nat.zero_le _) (Nat.zero_le _) ?_
  refine ww_iload C dL_law_1439 1 rfl ?_
  refine ww_icmp_eq_t (tgt := 1446) C dL_law_1441 (by decide) ht8 ?_
  refine ww_iload C dL_law_1446 1 rfl ?_
  refine ww_if_ne (tgt := 1463) C dL_law_1448 (by decide) (fun c_1448 => ?_) (fun c_1448 => ?_)
  · skip
    refine ww_goto (tgt := 1827) C dL_law_1463 (by decide) ?_
    refine ww_sub [2, 3, 4, 5, 6] rfl ?_
    exact ww_le (by omega) (by omega) (kk _ _ hz hI8)
  · skip
    have c9 : nI (uTak B (xs (i + 1))).1.2 = 0 := by first | exact c_1448 | (exact Decidable.not_not.mp c_1448)
    have hq0 : (uTak B (xs (i + 1))).1.2 = 0 := uTak_z c9
    have hf0 := hf7 hq0
    refine ww_aload_n C dL_law_1451 rfl 3 rfl rfl ?_
    refine ww_iconst C dL_law_1452 cI_0 ?_
    refine ww_lald C dL_law_1453 (Or.inl Ho8) (by decide) (by decide) ?_
    refine ww_iload C dL_law_1454 0 rfl ?_
    refine ww_i2l C dL_law_1456 rfl ?_
    refine ww_lcmp C dL_law_1457 ?_
    refine ww_if_eq_t (tgt := 1463) C dL_law_1458 (by decide) (by rw [hf0]; exact cmp_s _) ?_
    refine ww_goto (tgt := 1827) C dL_law_1463 (by decide) ?_
    refine ww_sub [2, 3, 4, 5, 6] rfl ?_
    exact ww_le (by omega) (by omega) (kk _ _ hz hI8)
set_option maxHeartbeats 2000000 in
theorem lwc_28 {X : XT} {P : Oc → ZR → AH → Prop} {z : ZR} {h : AH} {kc ns d : Nat} {a m o b L i : Nat} {xs : Nat → Int32} (C : Cx X cL_law 9 "RingDominoLaw" "law" (some .boolean) [] d) (hd0 : 2100 ≤ d) (hz : zle (cst (xG X)) z) (hI : LwI (xG X) z h a m o) (hs : va_X b L xs (gS (xG X)) (gS (xG X)).heap) (hbs : b < gN (xG X)) (hi : i + 6 ≤ L) (hL : L ≤ 384) (hk : 9390 ≤ kc) (hn : 113000 ≤ ns) (kk : ∀ z' h', zle (cst (xG X)) z' → LwI (xG X) z' h' a m o → WW X P z' h' (kc - 9390) (ns - 113000) 1827 [(4, .int (nI i)), (3, .ref o), (2, .ref m), (1, .ref a), (0, .ref b)] []) : WW X P z h kc ns 1466 [(4, .int (nI i)), (3, .ref o), (2, .ref m), (1, .ref a), (0, .ref b)] [] := by
  obtain ⟨tp, ba, g, ah, A, D, er, t, B, rn, T, Dm, M, f, hCo, hm, hX, hb, hT, hrn, hV, her, Ho, hdj, hno⟩ := hI
  subst hm
  obtain ⟨fb, G, dn, N, Ha, hTp, hTo, hM, hC, hS, hR, hG2, hN, hO, hAh, hd2, hd3⟩ := id hCo
  have hB := hC.1
  have hG := GmM.p hz hM
  have Ho : h o = some (.inl (gA (xG X) 2, (1, .inr (.inl f)))) := Ho
  have hzz := BO.z hB
  have hbt := hB.2.1
  have hto : ∀ q, fpC (xG X) a tp ba g ah A D q → q ≠ o := fun q f e => hno (e ▸ f)
  have fa : fpC (xG X) a tp ba g ah A D a := Or.inl rfl
  have fg : ∀ q, fpG (xG X) g A q → fpC (xG X) a tp ba g ah A D q := fun q f => Or.inr (Or.inr (Or.inr (Or.inl f)))
  have f4 : fpG (xG X) g A (A 4) := Or.inr (Or.inr (Or.inr (Or.inl rfl)))
  have na4 : a ≠ A 4 := fun e => (hd3 a (Or.inl rfl)).1 (e ▸ f4)
  have nag : a ≠ g := fun e => (hd3 a (Or.inl rfl)).1 (Or.inl e)
  have no4 : o ≠ A 4 := fun e => hno (fg _ (e ▸ f4))
  have nog : o ≠ g := fun e => hno (fg _ (Or.inl e))
  refine ww_ow0 hz (fun ow0 => ?_)
  have na6 : a ≠ A 6 := fun e => (hd3 a (Or.inl rfl)).1 (Or.inr (Or.inr (Or.inr (Or.inr (Or.inr (Or.inr ⟨Or.inr (Or.inr (Or.inl e)), ow0 _ _ Ha⟩))))))
  have no6 : o ≠ A 6 := fun e => hno (fg _ (Or.inr (Or.inr (Or.inr (Or.inr (Or.inr (Or.inr ⟨Or.inr (Or.inr (Or.inl e)), ow0 _ _ Ho⟩)))))))
  have na8 : a ≠ A 8 := fun e => (hd3 a (Or.inl rfl)).1 (Or.inr (Or.inr (Or.inr (Or.inr (Or.inr (Or.inr ⟨Or.inr (Or.inr (Or.inr e)), ow0 _ _ Ha⟩))))))
  have no8 : o ≠ A 8 := fun e => hno (fg _ (Or.inr (Or.inr (Or.inr (Or.inr (Or.inr (Or.inr ⟨Or.inr (Or.inr (Or.inr e)), ow0 _ _ Ho⟩)))))))
  refine ww_lv (lv' := [(4, .int (nI i)), (3, .ref o), (2, .ref (Dm 0)), (1, .ref a), (0, .ref b)]) rfl ?_
  show WW X P z h kc ns 1466 [(4, .int (nI i)), (3, .ref o), (2, .ref (Dm 0)), (1, .ref a), (0, .ref b)] []
  have hnao : a ≠ o := hto a fa
  refine ww_aload_n C dL_law_1466 rfl 3 rfl rfl ?_
  refine ww_aload_n C dL_law_1467 rfl 4 rfl rfl ?_
  refine ww_iload C dL_law_1468 0 rfl ?_
  refine ww_iconst C dL_law_1470 cI_1 ?_
  refine ww_iaddn C dL_law_1471 ?_
  refine ww_sld (j := (i + 1)) C hs hbs (by omega) (by omega) dL_law_1472 ?_
  refine ww_aload_n C dL_law_1473 rfl 1 rfl rfl ?_
  refine cs_X0_196_q (As := [.ref a, .int (xs (i + 1)), .ref o]) (rest := []) C dL_law_1474 (ct_X0_fitTile (Cx.fl C) (Cx.ok C) hz (Or.inl Ha) hM hC na4 na6 na8 Ho hnao no4 no6 no8) rfl rfl (Nat.le_of_ble_eq_true rfl) (by omega) (by omega) (by omega) (fun v7 z7 k7 q7 => ?_)
  obtain ⟨hv7, hz7, f7, hE7, hf7⟩ := q7; replace hz7 := hz7.symm; subst hz7; subst hv7
  refine ww_le (kc' := kc - 9390) (ns' := ns - 113000) (by omega) (by omega) ?_
  have hu := uFit_ok hC (xs (i + 1))
  obtain ⟨hM1, hF1⟩ := up_gm hM hu
  obtain ⟨hx, hxd⟩ : ∃ hx, hx = (if (uFit B (xs (i + 1))).1.2 = 0 then gmH (xG X) h A G (uFit B (xs (i + 1))).2 else h) := ⟨_, rfl⟩
  rw [← hxd] at hM1 hF1 hE7
  have hFo : ∀ q, q ≠ o → k7 q = hx q := fun q hq => by rw [hE7, up_n hq]
  have Ho7 : k7 o = some (cOu (xG X) f7) := by rw [hE7]; exact up_s
  have hCo1 := CoI.gm Ha hTp hTo hS hR hG2 hN hO hAh hd2 hd3 ow0 hF1 hM1 hu.1 hu.2.1
  refine ww_istore (lv' := [(5, .int (nI (uFit B (xs (i + 1))).1.2)), (4, .int (nI i)), (3, .ref o), (2, .ref (Dm 0)), (1, .ref a), (0, .ref b)]) C dL_law_1477 (by decide) rfl ?_
  refine ww_aload_n C dL_law_1479 rfl 3 rfl rfl ?_
  refine ww_aload_n C dL_law_1480 rfl 5 rfl rfl ?_
  refine ww_iload C dL_law_1481 1 rfl ?_
  refine ww_iconst C dL_law_1483 cI_1 ?_
  refine ww_iaddn C dL_law_1484 ?_
  refine ww_sld (j := (i + 1)) C hs hbs (by omega) (by omega) dL_law_1485 ?_
  have hXa : Mx (xG X) k7 Dm M := ⟨fun j hj => by rw [hFo _ (hdj j hj).2]; exact fr_fp hF1 (fun f => (hdj j hj).1 (fg _ f)) (ow0 _ _ (hX.1 j hj)) (hX.1 j hj), hX.2⟩
  refine cv_X0_198_q (As := [.int (xs (i + 1))]) (rest := []) C dL_law_1486 (ct_X4_fitTile (Cx.fl C) (Cx.ok C) hz hXa hb hC) (rc_X4 (Cx.ok C) (Or.inl hXa.m)) rfl rfl (Nat.le_of_ble_eq_true rfl) (by omega) (Nat.zero_le _) (Nat.zero_le _) (fun v8 z8 k8 q8 => ?_)
  obtain ⟨hv8, hz8, M8, hg8, hb8, ht8, hX8, hF8⟩ := q8; replace hz8 := hz8.symm; subst hz8; subst hv8
  have hI8 : LwI (xG X) z k8 a (Dm 0) o := LwI.wr hCo1 hb8 (hg8.w.td hT) ((hg8.1 31 (by omega)).trans hrn) (hg8.w.tv hV) ((hg8.1 2 (by omega)).trans her) hdj hno hFo Ho7 hX8 hF8
  have Ho8 : k8 o = some (.inl (gA (xG X) 2, (1, .inr (.inl f7)))) := by rw [hF8 o (fun i hi => ((hdj i hi).2).symm)]; exact Ho7
  refine ww_istore (lv' := [(6, .int ((uFit B (xs (i + 1))).1.1)), (5, .int (nI (uFit B (xs (i + 1))).1.2)), (4, .int (nI i)), (3, .ref o), (2, .ref (Dm 0)), (1, .ref a), (0, .ref b)]) C dL_law_1489 (by decide) rfl ?_
  refine ww_aload_n C dL_law_1491 rfl 4 rfl rfl ?_
  refine cv_X0_97_r (As := []) (rest := []) C dL_law_1492 (ct_X4_thrown (Cx.fl C) (Cx.ok C) hX8.m) (rc_X4 (Cx.ok C) (Or.inl hX8.m)) rfl rfl (Nat.le_of_ble_eq_true rfl) (by omega) (Nat.zero_le _) (Nat.zero_le _) ?_
  refine ww_iload C dL_law_1495 1 rfl ?_
  refine ww_icmp_eq_t (tgt := 1502) C dL_law_1497 (by decide) ht8 ?_
  refine ww_iload C dL_law_1502 1 rfl ?_
  refine ww_if_ne (tgt := 1519) C dL_law_1504 (by decide) (fun c_1504 => ?_) (fun c_1504 => ?_)
  · skip
    refine ww_goto (tgt := 1827) C dL_law_1519 (by decide) ?_
    refine ww_sub [2, 3, 4, 5, 6] rfl ?_
    exact ww_le (by omega) (by omega) (kk _ _ hz hI8)
  · skip
    have c9 : nI (uFit B (xs (i + 1))).1.2 = 0 := by first | exact c_1504 | (exact Decidable.not_not.mp c_1504)
    have hq0 : (uFit B (xs (i + 1))).1.2 = 0 := uFit_z c9
    have hf0 := hf7 hq0
    refine ww_aload_n C dL_law_1507 rfl 3 rfl rfl ?_
    refine ww_iconst C dL_law_1508 cI_0 ?_
    refine ww_lald C dL_law_1509 (Or.inl Ho8) (by decide) (by decide) ?_
    refine ww_iload C dL_law_1510 0 rfl ?_
    refine ww_i2l C dL_law_1512 rfl ?_
    refine ww_lcmp C dL_law_1513 ?_
    refine ww_if_eq_t (tgt := 1519) C dL_law_1514 (by decide) (by rw [hf0]; exact cmp_s _) ?_
    refine ww_goto (tgt := 1827) C dL_law_1519 (by decide) ?_
    refine ww_sub [2, 3, 4, 5, 6] rfl ?_
    exact ww_le (by omega) (by omega) (kk _ _ hz hI8)
set_option maxHeartbeats 2000000 in
theorem lwc_29 {X : XT} {P : Oc → ZR → AH → Prop} {z : ZR} {h : AH} {kc ns d : Nat} {a m o b L i : Nat} {xs : Nat → Int32} (C : Cx X cL_law 9 "RingDominoLaw" "law" (some .boolean) [] d) (hd0 : 2100 ≤ d) (hz : zle (cst (xG X)) z) (hI : LwI (xG X) z h a m o) (hs : va_X b L xs (gS (xG X)) (gS (xG X)).heap) (hbs : b < gN (xG X)) (hi : i + 6 ≤ L) (hL : L ≤ 384) (hk : 9390 ≤ kc) (hn : 113000 ≤ ns) (kk : ∀ z' h', zle (cst (xG X)) z' → LwI (xG X) z' h' a m o → WW X P z' h' (kc - 9390) (ns - 113000) 1827 [(4, .int (nI i)), (3, .ref o), (2, .ref m), (1, .ref a), (0, .ref b)] []) : WW X P z h kc ns 1522 [(4, .int (nI i)), (3, .ref o), (2, .ref m), (1, .ref a), (0, .ref b)] [] := by
  obtain ⟨tp, ba, g, ah, A, D, er, t, B, rn, T, Dm, M, f, hCo, hm, hX, hb, hT, hrn, hV, her, Ho, hdj, hno⟩ := hI
  subst hm
  obtain ⟨fb, G, dn, N, Ha, hTp, hTo, hM, hC, hS, hR, hG2, hN, hO, hAh, hd2, hd3⟩ := id hCo
  have hB := hC.1
  have hG := GmM.p hz hM
  have Ho : h o = some (.inl (gA (xG X) 2, (1, .inr (.inl f)))) := Ho
  have hzz := BO.z hB
  have hbt := hB.2.1
  have hto : ∀ q, fpC (xG X) a tp ba g ah A D q → q ≠ o := fun q f e => hno (e ▸ f)
  have fa : fpC (xG X) a tp ba g ah A D a := Or.inl rfl
  have fg : ∀ q, fpG (xG X) g A q → fpC (xG X) a tp ba g ah A D q := fun q f => Or.inr (Or.inr (Or.inr (Or.inl f)))
  have f4 : fpG (xG X) g A (A 4) := Or.inr (Or.inr (Or.inr (Or.inl rfl)))
  have na4 : a ≠ A 4 := fun e => (hd3 a (Or.inl rfl)).1 (e ▸ f4)
  have nag : a ≠ g := fun e => (hd3 a (Or.inl rfl)).1 (Or.inl e)
  have no4 : o ≠ A 4 := fun e => hno (fg _ (e ▸ f4))
  have nog : o ≠ g := fun e => hno (fg _ (Or.inl e))
  refine ww_ow0 hz (fun ow0 => ?_)
  have na6 : a ≠ A 6 := fun e => (hd3 a (Or.inl rfl)).1 (Or.inr (Or.inr (Or.inr (Or.inr (Or.inr (Or.inr ⟨Or.inr (Or.inr (Or.inl e)), ow0 _ _ Ha⟩))))))
  have no6 : o ≠ A 6 := fun e => hno (fg _ (Or.inr (Or.inr (Or.inr (Or.inr (Or.inr (Or.inr ⟨Or.inr (Or.inr (Or.inl e)), ow0 _ _ Ho⟩)))))))
  have na8 : a ≠ A 8 := fun e => (hd3 a (Or.inl rfl)).1 (Or.inr (Or.inr (Or.inr (Or.inr (Or.inr (Or.inr ⟨Or.inr (Or.inr (Or.inr e)), ow0 _ _ Ha⟩))))))
  have no8 : o ≠ A 8 := fun e => hno (fg _ (Or.inr (Or.inr (Or.inr (Or.inr (Or.inr (Or.inr ⟨Or.inr (Or.inr (Or.inr e)), ow0 _ _ Ho⟩)))))))
  refine ww_lv (lv' := [(4, .int (nI i)), (3, .ref o), (2, .ref (Dm 0)), (1, .ref a), (0, .ref b)]) rfl ?_
  show WW X P z h kc ns 1522 [(4, .int (nI i)), (3, .ref o), (2, .ref (Dm 0)), (1, .ref a), (0, .ref b)] []
  subst hrn
  refine ww_aload_n C dL_law_1522 rfl 3 rfl rfl ?_
  refine ww_aload_n C dL_law_1523 rfl 4 rfl rfl ?_
  refine ww_iload C dL_law_1524 0 rfl ?_
  refine ww_iconst C dL_law_1526 cI_1 ?_
  refine ww_iaddn C dL_law_1527 ?_
  refine ww_sld (j := (i + 1)) C hs hbs (by omega) (by omega) dL_law_1528 ?_
  refine ww_aload_n C dL_law_1529 rfl 1 rfl rfl ?_
  refine cs_X0_199_q (As := [.ref a, .int (xs (i + 1)), .ref o]) (rest := []) C dL_law_1530 (ct_X0_playRounds (Cx.fl C) (Cx.ok C) (d9 := 5 * N + 41) hz Ha hM hC hS hR hG2 hO nag na4 na6 na8 nog no4 no6 no8 Ho (Nat.le_refl _)) rfl rfl (Nat.le_of_ble_eq_true rfl) (by omega) (by omega) (by omega) (fun v7 z7 k7 q7 => ?_)
  obtain ⟨hv7, hz7, f7, hx, hE7, hf7, ⟨dn1, hM1⟩, hF1⟩ := q7; replace hz7 := hz7.symm; subst hz7; subst hv7
  refine ww_le (kc' := kc - 9390) (ns' := ns - 113000) (by omega) (by omega) ?_
  have hu := uPla_ok (rn := M.1 31) hC hS (xs (i + 1))
  have hFo : ∀ q, q ≠ o → k7 q = hx q := fun q hq => by rw [hE7, up_n hq]
  have Ho7 : k7 o = some (cOu (xG X) f7) := by rw [hE7]; exact up_s
  have hCo1 := CoI.gm Ha hTp hTo hS hR hG2 hN hO hAh hd2 hd3 ow0 hF1 hM1 hu.1 hu.2
  refine ww_istore (lv' := [(5, .int (nI (uPla T B (M.1 31) (xs (i + 1))).1.2)), (4, .int (nI i)), (3, .ref o), (2, .ref (Dm 0)), (1, .ref a), (0, .ref b)]) C dL_law_1533 (by decide) rfl ?_
  refine ww_aload_n C dL_law_1535 rfl 3 rfl rfl ?_
  refine ww_aload_n C dL_law_1536 rfl 5 rfl rfl ?_
  refine ww_iload C dL_law_1537 1 rfl ?_
  refine ww_iconst C dL_law_1539 cI_1 ?_
  refine ww_iaddn C dL_law_1540 ?_
  refine ww_sld (j := (i + 1)) C hs hbs (by omega) (by omega) dL_law_1541 ?_
  have hXa : Mx (xG X) k7 Dm M := ⟨fun j hj => by rw [hFo _ (hdj j hj).2]; exact fr_fp hF1 (fun f => (hdj j hj).1 (fg _ f)) (ow0 _ _ (hX.1 j hj)) (hX.1 j hj), hX.2⟩
  refine cv_X0_201_q (As := [.int (xs (i + 1))]) (rest := []) C dL_law_1542 (ct_X4_playRounds (Cx.fl C) (Cx.ok C) hz hXa hb hC hT hS hR) (rc_X4 (Cx.ok C) (Or.inl hXa.m)) rfl rfl (Nat.le_of_ble_eq_true rfl) (by omega) (Nat.zero_le _) (Nat.zero_le _) (fun v8 z8 k8 q8 => ?_)
  obtain ⟨hv8, hz8, M8, hg8, hb8, hr8, ht8, hX8, hF8⟩ := q8; replace hz8 := hz8.symm; subst hz8; subst hv8
  have hI8 : LwI (xG X) z k8 a (Dm 0) o := LwI.wr hCo1 hb8 (hg8.td hT) hr8 (hg8.tv hV) ((hg8.1 2 (by omega)).trans her) hdj hno hFo Ho7 hX8 hF8
  have Ho8 : k8 o = some (.inl (gA (xG X) 2, (1, .inr (.inl f7)))) := by rw [hF8 o (fun i hi => ((hdj i hi).2).symm)]; exact Ho7
  refine ww_istore (lv' := [(6, .int ((uPla T B (M.1 31) (xs (i + 1))).1.1)), (5, .int (nI (uPla T B (M.1 31) (xs (i + 1))).1.2)), (4, .int (nI i)), (3, .ref o), (2, .ref (Dm 0)), (1, .ref a), (0, .ref b)]) C dL_law_1545 (by decide) rfl ?_
  refine ww_aload_n C dL_law_1547 rfl 4 rfl rfl ?_
  refine cv_X0_97_r (As := []) (rest := []) C dL_law_1548 (ct_X4_thrown (Cx.fl C) (Cx.ok C) hX8.m) (rc_X4 (Cx.ok C) (Or.inl hX8.m)) rfl rfl (Nat.le_of_ble_eq_true rfl) (by omega) (Nat.zero_le _) (Nat.zero_le _) ?_
  refine ww_iload C dL_law_1551 1 rfl ?_
  refine ww_icmp_eq_t (tgt := 1558) C dL_law_1553 (by decide) ht8 ?_
  refine ww_iload C dL_law_1558 1 rfl ?_
  refine ww_if_ne (tgt := 1575) C dL_law_1560 (by decide) (fun c_1560 => ?_) (fun c_1560 => ?_)
  · skip
    refine ww_goto (tgt := 1827) C dL_law_1575 (by decide) ?_
    refine ww_sub [2, 3, 4, 5, 6] rfl ?_
    exact ww_le (by omega) (by omega) (kk _ _ hz hI8)
  · skip
    have c9 : nI (uPla T B (M.1 31) (xs (i + 1))).1.2 = 0 := by first | exact c_1560 | (exact Decidable.not_not.mp c_1560)
    have hq0 : (uPla T B (M.1 31) (xs (i + 1))).1.2 = 0 := uPla_z c9
    have hf0 := hf7 hq0
    refine ww_aload_n C dL_law_1563 rfl 3 rfl rfl ?_
    refine ww_iconst C dL_law_1564 cI_0 ?_
    refine ww_lald C dL_law_1565 (Or.inl Ho8) (by decide) (by decide) ?_
    refine ww_iload C dL_law_1566 0 rfl ?_
    refine ww_i2l C dL_law_1568 rfl ?_
    refine ww_lcmp C dL_law_1569 ?_
    refine ww_if_eq_t (tgt := 1575) C dL_law_1570 (by decide) (by rw [hf0]; exact cmp_s _) ?_
    refine ww_goto (tgt := 1827) C dL_law_1575 (by decide) ?_
    refine ww_sub [2, 3, 4, 5, 6] rfl ?_
    exact ww_le (by omega) (by omega) (kk _ _ hz hI8)
set_option maxHeartbeats 2000000 in
theorem lwc_30 {X : XT} {P : Oc → ZR → AH → Prop} {z : ZR} {h : AH} {kc ns d : Nat} {a m o b L i : Nat} {xs : Nat → Int32} (C : Cx X cL_law 9 "RingDominoLaw" "law" (some .boolean) [] d) (hd0 : 2100 ≤ d) (hz : zle (cst (xG X)) z) (hI : LwI (xG X) z h a m o) (hs : va_X b L xs (gS (xG X)) (gS (xG X)).heap) (hbs : b < gN (xG X)) (hi : i + 6 ≤ L) (hL : L ≤ 384) (hk : 9390 ≤ kc) (hn : 113000 ≤ ns) (kk : ∀ z' h', zle (cst (xG X)) z' → LwI (xG X) z' h' a m o → WW X P z' h' (kc - 9390) (ns - 113000) 1827 [(4, .int (nI i)), (3, .ref o), (2, .ref m), (1, .ref a), (0, .ref b)] []) : WW X P z h kc ns 1578 [(4, .int (nI i)), (3, .ref o), (2, .ref m), (1, .ref a), (0, .ref b)] [] := by
  obtain ⟨tp, ba, g, ah, A, D, er, t, B, rn, T, Dm, M, f, hCo, hm, hX, hb, hT, hrn, hV, her, Ho, hdj, hno⟩ := hI
  subst hm
  obtain ⟨fb, G, dn, N, Ha, hTp, hTo, hM, hC, hS, hR, hG2, hN, hO, hAh, hd2, hd3⟩ := id hCo
  have hB := hC.1
  have hG := GmM.p hz hM
  have Ho : h o = some (.inl (gA (xG X) 2, (1, .inr (.inl f)))) := Ho
  have hzz := BO.z hB
  have hbt := hB.2.1
  have hto : ∀ q, fpC (xG X) a tp ba g ah A D q → q ≠ o := fun q f e => hno (e ▸ f)
  have fa : fpC (xG X) a tp ba g ah A D a := Or.inl rfl
  have fg : ∀ q, fpG (xG X) g A q → fpC (xG X) a tp ba g ah A D q := fun q f => Or.inr (Or.inr (Or.inr (Or.inl f)))
  have f4 : fpG (xG X) g A (A 4) := Or.inr (Or.inr (Or.inr (Or.inl rfl)))
  have na4 : a ≠ A 4 := fun e => (hd3 a (Or.inl rfl)).1 (e ▸ f4)
  have nag : a ≠ g := fun e => (hd3 a (Or.inl rfl)).1 (Or.inl e)
  have no4 : o ≠ A 4 := fun e => hno (fg _ (e ▸ f4))
  have nog : o ≠ g := fun e => hno (fg _ (Or.inl e))
  refine ww_ow0 hz (fun ow0 => ?_)
  have na6 : a ≠ A 6 := fun e => (hd3 a (Or.inl rfl)).1 (Or.inr (Or.inr (Or.inr (Or.inr (Or.inr (Or.inr ⟨Or.inr (Or.inr (Or.inl e)), ow0 _ _ Ha⟩))))))
  have no6 : o ≠ A 6 := fun e => hno (fg _ (Or.inr (Or.inr (Or.inr (Or.inr (Or.inr (Or.inr ⟨Or.inr (Or.inr (Or.inl e)), ow0 _ _ Ho⟩)))))))
  have na8 : a ≠ A 8 := fun e => (hd3 a (Or.inl rfl)).1 (Or.inr (Or.inr (Or.inr (Or.inr (Or.inr (Or.inr ⟨Or.inr (Or.inr (Or.inr e)), ow0 _ _ Ha⟩))))))
  have no8 : o ≠ A 8 := fun e => hno (fg _ (Or.inr (Or.inr (Or.inr (Or.inr (Or.inr (Or.inr ⟨Or.inr (Or.inr (Or.inr e)), ow0 _ _ Ho⟩)))))))
  refine ww_lv (lv' := [(4, .int (nI i)), (3, .ref o), (2, .ref (Dm 0)), (1, .ref a), (0, .ref b)]) rfl ?_
  show WW X P z h kc ns 1578 [(4, .int (nI i)), (3, .ref o), (2, .ref (Dm 0)), (1, .ref a), (0, .ref b)] []
  subst hrn
  refine ww_aload_n C dL_law_1578 rfl 3 rfl rfl ?_
  refine ww_aload_n C dL_law_1579 rfl 4 rfl rfl ?_
  refine ww_iload C dL_law_1580 0 rfl ?_
  refine ww_iconst C dL_law_1582 cI_1 ?_
  refine ww_iaddn C dL_law_1583 ?_
  refine ww_sld (j := (i + 1)) C hs hbs (by omega) (by omega) dL_law_1584 ?_
  refine ww_aload_n C dL_law_1585 rfl 1 rfl rfl ?_
  refine cs_X0_202_q (As := [.ref a, .int (xs (i + 1)), .ref o]) (rest := []) C dL_law_1586 (ct_X0_pointsAfter (Cx.fl C) (Cx.ok C) (d9 := 5 * N + 41) hz Ha hM hC hS hR hG2 hO hAh hd2 (hd3 a (Or.inl rfl)).2 (fun f => hno (Or.inr (Or.inr (Or.inr (Or.inr f))))) Ho (Nat.le_refl _)) rfl rfl (Nat.le_of_ble_eq_true rfl) (by omega) (by omega) (by omega) (fun v7 z7 k7 q7 => ?_)
  obtain ⟨hv7, hz7, f7, hx, hE7, hf7, D1, hA1, hN1, hF1⟩ := q7; replace hz7 := hz7.symm; subst hz7; subst hv7
  refine ww_le (kc' := kc - 9390) (ns' := ns - 113000) (by omega) (by omega) ?_
  have hFo : ∀ q, q ≠ o → k7 q = hx q := fun q hq => by rw [hE7, up_n hq]
  have Ho7 : k7 o = some (cOu (xG X) f7) := by rw [hE7]; exact up_s
  have hCo1 := CoI.ahd Ha hTp hTo hM hC hS hR hG2 hN hO hd2 hd3 hA1 hF1
  have hdj1 : ∀ i, mi i = true → ¬ fpC (xG X) a tp ba g ah A D1 (Dm i) ∧ Dm i ≠ o := fun j hj => ⟨fun f => (fpC_ah hN1 f).elim (hdj j hj).1 (fun e => by rw [hX.1 j hj] at e; cases e), (hdj j hj).2⟩
  have hno1 : ¬ fpC (xG X) a tp ba g ah A D1 o := fun f => (fpC_ah hN1 f).elim hno (fun e => by rw [Ho] at e; cases e)
  have fgD : ∀ q, fpG (xG X) ah D q → fpC (xG X) a tp ba g ah A D q := fun q f => Or.inr (Or.inr (Or.inr (Or.inr f)))
  refine ww_istore (lv' := [(5, .int (nI (aPAf T B (M.1 31) (xs (i + 1))).2)), (4, .int (nI i)), (3, .ref o), (2, .ref (Dm 0)), (1, .ref a), (0, .ref b)]) C dL_law_1589 (by decide) rfl ?_
  refine ww_aload_n C dL_law_1591 rfl 3 rfl rfl ?_
  refine ww_aload_n C dL_law_1592 rfl 5 rfl rfl ?_
  refine ww_iload C dL_law_1593 1 rfl ?_
  refine ww_iconst C dL_law_1595 cI_1 ?_
  refine ww_iaddn C dL_law_1596 ?_
  refine ww_sld (j := (i + 1)) C hs hbs (by omega) (by omega) dL_law_1597 ?_
  have hXa : Mx (xG X) k7 Dm M := ⟨fun j hj => by rw [hFo _ (hdj j hj).2]; exact (hF1 _ _ (hX.1 j hj) (fun f => (hdj j hj).1 (fgD _ f))).1, hX.2⟩
  refine cv_X0_204_q (As := [.int (xs (i + 1))]) (rest := []) C dL_law_1598 (ct_X4_pointsAfter (Cx.fl C) (Cx.ok C) hz hXa hb hC hT hS hR) (rc_X4 (Cx.ok C) (Or.inl hXa.m)) rfl rfl (Nat.le_of_ble_eq_true rfl) (by omega) (Nat.zero_le _) (Nat.zero_le _) (fun v8 z8 k8 q8 => ?_)
  obtain ⟨hv8, hz8, M8, hg8, ht8, hX8, hF8⟩ := q8; replace hz8 := hz8.symm; subst hz8; subst hv8
  have hI8 : LwI (xG X) z k8 a (Dm 0) o := LwI.rd hCo1 hb hT rfl hV her hdj1 hno1 hFo Ho7 hg8 hX8 hF8
  have Ho8 : k8 o = some (.inl (gA (xG X) 2, (1, .inr (.inl f7)))) := by rw [hF8 o (fun i hi => ((hdj i hi).2).symm)]; exact Ho7
  refine ww_istore (lv' := [(6, .int ((aPAf T B (M.1 31) (xs (i + 1))).1)), (5, .int (nI (aPAf T B (M.1 31) (xs (i + 1))).2)), (4, .int (nI i)), (3, .ref o), (2, .ref (Dm 0)), (1, .ref a), (0, .ref b)]) C dL_law_1601 (by decide) rfl ?_
  refine ww_aload_n C dL_law_1603 rfl 4 rfl rfl ?_
  refine cv_X0_97_r (As := []) (rest := []) C dL_law_1604 (ct_X4_thrown (Cx.fl C) (Cx.ok C) hX8.m) (rc_X4 (Cx.ok C) (Or.inl hX8.m)) rfl rfl (Nat.le_of_ble_eq_true rfl) (by omega) (Nat.zero_le _) (Nat.zero_le _) ?_
  refine ww_iload C dL_law_1607 1 rfl ?_
  refine ww_icmp_eq_t (tgt := 1614) C dL_law_1609 (by decide) ht8 ?_
  refine ww_iload C dL_law_1614 1 rfl ?_
  refine ww_if_ne (tgt := 1631) C dL_law_1616 (by decide) (fun c_1616 => ?_) (fun c_1616 => ?_)
  · skip
    refine ww_goto (tgt := 1827) C dL_law_1631 (by decide) ?_
    refine ww_sub [2, 3, 4, 5, 6] rfl ?_
    exact ww_le (by omega) (by omega) (kk _ _ hz hI8)
  · skip
    have c9 : nI (aPAf T B (M.1 31) (xs (i + 1))).2 = 0 := by first | exact c_1616 | (exact Decidable.not_not.mp c_1616)
    have hq0 : (aPAf T B (M.1 31) (xs (i + 1))).2 = 0 := aPAf_z c9
    have hf0 := hf7 hq0
    refine ww_aload_n C dL_law_1619 rfl 3 rfl rfl ?_
    refine ww_iconst C dL_law_1620 cI_0 ?_
    refine ww_lald C dL_law_1621 (Or.inl Ho8) (by decide) (by decide) ?_
    refine ww_iload C dL_law_1622 0 rfl ?_
    refine ww_i2l C dL_law_1624 rfl ?_
    refine ww_lcmp C dL_law_1625 ?_
    refine ww_if_eq_t (tgt := 1631) C dL_law_1626 (by decide) (by rw [hf0]; exact cmp_s _) ?_
    refine ww_goto (tgt := 1827) C dL_law_1631 (by decide) ?_
    refine ww_sub [2, 3, 4, 5, 6] rfl ?_
    exact ww_le (by omega) (by omega) (kk _ _ hz hI8)
set_option maxHeartbeats 2000000 in
theorem lwc_31 {X : XT} {P : Oc → ZR → AH → Prop} {z : ZR} {h : AH} {kc ns d : Nat} {a m o b L i : Nat} {xs : Nat → Int32} (C : Cx X cL_law 9 "RingDominoLaw" "law" (some .boolean) [] d) (hd0 : 2100 ≤ d) (hz : zle (cst (xG X)) z) (hI : LwI (xG X) z h a m o) (hs : va_X b L xs (gS (xG X)) (gS (xG X)).heap) (hbs : b < gN (xG X)) (hi : i + 6 ≤ L) (hL : L ≤ 384) (hk : 9390 ≤ kc) (hn : 113000 ≤ ns) (kk : ∀ z' h', zle (cst (xG X)) z' → LwI (xG X) z' h' a m o → WW X P z' h' (kc - 9390) (ns - 113000) 1827 [(4, .int (nI i)), (3, .ref o), (2, .ref m), (1, .ref a), (0, .ref b)] []) : WW X P z h kc ns 1634 [(4, .int (nI i)), (3, .ref o), (2, .ref m), (1, .ref a), (0, .ref b)] [] := by
  obtain ⟨tp, ba, g, ah, A, D, er, t, B, rn, T, Dm, M, f, hCo, hm, hX, hb, hT, hrn, hV, her, Ho, hdj, hno⟩ := hI
  subst hm
  obtain ⟨fb, G, dn, N, Ha, hTp, hTo, hM, hC, hS, hR, hG2, hN, hO, hAh, hd2, hd3⟩ := id hCo
  have hB := hC.1
  have hG := GmM.p hz hM
  have Ho : h o = some (.inl (gA (xG X) 2, (1, .inr (.inl f)))) := Ho
  have hzz := BO.z hB
  have hbt := hB.2.1
  have hto : ∀ q, fpC (xG X) a tp ba g ah A D q → q ≠ o := fun q f e => hno (e ▸ f)
  have fa : fpC (xG X) a tp ba g ah A D a := Or.inl rfl
  have fg : ∀ q, fpG (xG X) g A q → fpC (xG X) a tp ba g ah A D q := fun q f => Or.inr (Or.inr (Or.inr (Or.inl f)))
  have f4 : fpG (xG X) g A (A 4) := Or.inr (Or.inr (Or.inr (Or.inl rfl)))
  have na4 : a ≠ A 4 := fun e => (hd3 a (Or.inl rfl)).1 (e ▸ f4)
  have nag : a ≠ g := fun e => (hd3 a (Or.inl rfl)).1 (Or.inl e)
  have no4 : o ≠ A 4 := fun e => hno (fg _ (e ▸ f4))
  have nog : o ≠ g := fun e => hno (fg _ (Or.inl e))
  refine ww_ow0 hz (fun ow0 => ?_)
  have na6 : a ≠ A 6 := fun e => (hd3 a (Or.inl rfl)).1 (Or.inr (Or.inr (Or.inr (Or.inr (Or.inr (Or.inr ⟨Or.inr (Or.inr (Or.inl e)), ow0 _ _ Ha⟩))))))
  have no6 : o ≠ A 6 := fun e => hno (fg _ (Or.inr (Or.inr (Or.inr (Or.inr (Or.inr (Or.inr ⟨Or.inr (Or.inr (Or.inl e)), ow0 _ _ Ho⟩)))))))
  have na8 : a ≠ A 8 := fun e => (hd3 a (Or.inl rfl)).1 (Or.inr (Or.inr (Or.inr (Or.inr (Or.inr (Or.inr ⟨Or.inr (Or.inr (Or.inr e)), ow0 _ _ Ha⟩))))))
  have no8 : o ≠ A 8 := fun e => hno (fg _ (Or.inr (Or.inr (Or.inr (Or.inr (Or.inr (Or.inr ⟨Or.inr (Or.inr (Or.inr e)), ow0 _ _ Ho⟩)))))))
  refine ww_lv (lv' := [(4, .int (nI i)), (3, .ref o), (2, .ref (Dm 0)), (1, .ref a), (0, .ref b)]) rfl ?_
  show WW X P z h kc ns 1634 [(4, .int (nI i)), (3, .ref o), (2, .ref (Dm 0)), (1, .ref a), (0, .ref b)] []
  subst hrn
  refine ww_aload_n C dL_law_1634 rfl 3 rfl rfl ?_
  refine cv_X0_205 (As := []) (rest := []) C dL_law_1635 (ct_X1_roundsUntilRing (Cx.fl C) (Cx.ok C) (d9 := 5 * N + 40) hz (Or.inl Ha) hM hC hS hR hG2 hO hAh hd2 (hd3 a (Or.inl rfl)).2 (Nat.le_refl _)) (rc_X1 (Cx.ok C) (Or.inl Ha)) rfl rfl (Nat.le_of_ble_eq_true rfl) (by omega) (by omega) (by omega) (fun v7 z7 k7 q7 => ?_) (fun E9 a9 z9 h9 q9 => ?_)
  rotate_left
  · exact absurd (show (0 : Nat) = 1 from q9.2.2.2) (by decide)
  obtain ⟨hv7, hz7, -, D1, hA1, hN1, hF1⟩ := q7; replace hz7 := hz7.symm; subst hz7; subst hv7
  refine ww_le (kc' := kc - 9390) (ns' := ns - 113000) (by omega) (by omega) ?_
  have Ho7 : k7 o = some (cOu (xG X) f) := (hF1 _ _ Ho (fun f => hno (Or.inr (Or.inr (Or.inr (Or.inr f)))))).1
  have hFo : ∀ q, q ≠ o → k7 q = k7 q := fun _ _ => rfl
  have hCo1 := CoI.ahd Ha hTp hTo hM hC hS hR hG2 hN hO hd2 hd3 hA1 hF1
  have hdj1 : ∀ i, mi i = true → ¬ fpC (xG X) a tp ba g ah A D1 (Dm i) ∧ Dm i ≠ o := fun j hj => ⟨fun f => (fpC_ah hN1 f).elim (hdj j hj).1 (fun e => by rw [hX.1 j hj] at e; cases e), (hdj j hj).2⟩
  have hno1 : ¬ fpC (xG X) a tp ba g ah A D1 o := fun f => (fpC_ah hN1 f).elim hno (fun e => by rw [Ho] at e; cases e)
  have fgD : ∀ q, fpG (xG X) ah D q → fpC (xG X) a tp ba g ah A D q := fun q f => Or.inr (Or.inr (Or.inr (Or.inr f)))
  refine ww_aload_n C dL_law_1638 rfl 2 rfl rfl ?_
  have hXa : Mx (xG X) k7 Dm M := ⟨fun j hj => (hF1 _ _ (hX.1 j hj) (fun f => (hdj j hj).1 (fgD _ f))).1, hX.2⟩
  refine cv_X0_208_q (As := []) (rest := [.int (oI (ruN T B (M.1 31)))]) C dL_law_1639 (ct_X4_roundsUntilRing (Cx.fl C) (Cx.ok C) hz hXa hb hC hT hS hR) (rc_X4 (Cx.ok C) (Or.inl hXa.m)) rfl rfl (Nat.le_of_ble_eq_true rfl) (by omega) (Nat.zero_le _) (Nat.zero_le _) (fun v8 z8 k8 q8 => ?_)
  obtain ⟨hv8, hz8, M8, hg8, ht8, hX8, hF8⟩ := q8; replace hz8 := hz8.symm; subst hz8; subst hv8
  have hI8 : LwI (xG X) z k8 a (Dm 0) o := LwI.rd hCo1 hb hT rfl hV her hdj1 hno1 hFo Ho7 hg8 hX8 hF8
  refine ww_icmp_eq_t (tgt := 1827) C dL_law_1642 (by decide) rfl ?_
  exact ww_le (by omega) (by omega) (kk _ _ hz hI8)
set_option maxHeartbeats 2000000 in
theorem lwc_0 {X : XT} {P : Oc → ZR → AH → Prop} {z : ZR} {h : AH} {kc ns d : Nat} {a m o b L i : Nat} {xs : Nat → Int32} (C : Cx X cL_law 9 "RingDominoLaw" "law" (some .boolean) [] d) (hd0 : 2100 ≤ d) (hz : zle (cst (xG X)) z) (hI : LwI (xG X) z h a m o) (hs : va_X b L xs (gS (xG X)) (gS (xG X)).heap) (hbs : b < gN (xG X)) (hi : i + 6 ≤ L) (hL : L ≤ 384) (hk : 9390 ≤ kc) (hn : 113000 ≤ ns) (kk : ∀ z' h', zle (cst (xG X)) z' → LwI (xG X) z' h' a m o → WW X P z' h' (kc - 9390) (ns - 113000) 1827 [(4, .int (nI i)), (3, .ref o), (2, .ref m), (1, .ref a), (0, .ref b)] []) : WW X P z h kc ns 204 [(4, .int (nI i)), (3, .ref o), (2, .ref m), (1, .ref a), (0, .ref b)] [] := by
  obtain ⟨tp, ba, g, ah, A, D, er, t, B, rn, T, Dm, M, f, hCo, hm, hX, hb, hT, hrn, hV, her, Ho, hdj, hno⟩ := hI
  subst hm
  obtain ⟨fb, G, dn, N, Ha, hTp, hTo, hM, hC, hS, hR, hG2, hN, hO, hAh, hd2, hd3⟩ := id hCo
  have hB := hC.1
  have hG := GmM.p hz hM
  have Ho : h o = some (.inl (gA (xG X) 2, (1, .inr (.inl f)))) := Ho
  have hzz := BO.z hB
  have hbt := hB.2.1
  have hto : ∀ q, fpC (xG X) a tp ba g ah A D q → q ≠ o := fun q f e => hno (e ▸ f)
  have fa : fpC (xG X) a tp ba g ah A D a := Or.inl rfl
  have fg : ∀ q, fpG (xG X) g A q → fpC (xG X) a tp ba g ah A D q := fun q f => Or.inr (Or.inr (Or.inr (Or.inl f)))
  have f4 : fpG (xG X) g A (A 4) := Or.inr (Or.inr (Or.inr (Or.inl rfl)))
  have na4 : a ≠ A 4 := fun e => (hd3 a (Or.inl rfl)).1 (e ▸ f4)
  have nag : a ≠ g := fun e => (hd3 a (Or.inl rfl)).1 (Or.inl e)
  have no4 : o ≠ A 4 := fun e => hno (fg _ (e ▸ f4))
  have nog : o ≠ g := fun e => hno (fg _ (Or.inl e))
  refine ww_ow0 hz (fun ow0 => ?_)
  have na6 : a ≠ A 6 := fun e => (hd3 a (Or.inl rfl)).1 (Or.inr (Or.inr (Or.inr (Or.inr (Or.inr (Or.inr ⟨Or.inr (Or.inr (Or.inl e)), ow0 _ _ Ha⟩))))))
  have no6 : o ≠ A 6 := fun e => hno (fg _ (Or.inr (Or.inr (Or.inr (Or.inr (Or.inr (Or.inr ⟨Or.inr (Or.inr (Or.inl e)), ow0 _ _ Ho⟩)))))))
  have na8 : a ≠ A 8 := fun e => (hd3 a (Or.inl rfl)).1 (Or.inr (Or.inr (Or.inr (Or.inr (Or.inr (Or.inr ⟨Or.inr (Or.inr (Or.inr e)), ow0 _ _ Ha⟩))))))
  have no8 : o ≠ A 8 := fun e => hno (fg _ (Or.inr (Or.inr (Or.inr (Or.inr (Or.inr (Or.inr ⟨Or.inr (Or.inr (Or.inr e)), ow0 _ _ Ho⟩)))))))
  refine ww_lv (lv' := [(4, .int (nI i)), (3, .ref o), (2, .ref (Dm 0)), (1, .ref a), (0, .ref b)]) rfl ?_
  show WW X P z h kc ns 204 [(4, .int (nI i)), (3, .ref o), (2, .ref (Dm 0)), (1, .ref a), (0, .ref b)] []
  have fat : fpC (xG X) a tp ba g ah A D tp := Or.inr (Or.inl rfl)
  have fab : fpC (xG X) a tp ba g ah A D ba := Or.inr (Or.inr (Or.inl rfl))
  have nat : a ≠ tp := ne_ob Ha hTp.1 (by simp)
  have nab : a ≠ ba := ne_ob Ha hTp.2.1 (by simp)
  have nto : o ≠ tp := (hto tp fat).symm
  have nbo : o ≠ ba := (hto ba fab).symm
  refine ww_aload_n C dL_law_204 rfl 3 rfl rfl ?_
  refine ww_aload_n C dL_law_205 rfl 4 rfl rfl ?_
  refine ww_iload C dL_law_206 0 rfl ?_
  refine ww_iconst C dL_law_208 cI_1 ?_
  refine ww_iaddn C dL_law_209 ?_
  refine ww_sld (j := (i + 1)) C hs hbs (by omega) (by omega) dL_law_210 ?_
  refine ww_aload_n C dL_law_211 rfl 4 rfl rfl ?_
  refine ww_iload C dL_law_212 0 rfl ?_
  refine ww_iconst C dL_law_214 cI_2 ?_
  refine ww_iaddn C dL_law_215 ?_
  refine ww_sld (j := (i + 2)) C hs hbs (by omega) (by omega) dL_law_216 ?_
  refine ww_aload_n C dL_law_217 rfl 4 rfl rfl ?_
  refine ww_iload C dL_law_218 0 rfl ?_
  refine ww_iconst C dL_law_220 cI_3 ?_
  refine ww_iaddn C dL_law_221 ?_
  refine ww_sld (j := (i + 3)) C hs hbs (by omega) (by omega) dL_law_222 ?_
  refine ww_aload_n C dL_law_223 rfl 4 rfl rfl ?_
  refine ww_iload C dL_law_224 0 rfl ?_
  refine ww_iconst C dL_law_226 cI_4 ?_
  refine ww_iaddn C dL_law_227 ?_
  refine ww_sld (j := (i + 4)) C hs hbs (by omega) (by omega) dL_law_228 ?_
  refine ww_aload_n C dL_law_229 rfl 4 rfl rfl ?_
  refine ww_iload C dL_law_230 0 rfl ?_
  refine ww_iconst C dL_law_232 cI_5 ?_
  refine ww_iaddn C dL_law_233 ?_
  refine ww_sld (j := (i + 5)) C hs hbs (by omega) (by omega) dL_law_234 ?_
  refine ww_aload_n C dL_law_235 rfl 1 rfl rfl ?_
  refine cs_X0_91_q (As := [.ref a, .int (xs (i + 1)), .int (xs (i + 2)), .int (xs (i + 3)), .int (xs (i + 4)), .int (xs (i + 5)), .ref o]) (rest := []) C dL_law_236 (ct_X0_feed (Cx.fl C) (Cx.ok C) Ha hTp hTo nto nbo Ho) rfl rfl (Nat.le_of_ble_eq_true rfl) (by omega) (by omega) (by omega) (fun v7 z7 k7 q7 => ?_)
  obtain ⟨hv7, hz7, fb7, f7, hT7, Ho7, hf7, hF7⟩ := q7; replace hz7 := hz7.symm; subst hz7; subst hv7
  refine ww_le (kc' := kc - 9390 + 1) (ns' := ns - 113000 + 5) (by omega) (by omega) ?_
  have hTo7 := aFd_ok hTo (x1 := (xs (i + 1))) (x2 := (xs (i + 2))) (x3 := (xs (i + 3))) (x4 := (xs (i + 4))) (x5 := (xs (i + 5)))
  have hCo1 := hCo.tap hT7 hTo7 hF7 hno nat nab
  have hFo : ∀ q, q ≠ o → k7 q = k7 q := fun _ _ => rfl
  refine ww_istore (lv' := [(5, .int (nI (aFd t (xs (i + 1)) (xs (i + 2)) (xs (i + 3)) (xs (i + 4)) (xs (i + 5))).1.2)), (4, .int (nI i)), (3, .ref o), (2, .ref (Dm 0)), (1, .ref a), (0, .ref b)]) C dL_law_239 (by decide) rfl ?_
  refine ww_aload_n C dL_law_241 rfl 3 rfl rfl ?_
  refine ww_aload_n C dL_law_242 rfl 5 rfl rfl ?_
  refine ww_iload C dL_law_243 1 rfl ?_
  refine ww_iconst C dL_law_245 cI_1 ?_
  refine ww_iaddn C dL_law_246 ?_
  refine ww_sld (j := (i + 1)) C hs hbs (by omega) (by omega) dL_law_247 ?_
  refine ww_aload_n C dL_law_248 rfl 5 rfl rfl ?_
  refine ww_iload C dL_law_249 1 rfl ?_
  refine ww_iconst C dL_law_251 cI_2 ?_
  refine ww_iaddn C dL_law_252 ?_
  refine ww_sld (j := (i + 2)) C hs hbs (by omega) (by omega) dL_law_253 ?_
  refine ww_aload_n C dL_law_254 rfl 5 rfl rfl ?_
  refine ww_iload C dL_law_255 1 rfl ?_
  refine ww_iconst C dL_law_257 cI_3 ?_
  refine ww_iaddn C dL_law_258 ?_
  refine ww_sld (j := (i + 3)) C hs hbs (by omega) (by omega) dL_law_259 ?_
  refine ww_aload_n C dL_law_260 rfl 5 rfl rfl ?_
  refine ww_iload C dL_law_261 1 rfl ?_
  refine ww_iconst C dL_law_263 cI_4 ?_
  refine ww_iaddn C dL_law_264 ?_
  refine ww_sld (j := (i + 4)) C hs hbs (by omega) (by omega) dL_law_265 ?_
  refine ww_aload_n C dL_law_266 rfl 5 rfl rfl ?_
  refine ww_iload C dL_law_267 1 rfl ?_
  refine ww_iconst C dL_law_269 cI_5 ?_
  refine ww_iaddn C dL_law_270 ?_
  refine ww_sld (j := (i + 5)) C hs hbs (by omega) (by omega) dL_law_271 ?_
  have hXa : Mx (xG X) k7 Dm M := ⟨fun j hj => by rw [hF7 _ (fun e => (hdj j hj).1 (by rw [e]; exact fat)) (fun e => (hdj j hj).1 (by rw [e]; exact fab)) (hdj j hj).2]; exact hX.1 j hj, hX.2⟩
  refine cv_X0_96_q (As := [.int (xs (i + 1)), .int (xs (i + 2)), .int (xs (i + 3)), .int (xs (i + 4)), .int (xs (i + 5))]) (rest := []) C dL_law_272 (ct_X4_feed (Cx.fl C) (Cx.ok C) hXa hV hTo) (rc_X4 (Cx.ok C) (Or.inl hXa.m)) rfl rfl (Nat.le_of_ble_eq_true rfl) (by omega) (by omega) (by omega) (fun v8 z8 k8 q8 => ?_)
  obtain ⟨hv8, hz8, M8, hg8, hV8, ht8, hX8, hF8⟩ := q8; replace hz8 := hz8.symm; subst hz8; subst hv8
  refine ww_le (kc' := kc - 9390) (ns' := ns - 113000) (by omega) (by omega) ?_
  obtain ⟨hb8, hT8, hr8, he8⟩ := Mfc.w (t' := t) hg8 hb hT
  have hI8 : LwI (xG X) z k8 a (Dm 0) o := LwI.wr hCo1 hb8 hT8 (hr8.trans hrn) hV8 (he8.trans her) hdj hno hFo Ho7 hX8 hF8
  have Ho8 : k8 o = some (.inl (gA (xG X) 2, (1, .inr (.inl f7)))) := by rw [hF8 o (fun i hi => ((hdj i hi).2).symm)]; exact Ho7
  refine ww_istore (lv' := [(6, .int ((aFd t (xs (i + 1)) (xs (i + 2)) (xs (i + 3)) (xs (i + 4)) (xs (i + 5))).1.1)), (5, .int (nI (aFd t (xs (i + 1)) (xs (i + 2)) (xs (i + 3)) (xs (i + 4)) (xs (i + 5))).1.2)), (4, .int (nI i)), (3, .ref o), (2, .ref (Dm 0)), (1, .ref a), (0, .ref b)]) C dL_law_275 (by decide) rfl ?_
  refine ww_aload_n C dL_law_277 rfl 4 rfl rfl ?_
  refine cv_X0_97_r (As := []) (rest := []) C dL_law_278 (ct_X4_thrown (Cx.fl C) (Cx.ok C) hX8.m) (rc_X4 (Cx.ok C) (Or.inl hX8.m)) rfl rfl (Nat.le_of_ble_eq_true rfl) (by omega) (Nat.zero_le _) (Nat.zero_le _) ?_
  refine ww_iload C dL_law_281 1 rfl ?_
  refine ww_icmp_eq_t (tgt := 288) C dL_law_283 (by decide) ht8 ?_
  refine ww_iload C dL_law_288 1 rfl ?_
  refine ww_if_ne (tgt := 305) C dL_law_290 (by decide) (fun c_290 => ?_) (fun c_290 => ?_)
  · skip
    refine ww_goto (tgt := 1827) C dL_law_305 (by decide) ?_
    refine ww_sub [2, 3, 4, 5, 6] rfl ?_
    exact ww_le (by omega) (by omega) (kk _ _ hz hI8)
  · skip
    have c9 : nI (aFd t (xs (i + 1)) (xs (i + 2)) (xs (i + 3)) (xs (i + 4)) (xs (i + 5))).1.2 = 0 := by first | exact c_290 | (exact Decidable.not_not.mp c_290)
    have hq0 : (aFd t (xs (i + 1)) (xs (i + 2)) (xs (i + 3)) (xs (i + 4)) (xs (i + 5))).1.2 = 0 := aFd_z c9
    have hf0 := hf7 hq0
    refine ww_aload_n C dL_law_293 rfl 3 rfl rfl ?_
    refine ww_iconst C dL_law_294 cI_0 ?_
    refine ww_lald C dL_law_295 (Or.inl Ho8) (by decide) (by decide) ?_
    refine ww_iload C dL_law_296 0 rfl ?_
    refine ww_i2l C dL_law_298 rfl ?_
    refine ww_lcmp C dL_law_299 ?_
    refine ww_if_eq_t (tgt := 305) C dL_law_300 (by decide) (by rw [hf0]; exact cmp_s _) ?_
    refine ww_goto (tgt := 1827) C dL_law_305 (by decide) ?_
    refine ww_sub [2, 3, 4, 5, 6] rfl ?_
    exact ww_le (by omega) (by omega) (kk _ _ hz hI8)
set_option maxHeartbeats 2000000 in
theorem lwc_1 {X : XT} {P : Oc → ZR → AH → Prop} {z : ZR} {h : AH} {kc ns d : Nat} {a m o b L i : Nat} {xs : Nat → Int32} (C : Cx X cL_law 9 "RingDominoLaw" "law" (some .boolean) [] d) (hd0 : 2100 ≤ d) (hz : zle (cst (xG X)) z) (hI : LwI (xG X) z h a m o) (hs : va_X b L xs (gS (xG X)) (gS (xG X)).heap) (hbs : b < gN (xG X)) (hi : i + 6 ≤ L) (hL : L ≤ 384) (hk : 9390 ≤ kc) (hn : 113000 ≤ ns) (kk : ∀ z' h', zle (cst (xG X)) z' → LwI (xG X) z' h' a m o → WW X P z' h' (kc - 9390) (ns - 113000) 1827 [(4, .int (nI i)), (3, .ref o), (2, .ref m), (1, .ref a), (0, .ref b)] []) : WW X P z h kc ns 308 [(4, .int (nI i)), (3, .ref o), (2, .ref m), (1, .ref a), (0, .ref b)] [] := by
  obtain ⟨tp, ba, g, ah, A, D, er, t, B, rn, T, Dm, M, f, hCo, hm, hX, hb, hT, hrn, hV, her, Ho, hdj, hno⟩ := hI
  subst hm
  obtain ⟨fb, G, dn, N, Ha, hTp, hTo, hM, hC, hS, hR, hG2, hN, hO, hAh, hd2, hd3⟩ := id hCo
  have hB := hC.1
  have hG := GmM.p hz hM
  have Ho : h o = some (.inl (gA (xG X) 2, (1, .inr (.inl f)))) := Ho
  have hzz := BO.z hB
  have hbt := hB.2.1
  have hto : ∀ q, fpC (xG X) a tp ba g ah A D q → q ≠ o := fun q f e => hno (e ▸ f)
  have fa : fpC (xG X) a tp ba g ah A D a := Or.inl rfl
  have fg : ∀ q, fpG (xG X) g A q → fpC (xG X) a tp ba g ah A D q := fun q f => Or.inr (Or.inr (Or.inr (Or.inl f)))
  have f4 : fpG (xG X) g A (A 4) := Or.inr (Or.inr (Or.inr (Or.inl rfl)))
  have na4 : a ≠ A 4 := fun e => (hd3 a (Or.inl rfl)).1 (e ▸ f4)
  have nag : a ≠ g := fun e => (hd3 a (Or.inl rfl)).1 (Or.inl e)
  have no4 : o ≠ A 4 := fun e => hno (fg _ (e ▸ f4))
  have nog : o ≠ g := fun e => hno (fg _ (Or.inl e))
  refine ww_ow0 hz (fun ow0 => ?_)
  have na6 : a ≠ A 6 := fun e => (hd3 a (Or.inl rfl)).1 (Or.inr (Or.inr (Or.inr (Or.inr (Or.inr (Or.inr ⟨Or.inr (Or.inr (Or.inl e)), ow0 _ _ Ha⟩))))))
  have no6 : o ≠ A 6 := fun e => hno (fg _ (Or.inr (Or.inr (Or.inr (Or.inr (Or.inr (Or.inr ⟨Or.inr (Or.inr (Or.inl e)), ow0 _ _ Ho⟩)))))))
  have na8 : a ≠ A 8 := fun e => (hd3 a (Or.inl rfl)).1 (Or.inr (Or.inr (Or.inr (Or.inr (Or.inr (Or.inr ⟨Or.inr (Or.inr (Or.inr e)), ow0 _ _ Ha⟩))))))
  have no8 : o ≠ A 8 := fun e => hno (fg _ (Or.inr (Or.inr (Or.inr (Or.inr (Or.inr (Or.inr ⟨Or.inr (Or.inr (Or.inr e)), ow0 _ _ Ho⟩)))))))
  refine ww_lv (lv' := [(4, .int (nI i)), (3, .ref o), (2, .ref (Dm 0)), (1, .ref a), (0, .ref b)]) rfl ?_
  show WW X P z h kc ns 308 [(4, .int (nI i)), (3, .ref o), (2, .ref (Dm 0)), (1, .ref a), (0, .ref b)] []
  have fat : fpC (xG X) a tp ba g ah A D tp := Or.inr (Or.inl rfl)
  have fab : fpC (xG X) a tp ba g ah A D ba := Or.inr (Or.inr (Or.inl rfl))
  have nat : a ≠ tp := ne_ob Ha hTp.1 (by simp)
  have nab : a ≠ ba := ne_ob Ha hTp.2.1 (by simp)
  have nto : o ≠ tp := (hto tp fat).symm
  have nbo : o ≠ ba := (hto ba fab).symm
  have hV1 : M.1 1 = nI t.2 := hV.1
  refine ww_aload_n C dL_law_308 rfl 3 rfl rfl ?_
  refine ww_aload_n C dL_law_309 rfl 4 rfl rfl ?_
  refine ww_iload C dL_law_310 0 rfl ?_
  refine ww_iconst C dL_law_312 cI_1 ?_
  refine ww_iaddn C dL_law_313 ?_
  refine ww_sld (j := (i + 1)) C hs hbs (by omega) (by omega) dL_law_314 ?_
  refine ww_aload_n C dL_law_315 rfl 1 rfl rfl ?_
  refine cs_X0_101_q (As := [.ref a, .int (xs (i + 1)), .ref o]) (rest := []) C dL_law_316 (ct_X0_trim (Cx.fl C) (Cx.ok C) Ha hTp hTo nto Ho) rfl rfl (Nat.le_of_ble_eq_true rfl) (by omega) (by omega) (by omega) (fun v7 z7 k7 q7 => ?_)
  obtain ⟨hz7, f7, q7⟩ := q7; replace hz7 := hz7.symm; subst hz7
  refine ww_le (kc' := kc - 9390) (ns' := ns - 113000) (by omega) (by omega) ?_
  cases hc : (decide (nI 0 ≤ xs (i + 1)) && decide (xs (i + 1) ≤ nI t.2)) with
  | false =>
    rw [hc] at q7
    obtain ⟨hv7, hE7⟩ := q7; subst hv7
    have hFo : ∀ q, q ≠ o → q ≠ tp → k7 q = h q := fun q h1 _ => by rw [hE7, up_n h1]
    have hCo1 : CoI (xG X) z k7 a tp ba g ah A D er t B rn T := hCo.ext (fun q e hq f => by rw [hE7, up_n (hto q f)]; exact hq)
    have Ho7 : k7 o = some (cOu (xG X) f7) := by rw [hE7]; exact up_s
    refine ww_istore (lv' := [(5, .int (nI 1)), (4, .int (nI i)), (3, .ref o), (2, .ref (Dm 0)), (1, .ref a), (0, .ref b)]) C dL_law_319 (by decide) rfl ?_
    refine ww_aload_n C dL_law_321 rfl 3 rfl rfl ?_
    refine ww_aload_n C dL_law_322 rfl 5 rfl rfl ?_
    refine ww_iload C dL_law_323 1 rfl ?_
    refine ww_iconst C dL_law_325 cI_1 ?_
    refine ww_iaddn C dL_law_326 ?_
    refine ww_sld (j := (i + 1)) C hs hbs (by omega) (by omega) dL_law_327 ?_
    have hXa : Mx (xG X) k7 Dm M := ⟨fun j hj => by rw [hFo _ (hdj j hj).2 (fun e => (hdj j hj).1 (e ▸ fat))]; exact hX.1 j hj, hX.2⟩
    refine cv_X0_104_q (As := [.int (xs (i + 1))]) (rest := []) C dL_law_328 (ct_X4_trim (Cx.fl C) (Cx.ok C) hXa) (rc_X4 (Cx.ok C) (Or.inl hXa.m)) rfl rfl (Nat.le_of_ble_eq_true rfl) (by omega) (Nat.zero_le _) (Nat.zero_le _) (fun v8 z8 k8 q8 => ?_)
    obtain ⟨hz8, hF8, q8⟩ := q8; replace hz8 := hz8.symm; subst hz8
    rw [hV1, hc] at q8
    obtain ⟨hv8, hX8⟩ := q8; subst hv8
    have Ho8 : k8 o = some (.inl (gA (xG X) 2, (1, .inr (.inl f7)))) := by rw [hF8 o (fun i hi => ((hdj i hi).2).symm)]; exact Ho7
    have hI8 : LwI (xG X) z k8 a (Dm 0) o := LwI.wr (M' := (upd M.1 0 (nI 1), M.2)) hCo1 (hb : MBd (upd M.1 0 (nI 1), M.2) 30 40 B) (hT : TdP (upd M.1 0 (nI 1), M.2) T) hrn (hV : TpV (upd M.1 0 (nI 1), M.2) t) her hdj hno (fun _ _ => rfl) Ho7 hX8 hF8
    refine ww_istore (lv' := [(6, .int (nI 0)), (5, .int (nI 1)), (4, .int (nI i)), (3, .ref o), (2, .ref (Dm 0)), (1, .ref a), (0, .ref b)]) C dL_law_331 (by decide) rfl ?_
    refine ww_aload_n C dL_law_333 rfl 4 rfl rfl ?_
    refine cv_X0_97_r (As := []) (rest := []) C dL_law_334 (ct_X4_thrown (Cx.fl C) (Cx.ok C) hX8.m) (rc_X4 (Cx.ok C) (Or.inl hX8.m)) rfl rfl (Nat.le_of_ble_eq_true rfl) (by omega) (Nat.zero_le _) (Nat.zero_le _) ?_
    refine ww_iload C dL_law_337 1 rfl ?_
    refine ww_icmp_eq_t (tgt := 344) C dL_law_339 (by decide) rfl ?_
    refine ww_iload C dL_law_344 1 rfl ?_
    refine ww_if_ne_t (tgt := 361) C dL_law_346 (by decide) (by decide) ?_
    refine ww_goto (tgt := 1827) C dL_law_361 (by decide) ?_
    refine ww_sub [2, 3, 4, 5, 6] rfl ?_
    exact ww_le (by omega) (by omega) (kk _ _ hz hI8)
  | true =>
    rw [hc] at q7
    obtain ⟨hv7, hE7, hf0⟩ := q7; subst hv7
    have hFo : ∀ q, q ≠ o → q ≠ tp → k7 q = h q := fun q h1 h2 => by rw [hE7, up_n h1, up_n h2]
    obtain ⟨c, hcl, hce⟩ := trim_c hTo.1 hc
    have hT7 : TpC (xG X) k7 tp ba fb (t.1, c) := ⟨by rw [hE7, up_n nto.symm, up_s, hce], by rw [hE7, up_n nbo.symm, up_n (fun e => nat_ne hTp e)]; exact hTp.2.1, fun q hq => hTp.2.2 q (by have hq : q < c := hq; omega)⟩
    have hTo7 : TPo (t.1, c) := ⟨Nat.le_trans hcl hTo.1, fun q hq => hTo.2 q (by have hq : q < c := hq; omega)⟩
    have hCo1 := hCo.tap hT7 hTo7 (fun q n1 n2 n3 => hFo q n3 n1) hno nat nab
    have Ho7 : k7 o = some (cOu (xG X) f7) := by rw [hE7]; exact up_s
    refine ww_istore (lv' := [(5, .int (nI 0)), (4, .int (nI i)), (3, .ref o), (2, .ref (Dm 0)), (1, .ref a), (0, .ref b)]) C dL_law_319 (by decide) rfl ?_
    refine ww_aload_n C dL_law_321 rfl 3 rfl rfl ?_
    refine ww_aload_n C dL_law_322 rfl 5 rfl rfl ?_
    refine ww_iload C dL_law_323 1 rfl ?_
    refine ww_iconst C dL_law_325 cI_1 ?_
    refine ww_iaddn C dL_law_326 ?_
    refine ww_sld (j := (i + 1)) C hs hbs (by omega) (by omega) dL_law_327 ?_
    have hXa : Mx (xG X) k7 Dm M := ⟨fun j hj => by rw [hFo _ (hdj j hj).2 (fun e => (hdj j hj).1 (e ▸ fat))]; exact hX.1 j hj, hX.2⟩
    refine cv_X0_104_q (As := [.int (xs (i + 1))]) (rest := []) C dL_law_328 (ct_X4_trim (Cx.fl C) (Cx.ok C) hXa) (rc_X4 (Cx.ok C) (Or.inl hXa.m)) rfl rfl (Nat.le_of_ble_eq_true rfl) (by omega) (Nat.zero_le _) (Nat.zero_le _) (fun v8 z8 k8 q8 => ?_)
    obtain ⟨hz8, hF8, q8⟩ := q8; replace hz8 := hz8.symm; subst hz8
    rw [hV1, hc] at q8
    obtain ⟨hv8, hX8⟩ := q8; subst hv8
    have Ho8 : k8 o = some (.inl (gA (xG X) 2, (1, .inr (.inl f7)))) := by rw [hF8 o (fun i hi => ((hdj i hi).2).symm)]; exact Ho7
    have hI8 : LwI (xG X) z k8 a (Dm 0) o := LwI.wr (M' := (upd (upd M.1 0 (nI 0)) 1 (xs (i + 1)), M.2)) hCo1 (hb : MBd (upd (upd M.1 0 (nI 0)) 1 (xs (i + 1)), M.2) 30 40 B) (hT : TdP (upd (upd M.1 0 (nI 0)) 1 (xs (i + 1)), M.2) T) hrn ⟨hce, fun q hq => hV.2 q (by have hq : q < c := hq; omega)⟩ her hdj hno (fun _ _ => rfl) Ho7 hX8 hF8
    refine ww_istore (lv' := [(6, .int (xs (i + 1))), (5, .int (nI 0)), (4, .int (nI i)), (3, .ref o), (2, .ref (Dm 0)), (1, .ref a), (0, .ref b)]) C dL_law_331 (by decide) rfl ?_
    refine ww_aload_n C dL_law_333 rfl 4 rfl rfl ?_
    refine cv_X0_97_r (As := []) (rest := []) C dL_law_334 (ct_X4_thrown (Cx.fl C) (Cx.ok C) hX8.m) (rc_X4 (Cx.ok C) (Or.inl hX8.m)) rfl rfl (Nat.le_of_ble_eq_true rfl) (by omega) (Nat.zero_le _) (Nat.zero_le _) ?_
    refine ww_iload C dL_law_337 1 rfl ?_
    refine ww_icmp_eq_t (tgt := 344) C dL_law_339 (by decide) rfl ?_
    refine ww_iload C dL_law_344 1 rfl ?_
    refine ww_if_ne_f (tgt := 361) C dL_law_346 (by decide) rfl ?_
    refine ww_aload_n C dL_law_349 rfl 3 rfl rfl ?_
    refine ww_iconst C dL_law_350 cI_0 ?_
    refine ww_lald C dL_law_351 (Or.inl Ho8) (by decide) (by decide) ?_
    refine ww_iload C dL_law_352 0 rfl ?_
    refine ww_i2l C dL_law_354 rfl ?_
    refine ww_lcmp C dL_law_355 ?_
    refine ww_if_eq_t (tgt := 361) C dL_law_356 (by decide) (by rw [hf0]; exact cmp_s _) ?_
    refine ww_goto (tgt := 1827) C dL_law_361 (by decide) ?_
    refine ww_sub [2, 3, 4, 5, 6] rfl ?_
    exact ww_le (by omega) (by omega) (kk _ _ hz hI8)
end LAW5
