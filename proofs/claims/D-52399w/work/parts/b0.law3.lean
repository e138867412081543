section LAW3
set_option maxRecDepth 100000
theorem bwM_288 {B : GB} (hC : BC B) {v : Int32} : bwM B v ≤ 288 := by
  unfold bwM
  cases hx : ixO v (Bt B) with
  | none => exact Nat.zero_le _
  | some k =>
    simp only
    refine bwC_288 hC ?_
    unfold ixO ixB at hx
    split at hx
    · rename_i hq
      rw [Bool.and_eq_true] at hq
      have h1 := of_decide_eq_true hq.1
      have h2 := of_decide_eq_true hq.2
      cases hx
      have hb := hC.1.2.1
      rw [Int32.lt_iff_toInt_lt, nI_toInt (by omega)] at h2
      rw [Int32.le_iff_toInt_le] at h1
      have e0 : (0 : Int32).toInt = 0 := rfl
      show v.toInt.toNat < Bt B
      omega
    · cases hx
theorem aHas_z {B : GB} {x1 : Int32} (h : nI (aHas B x1).2 = 0) : (aHas B x1).2 = 0 := by
  revert h
  unfold aHas
  repeat' split
  all_goals first | (intro _; rfl) | (intro h; exact absurd h (by decide))
theorem aTil_z {B : GB} {x1 : Int32} (h : nI (aTil B x1).2 = 0) : (aTil B x1).2 = 0 := by
  revert h
  unfold aTil
  repeat' split
  all_goals first | (intro _; rfl) | (intro h; exact absurd h (by decide))
theorem aNum_z {B : GB} {x1 x2 : Int32} (h : nI (aNum B x1 x2).2 = 0) : (aNum B x1 x2).2 = 0 := by
  revert h
  unfold aNum
  repeat' split
  all_goals first | (intro _; rfl) | (intro h; exact absurd h (by decide))
theorem aMaO_z {B : GB} {x1 : Int32} (h : nI (aMaO B x1).2 = 0) : (aMaO B x1).2 = 0 := by
  revert h
  unfold aMaO
  repeat' split
  all_goals first | (intro _; rfl) | (intro h; exact absurd h (by decide))
theorem aRin_z {B : GB} {x1 : Int32} (h : nI (aRin B x1).2 = 0) : (aRin B x1).2 = 0 := by
  revert h
  unfold aRin
  repeat' split
  all_goals first | (intro _; rfl) | (intro h; exact absurd h (by decide))
theorem aPla_z {B : GB} {x1 : Int32} (h : nI (aPla B x1).2 = 0) : (aPla B x1).2 = 0 := by
  revert h
  unfold aPla
  repeat' split
  all_goals first | (intro _; rfl) | (intro h; exact absurd h (by decide))
theorem aCel_z {B : GB} {x1 : Int32} (h : nI (aCel B x1).2 = 0) : (aCel B x1).2 = 0 := by
  revert h
  unfold aCel
  repeat' split
  all_goals first | (intro _; rfl) | (intro h; exact absurd h (by decide))
theorem aTur_z {B : GB} {x1 : Int32} (h : nI (aTur B x1).2 = 0) : (aTur B x1).2 = 0 := by
  revert h
  unfold aTur
  repeat' split
  all_goals first | (intro _; rfl) | (intro h; exact absurd h (by decide))
theorem aFit_z {B : GB} {x1 x2 x3 : Int32} (h : nI (aFit B x1 x2 x3).2 = 0) : (aFit B x1 x2 x3).2 = 0 := by
  revert h
  unfold aFit
  repeat' split
  all_goals first | (intro _; rfl) | (intro h; exact absurd h (by decide))
theorem aAga_z {B : GB} {x1 x2 x3 : Int32} (h : nI (aAga B x1 x2 x3).2 = 0) : (aAga B x1 x2 x3).2 = 0 := by
  revert h
  unfold aAga
  repeat' split
  all_goals first | (intro _; rfl) | (intro h; exact absurd h (by decide))
theorem aWay_z {B : GB} {x1 : Int32} (h : nI (aWay B x1).2 = 0) : (aWay B x1).2 = 0 := by
  revert h
  unfold aWay
  repeat' split
  all_goals first | (intro _; rfl) | (intro h; exact absurd h (by decide))
theorem aLef_z {B : GB} {x1 : Int32} (h : nI (aLef B x1).2 = 0) : (aLef B x1).2 = 0 := by
  revert h
  unfold aLef
  repeat' split
  all_goals first | (intro _; rfl) | (intro h; exact absurd h (by decide))
theorem aLok_z {B : GB} {x1 : Int32} (h : nI (aLok B x1).2 = 0) : (aLok B x1).2 = 0 := by
  revert h
  unfold aLok
  repeat' split
  all_goals first | (intro _; rfl) | (intro h; exact absurd h (by decide))
theorem aBeC_z {B : GB} {x1 : Int32} (h : nI (aBeC B x1).2 = 0) : (aBeC B x1).2 = 0 := by
  revert h
  unfold aBeC
  repeat' split
  all_goals first | (intro _; rfl) | (intro h; exact absurd h (by decide))
theorem aBeT_z {B : GB} {x1 : Int32} (h : nI (aBeT B x1).2 = 0) : (aBeT B x1).2 = 0 := by
  revert h
  unfold aBeT
  repeat' split
  all_goals first | (intro _; rfl) | (intro h; exact absurd h (by decide))
set_option maxHeartbeats 2000000 in
theorem lwc_13 {X : XT} {P : Oc → ZR → AH → Prop} {z : ZR} {h : AH} {kc ns d : Nat} {a m o b L i : Nat} {xs : Nat → Int32} (C : Cx X cL_law 9 "RingDominoLaw" "law" (some .boolean) [] d) (hd0 : 2100 ≤ d) (hz : zle (cst (xG X)) z) (hI : LwI (xG X) z h a m o) (hs : va_X b L xs (gS (xG X)) (gS (xG X)).heap) (hbs : b < gN (xG X)) (hi : i + 6 ≤ L) (hL : L ≤ 384) (hk : 9390 ≤ kc) (hn : 113000 ≤ ns) (kk : ∀ z' h', zle (cst (xG X)) z' → LwI (xG X) z' h' a m o → WW X P z' h' (kc - 9390) (ns - 113000) 1827 [(4, .int (nI i)), (3, .ref o), (2, .ref m), (1, .ref a), (0, .ref b)] []) : WW X P z h kc ns 507 [(4, .int (nI i)), (3, .ref o), (2, .ref m), (1, .ref a), (0, .ref b)] [] := by
  obtain ⟨tp, ba, g, ah, A, D, er, t, B, rn, T, Dm, M, f, hCo, hm, hX, hb, hT, hrn, hV, her, Ho, hdj, hno⟩ := hI
  subst hm
  obtain ⟨fb, G, dn, N, Ha, hTp, hTo, hM, hC, hS, hR, hG2, hN, hO, hAh, hd2, hd3⟩ := id hCo
  have hB := hC.1
  have hG := GmM.p hz hM
  have Ho : h o = some (.inl (gA (xG X) 2, (1, .inr (.inl f)))) := Ho
  have hzz := BO.z hB
  have hbt := hB.2.1
  have hto : ∀ q, fpC (xG X) a tp ba g ah A D q → q ≠ o := fun q f e => hno (e ▸ f)
  have fa : fpC (xG X) a tp ba g ah A D a := Or.inl rfl
  have fg : ∀ q, fpG (xG X) g A q → fpC (xG X) a tp ba g ah A D q := fun q f => Or.inr (Or.inr (Or.inr (Or.inl f)))
  have f4 : fpG (xG X) g A (A 4) := Or.inr (Or.inr (Or.inr (Or.inl rfl)))
  have na4 : a ≠ A 4 := fun e => (hd3 a (Or.inl rfl)).1 (e ▸ f4)
  have nag : a ≠ g := fun e => (hd3 a (Or.inl rfl)).1 (Or.inl e)
  have no4 : o ≠ A 4 := fun e => hno (fg _ (e ▸ f4))
  have nog : o ≠ g := fun e => hno (fg _ (Or.inl e))
  refine ww_ow0 hz (fun ow0 => ?_)
  have na6 : a ≠ A 6 := fun e => (hd3 a (Or.inl rfl)).1 (Or.inr (Or.inr (Or.inr (Or.inr (Or.inr (Or.inr ⟨Or.inr (Or.inr (Or.inl e)), ow0 _ _ Ha⟩))))))
  have no6 : o ≠ A 6 := fun e => hno (fg _ (Or.inr (Or.inr (Or.inr (Or.inr (Or.inr (Or.inr ⟨Or.inr (Or.inr (Or.inl e)), ow0 _ _ Ho⟩)))))))
  have na8 : a ≠ A 8 := fun e => (hd3 a (Or.inl rfl)).1 (Or.inr (Or.inr (Or.inr (Or.inr (Or.inr (Or.inr ⟨Or.inr (Or.inr (Or.inr e)), ow0 _ _ Ha⟩))))))
  have no8 : o ≠ A 8 := fun e => hno (fg _ (Or.inr (Or.inr (Or.inr (Or.inr (Or.inr (Or.inr ⟨Or.inr (Or.inr (Or.inr e)), ow0 _ _ Ho⟩)))))))
  refine ww_lv (lv' := [(4, .int (nI i)), (3, .ref o), (2, .ref (Dm 0)), (1, .ref a), (0, .ref b)]) rfl ?_
  show WW X P z h kc ns 507 [(4, .int (nI i)), (3, .ref o), (2, .ref (Dm 0)), (1, .ref a), (0, .ref b)] []
  refine ww_aload_n C dL_law_507 rfl 3 rfl rfl ?_
  refine ww_aload_n C dL_law_508 rfl 4 rfl rfl ?_
  refine ww_iload C dL_law_509 0 rfl ?_
  refine ww_iconst C dL_law_511 cI_1 ?_
  refine ww_iaddn C dL_law_512 ?_
  refine ww_sld (j := (i + 1)) C hs hbs (by omega) (by omega) dL_law_513 ?_
  refine ww_aload_n C dL_law_514 rfl 1 rfl rfl ?_
  refine cs_X0_149_q (As := [.ref a, .int (xs (i + 1)), .ref o]) (rest := []) C dL_law_515 (ct_X0_hasTile (Cx.fl C) (Cx.ok C) hz (Or.inl Ha) hG hB Ho) rfl rfl (Nat.le_of_ble_eq_true rfl) (by omega) (by omega) (by omega) (fun v7 z7 k7 q7 => ?_)
  obtain ⟨hv7, hz7, f7, hE7, hf7⟩ := q7; replace hz7 := hz7.symm; subst hz7; subst hv7
  refine ww_le (kc' := kc - 9390) (ns' := ns - 113000) (by omega) (by omega) ?_
  have hFo : ∀ q, q ≠ o → k7 q = h q := fun q hq => by rw [hE7, up_n hq]
  have Ho7 : k7 o = some (cOu (xG X) f7) := by rw [hE7]; exact up_s
  refine ww_istore (lv' := [(5, .int (nI (aHas B (xs (i + 1))).2)), (4, .int (nI i)), (3, .ref o), (2, .ref (Dm 0)), (1, .ref a), (0, .ref b)]) C dL_law_518 (by decide) rfl ?_
  refine ww_aload_n C dL_law_520 rfl 3 rfl rfl ?_
  refine ww_aload_n C dL_law_521 rfl 5 rfl rfl ?_
  refine ww_iload C dL_law_522 1 rfl ?_
  refine ww_iconst C dL_law_524 cI_1 ?_
  refine ww_iaddn C dL_law_525 ?_
  refine ww_sld (j := (i + 1)) C hs hbs (by omega) (by omega) dL_law_526 ?_
  have hXa : Mx (xG X) k7 Dm M := ⟨fun j hj => by rw [hFo _ (hdj j hj).2]; exact hX.1 j hj, hX.2⟩
  refine cv_X0_151_q (As := [.int (xs (i + 1))]) (rest := []) C dL_law_527 (ct_X4_hasTile (Cx.fl C) (Cx.ok C) hz hXa hb hC) (rc_X4 (Cx.ok C) (Or.inl hXa.m)) rfl rfl (Nat.le_of_ble_eq_true rfl) (by omega) (Nat.zero_le _) (Nat.zero_le _) (fun v8 z8 k8 q8 => ?_)
  obtain ⟨hv8, hz8, M8, hg8, ht8, hX8, hF8⟩ := q8; replace hz8 := hz8.symm; subst hz8; subst hv8
  have hI8 : LwI (xG X) z k8 a (Dm 0) o := LwI.rd hCo hb hT hrn hV her hdj hno hFo Ho7 hg8 hX8 hF8
  have Ho8 : k8 o = some (.inl (gA (xG X) 2, (1, .inr (.inl f7)))) := by rw [hF8 o (fun i hi => ((hdj i hi).2).symm)]; exact Ho7
  refine ww_istore (lv' := [(6, .int ((aHas B (xs (i + 1))).1)), (5, .int (nI (aHas B (xs (i + 1))).2)), (4, .int (nI i)), (3, .ref o), (2, .ref (Dm 0)), (1, .ref a), (0, .ref b)]) C dL_law_530 (by decide) rfl ?_
  refine ww_aload_n C dL_law_532 rfl 4 rfl rfl ?_
  refine cv_X0_97_r (As := []) (rest := []) C dL_law_533 (ct_X4_thrown (Cx.fl C) (Cx.ok C) hX8.m) (rc_X4 (Cx.ok C) (Or.inl hX8.m)) rfl rfl (Nat.le_of_ble_eq_true rfl) (by omega) (Nat.zero_le _) (Nat.zero_le _) ?_
  refine ww_iload C dL_law_536 1 rfl ?_
  refine ww_icmp_eq_t (tgt := 543) C dL_law_538 (by decide) ht8 ?_
  refine ww_iload C dL_law_543 1 rfl ?_
  refine ww_if_ne (tgt := 567) C dL_law_545 (by decide) (fun c_545 => ?_) (fun c_545 => ?_)
  · skip
    refine ww_goto (tgt := 1827) C dL_law_567 (by decide) ?_
    refine ww_sub [2, 3, 4, 5, 6] rfl ?_
    exact ww_le (by omega) (by omega) (kk _ _ hz hI8)
  · skip
    have c9 : nI (aHas B (xs (i + 1))).2 = 0 := by first | exact c_545 | (exact Decidable.not_not.mp c_545)
    have hq0 : (aHas B (xs (i + 1))).2 = 0 := aHas_z c9
    have hf0 := hf7 hq0
    obtain ⟨b9, hb9⟩ := aHas_b B (xs (i + 1))
    refine ww_aload_n C dL_law_548 rfl 3 rfl rfl ?_
    refine ww_iconst C dL_law_549 cI_0 ?_
    refine ww_lald C dL_law_550 (Or.inl Ho8) (by decide) (by decide) ?_
    refine ww_iload C dL_law_551 0 rfl ?_
    refine ww_if_eq (tgt := 560) C dL_law_553 (by decide) (fun c_553 => ?_) (fun c_553 => ?_)
    · skip
      have c8 := c_553; rw [hb9] at c8
      have e8 : ((aHas B (xs (i + 1)))).1.toInt64 = (0 : Int64) := by rw [hb9]; exact bI_640 c8
      refine ww_lconst (v := 0) C dL_law_560 rfl ?_
      refine ww_lcmp C dL_law_561 ?_
      refine ww_if_eq_t (tgt := 567) C dL_law_562 (by decide) (by rw [hf0, e8]; exact cmp_s _) ?_
      refine ww_goto (tgt := 1827) C dL_law_567 (by decide) ?_
      refine ww_sub [2, 3, 4, 5, 6] rfl ?_
      exact ww_le (by omega) (by omega) (kk _ _ hz hI8)
    · skip
      have c8 := c_553; rw [hb9] at c8
      have e8 : ((aHas B (xs (i + 1)))).1.toInt64 = (1 : Int64) := by rw [hb9]; exact bI_64 c8
      refine ww_lconst (v := 1) C dL_law_556 rfl ?_
      refine ww_goto (tgt := 561) C dL_law_557 (by decide) ?_
      refine ww_lcmp C dL_law_561 ?_
      refine ww_if_eq_t (tgt := 567) C dL_law_562 (by decide) (by rw [hf0, e8]; exact cmp_s _) ?_
      refine ww_goto (tgt := 1827) C dL_law_567 (by decide) ?_
      refine ww_sub [2, 3, 4, 5, 6] rfl ?_
      exact ww_le (by omega) (by omega) (kk _ _ hz hI8)
set_option maxHeartbeats 2000000 in
theorem lwc_14 {X : XT} {P : Oc → ZR → AH → Prop} {z : ZR} {h : AH} {kc ns d : Nat} {a m o b L i : Nat} {xs : Nat → Int32} (C : Cx X cL_law 9 "RingDominoLaw" "law" (some .boolean) [] d) (hd0 : 2100 ≤ d) (hz : zle (cst (xG X)) z) (hI : LwI (xG X) z h a m o) (hs : va_X b L xs (gS (xG X)) (gS (xG X)).heap) (hbs : b < gN (xG X)) (hi : i + 6 ≤ L) (hL : L ≤ 384) (hk : 9390 ≤ kc) (hn : 113000 ≤ ns) (kk : ∀ z' h', zle (cst (xG X)) z' → LwI (xG X) z' h' a m o → WW X P z' h' (kc - 9390) (ns - 113000) 1827 [(4, .int (nI i)), (3, .ref o), (2, .ref m), (1, .ref a), (0, .ref b)] []) : WW X P z h kc ns 570 [(4, .int (nI i)), (3, .ref o), (2, .ref m), (1, .ref a), (0, .ref b)] [] := by
  obtain ⟨tp, ba, g, ah, A, D, er, t, B, rn, T, Dm, M, f, hCo, hm, hX, hb, hT, hrn, hV, her, Ho, hdj, hno⟩ := hI
  subst hm
  obtain ⟨fb, G, dn, N, Ha, hTp, hTo, hM, hC, hS, hR, hG2, hN, hO, hAh, hd2, hd3⟩ := id hCo
  have hB := hC.1
  have hG := GmM.p hz hM
  have Ho : h o = some (.inl (gA (xG X) 2, (1, .inr (.inl f)))) := Ho
  have hzz := BO.z hB
  have hbt := hB.2.1
  have hto : ∀ q, fpC (xG X) a tp ba g ah A D q → q ≠ o := fun q f e => hno (e ▸ f)
  have fa : fpC (xG X) a tp ba g ah A D a := Or.inl rfl
  have fg : ∀ q, fpG (xG X) g A q → fpC (xG X) a tp ba g ah A D q := fun q f => Or.inr (Or.inr (Or.inr (Or.inl f)))
  have f4 : fpG (xG X) g A (A 4) := Or.inr (Or.inr (Or.inr (Or.inl rfl)))
  have na4 : a ≠ A 4 := fun e => (hd3 a (Or.inl rfl)).1 (e ▸ f4)
  have nag : a ≠ g := fun e => (hd3 a (Or.inl rfl)).1 (Or.inl e)
  have no4 : o ≠ A 4 := fun e => hno (fg _ (e ▸ f4))
  have nog : o ≠ g := fun e => hno (fg _ (Or.inl e))
  refine ww_ow0 hz (fun ow0 => ?_)
  have na6 : a ≠ A 6 := fun e => (hd3 a (Or.inl rfl)).1 (Or.inr (Or.inr (Or.inr (Or.inr (Or.inr (Or.inr ⟨Or.inr (Or.inr (Or.inl e)), ow0 _ _ Ha⟩))))))
  have no6 : o ≠ A 6 := fun e => hno (fg _ (Or.inr (Or.inr (Or.inr (Or.inr (Or.inr (Or.inr ⟨Or.inr (Or.inr (Or.inl e)), ow0 _ _ Ho⟩)))))))
  have na8 : a ≠ A 8 := fun e => (hd3 a (Or.inl rfl)).1 (Or.inr (Or.inr (Or.inr (Or.inr (Or.inr (Or.inr ⟨Or.inr (Or.inr (Or.inr e)), ow0 _ _ Ha⟩))))))
  have no8 : o ≠ A 8 := fun e => hno (fg _ (Or.inr (Or.inr (Or.inr (Or.inr (Or.inr (Or.inr ⟨Or.inr (Or.inr (Or.inr e)), ow0 _ _ Ho⟩)))))))
  refine ww_lv (lv' := [(4, .int (nI i)), (3, .ref o), (2, .ref (Dm 0)), (1, .ref a), (0, .ref b)]) rfl ?_
  show WW X P z h kc ns 570 [(4, .int (nI i)), (3, .ref o), (2, .ref (Dm 0)), (1, .ref a), (0, .ref b)] []
  refine ww_aload_n C dL_law_570 rfl 3 rfl rfl ?_
  refine ww_aload_n C dL_law_571 rfl 4 rfl rfl ?_
  refine ww_iload C dL_law_572 0 rfl ?_
  refine ww_iconst C dL_law_574 cI_1 ?_
  refine ww_iaddn C dL_law_575 ?_
  refine ww_sld (j := (i + 1)) C hs hbs (by omega) (by omega) dL_law_576 ?_
  refine ww_aload_n C dL_law_577 rfl 1 rfl rfl ?_
  refine cs_X0_152_q (As := [.ref a, .int (xs (i + 1)), .ref o]) (rest := []) C dL_law_578 (ct_X0_tileAt (Cx.fl C) (Cx.ok C) hz (Or.inl Ha) hG hB Ho) rfl rfl (Nat.le_of_ble_eq_true rfl) (by omega) (by omega) (by omega) (fun v7 z7 k7 q7 => ?_)
  obtain ⟨hv7, hz7, f7, hE7, hf7⟩ := q7; replace hz7 := hz7.symm; subst hz7; subst hv7
  refine ww_le (kc' := kc - 9390) (ns' := ns - 113000) (by omega) (by omega) ?_
  have hFo : ∀ q, q ≠ o → k7 q = h q := fun q hq => by rw [hE7, up_n hq]
  have Ho7 : k7 o = some (cOu (xG X) f7) := by rw [hE7]; exact up_s
  refine ww_istore (lv' := [(5, .int (nI (aTil B (xs (i + 1))).2)), (4, .int (nI i)), (3, .ref o), (2, .ref (Dm 0)), (1, .ref a), (0, .ref b)]) C dL_law_581 (by decide) rfl ?_
  refine ww_aload_n C dL_law_583 rfl 3 rfl rfl ?_
  refine ww_aload_n C dL_law_584 rfl 5 rfl rfl ?_
  refine ww_iload C dL_law_585 1 rfl ?_
  refine ww_iconst C dL_law_587 cI_1 ?_
  refine ww_iaddn C dL_law_588 ?_
  refine ww_sld (j := (i + 1)) C hs hbs (by omega) (by omega) dL_law_589 ?_
  have hXa : Mx (xG X) k7 Dm M := ⟨fun j hj => by rw [hFo _ (hdj j hj).2]; exact hX.1 j hj, hX.2⟩
  refine cv_X0_154_q (As := [.int (xs (i + 1))]) (rest := []) C dL_law_590 (ct_X4_tileAt (Cx.fl C) (Cx.ok C) hz hXa hb hC) (rc_X4 (Cx.ok C) (Or.inl hXa.m)) rfl rfl (Nat.le_of_ble_eq_true rfl) (by omega) (Nat.zero_le _) (Nat.zero_le _) (fun v8 z8 k8 q8 => ?_)
  obtain ⟨hv8, hz8, M8, hg8, ht8, hX8, hF8⟩ := q8; replace hz8 := hz8.symm; subst hz8; subst hv8
  have hI8 : LwI (xG X) z k8 a (Dm 0) o := LwI.rd hCo hb hT hrn hV her hdj hno hFo Ho7 hg8 hX8 hF8
  have Ho8 : k8 o = some (.inl (gA (xG X) 2, (1, .inr (.inl f7)))) := by rw [hF8 o (fun i hi => ((hdj i hi).2).symm)]; exact Ho7
  refine ww_istore (lv' := [(6, .int ((aTil B (xs (i + 1))).1)), (5, .int (nI (aTil B (xs (i + 1))).2)), (4, .int (nI i)), (3, .ref o), (2, .ref (Dm 0)), (1, .ref a), (0, .ref b)]) C dL_law_593 (by decide) rfl ?_
  refine ww_aload_n C dL_law_595 rfl 4 rfl rfl ?_
  refine cv_X0_97_r (As := []) (rest := []) C dL_law_596 (ct_X4_thrown (Cx.fl C) (Cx.ok C) hX8.m) (rc_X4 (Cx.ok C) (Or.inl hX8.m)) rfl rfl (Nat.le_of_ble_eq_true rfl) (by omega) (Nat.zero_le _) (Nat.zero_le _) ?_
  refine ww_iload C dL_law_599 1 rfl ?_
  refine ww_icmp_eq_t (tgt := 606) C dL_law_601 (by decide) ht8 ?_
  refine ww_iload C dL_law_606 1 rfl ?_
  refine ww_if_ne (tgt := 623) C dL_law_608 (by decide) (fun c_608 => ?_) (fun c_608 => ?_)
  · skip
    refine ww_goto (tgt := 1827) C dL_law_623 (by decide) ?_
    refine ww_sub [2, 3, 4, 5, 6] rfl ?_
    exact ww_le (by omega) (by omega) (kk _ _ hz hI8)
  · skip
    have c9 : nI (aTil B (xs (i + 1))).2 = 0 := by first | exact c_608 | (exact Decidable.not_not.mp c_608)
    have hq0 : (aTil B (xs (i + 1))).2 = 0 := aTil_z c9
    have hf0 := hf7 hq0
    refine ww_aload_n C dL_law_611 rfl 3 rfl rfl ?_
    refine ww_iconst C dL_law_612 cI_0 ?_
    refine ww_lald C dL_law_613 (Or.inl Ho8) (by decide) (by decide) ?_
    refine ww_iload C dL_law_614 0 rfl ?_
    refine ww_i2l C dL_law_616 rfl ?_
    refine ww_lcmp C dL_law_617 ?_
    refine ww_if_eq_t (tgt := 623) C dL_law_618 (by decide) (by rw [hf0]; exact cmp_s _) ?_
    refine ww_goto (tgt := 1827) C dL_law_623 (by decide) ?_
    refine ww_sub [2, 3, 4, 5, 6] rfl ?_
    exact ww_le (by omega) (by omega) (kk _ _ hz hI8)
set_option maxHeartbeats 2000000 in
theorem lwc_15 {X : XT} {P : Oc → ZR → AH → Prop} {z : ZR} {h : AH} {kc ns d : Nat} {a m o b L i : Nat} {xs : Nat → Int32} (C : Cx X cL_law 9 "RingDominoLaw" "law" (some .boolean) [] d) (hd0 : 2100 ≤ d) (hz : zle (cst (xG X)) z) (hI : LwI (xG X) z h a m o) (hs : va_X b L xs (gS (xG X)) (gS (xG X)).heap) (hbs : b < gN (xG X)) (hi : i + 6 ≤ L) (hL : L ≤ 384) (hk : 9390 ≤ kc) (hn : 113000 ≤ ns) (kk : ∀ z' h', zle (cst (xG X)) z' → LwI (xG X) z' h' a m o → WW X P z' h' (kc - 9390) (ns - 113000) 1827 [(4, .int (nI i)), (3, .ref o), (2, .ref m), (1, .ref a), (0, .ref b)] []) : WW X P z h kc ns 626 [(4, .int (nI i)), (3, .ref o), (2, .ref m), (1, .ref a), (0, .ref b)] [] := by
  obtain ⟨tp, ba, g, ah, A, D, er, t, B, rn, T, Dm, M, f, hCo, hm, hX, hb, hT, hrn, hV, her, Ho, hdj, hno⟩ := hI
  subst hm
  obtain ⟨fb, G, dn, N, Ha, hTp, hTo, hM, hC, hS, hR, hG2, hN, hO, hAh, hd2, hd3⟩ := id hCo
  have hB := hC.1
  have hG := GmM.p hz hM
  have Ho : h o = some (.inl (gA (xG X) 2, (1, .inr (.inl f)))) := Ho
  have hzz := BO.z hB
  have hbt := hB.2.1
  have hto : ∀ q, fpC (xG X) a tp ba g ah A D q → q ≠ o := fun q f e => hno (e ▸ f)
  have fa : fpC (xG X) a tp ba g ah A D a := Or.inl rfl
  have fg : ∀ q, fpG (xG X) g A q → fpC (xG X) a tp ba g ah A D q := fun q f => Or.inr (Or.inr (Or.inr (Or.inl f)))
  have f4 : fpG (xG X) g A (A 4) := Or.inr (Or.inr (Or.inr (Or.inl rfl)))
  have na4 : a ≠ A 4 := fun e => (hd3 a (Or.inl rfl)).1 (e ▸ f4)
  have nag : a ≠ g := fun e => (hd3 a (Or.inl rfl)).1 (Or.inl e)
  have no4 : o ≠ A 4 := fun e => hno (fg _ (e ▸ f4))
  have nog : o ≠ g := fun e => hno (fg _ (Or.inl e))
  refine ww_ow0 hz (fun ow0 => ?_)
  have na6 : a ≠ A 6 := fun e => (hd3 a (Or.inl rfl)).1 (Or.inr (Or.inr (Or.inr (Or.inr (Or.inr (Or.inr ⟨Or.inr (Or.inr (Or.inl e)), ow0 _ _ Ha⟩))))))
  have no6 : o ≠ A 6 := fun e => hno (fg _ (Or.inr (Or.inr (Or.inr (Or.inr (Or.inr (Or.inr ⟨Or.inr (Or.inr (Or.inl e)), ow0 _ _ Ho⟩)))))))
  have na8 : a ≠ A 8 := fun e => (hd3 a (Or.inl rfl)).1 (Or.inr (Or.inr (Or.inr (Or.inr (Or.inr (Or.inr ⟨Or.inr (Or.inr (Or.inr e)), ow0 _ _ Ha⟩))))))
  have no8 : o ≠ A 8 := fun e => hno (fg _ (Or.inr (Or.inr (Or.inr (Or.inr (Or.inr (Or.inr ⟨Or.inr (Or.inr (Or.inr e)), ow0 _ _ Ho⟩)))))))
  refine ww_lv (lv' := [(4, .int (nI i)), (3, .ref o), (2, .ref (Dm 0)), (1, .ref a), (0, .ref b)]) rfl ?_
  show WW X P z h kc ns 626 [(4, .int (nI i)), (3, .ref o), (2, .ref (Dm 0)), (1, .ref a), (0, .ref b)] []
  refine ww_aload_n C dL_law_626 rfl 3 rfl rfl ?_
  refine ww_aload_n C dL_law_627 rfl 4 rfl rfl ?_
  refine ww_iload C dL_law_628 0 rfl ?_
  refine ww_iconst C dL_law_630 cI_1 ?_
  refine ww_iaddn C dL_law_631 ?_
  refine ww_sld (j := (i + 1)) C hs hbs (by omega) (by omega) dL_law_632 ?_
  refine ww_aload_n C dL_law_633 rfl 4 rfl rfl ?_
  refine ww_iload C dL_law_634 0 rfl ?_
  refine ww_iconst C dL_law_636 cI_2 ?_
  refine ww_iaddn C dL_law_637 ?_
  refine ww_sld (j := (i + 2)) C hs hbs (by omega) (by omega) dL_law_638 ?_
  refine ww_aload_n C dL_law_639 rfl 1 rfl rfl ?_
  refine cs_X0_155_q (As := [.ref a, .int (xs (i + 1)), .int (xs (i + 2)), .ref o]) (rest := []) C dL_law_640 (ct_X0_numberAt (Cx.fl C) (Cx.ok C) hz (Or.inl Ha) hG hB Ho) rfl rfl (Nat.le_of_ble_eq_true rfl) (by omega) (by omega) (by omega) (fun v7 z7 k7 q7 => ?_)
  obtain ⟨hv7, hz7, f7, hE7, hf7⟩ := q7; replace hz7 := hz7.symm; subst hz7; subst hv7
  refine ww_le (kc' := kc - 9390) (ns' := ns - 113000) (by omega) (by omega) ?_
  have hFo : ∀ q, q ≠ o → k7 q = h q := fun q hq => by rw [hE7, up_n hq]
  have Ho7 : k7 o = some (cOu (xG X) f7) := by rw [hE7]; exact up_s
  refine ww_istore (lv' := [(5, .int (nI (aNum B (xs (i + 1)) (xs (i + 2))).2)), (4, .int (nI i)), (3, .ref o), (2, .ref (Dm 0)), (1, .ref a), (0, .ref b)]) C dL_law_643 (by decide) rfl ?_
  refine ww_aload_n C dL_law_645 rfl 3 rfl rfl ?_
  refine ww_aload_n C dL_law_646 rfl 5 rfl rfl ?_
  refine ww_iload C dL_law_647 1 rfl ?_
  refine ww_iconst C dL_law_649 cI_1 ?_
  refine ww_iaddn C dL_law_650 ?_
  refine ww_sld (j := (i + 1)) C hs hbs (by omega) (by omega) dL_law_651 ?_
  refine ww_aload_n C dL_law_652 rfl 5 rfl rfl ?_
  refine ww_iload C dL_law_653 1 rfl ?_
  refine ww_iconst C dL_law_655 cI_2 ?_
  refine ww_iaddn C dL_law_656 ?_
  refine ww_sld (j := (i + 2)) C hs hbs (by omega) (by omega) dL_law_657 ?_
  have hXa : Mx (xG X) k7 Dm M := ⟨fun j hj => by rw [hFo _ (hdj j hj).2]; exact hX.1 j hj, hX.2⟩
  refine cv_X0_158_q (As := [.int (xs (i + 1)), .int (xs (i + 2))]) (rest := []) C dL_law_658 (ct_X4_numberAt_2 (Cx.fl C) (Cx.ok C) hz hXa hb hC) (rc_X4 (Cx.ok C) (Or.inl hXa.m)) rfl rfl (Nat.le_of_ble_eq_true rfl) (by omega) (Nat.zero_le _) (Nat.zero_le _) (fun v8 z8 k8 q8 => ?_)
  obtain ⟨hv8, hz8, M8, hg8, ht8, hX8, hF8⟩ := q8; replace hz8 := hz8.symm; subst hz8; subst hv8
  have hI8 : LwI (xG X) z k8 a (Dm 0) o := LwI.rd hCo hb hT hrn hV her hdj hno hFo Ho7 hg8 hX8 hF8
  have Ho8 : k8 o = some (.inl (gA (xG X) 2, (1, .inr (.inl f7)))) := by rw [hF8 o (fun i hi => ((hdj i hi).2).symm)]; exact Ho7
  refine ww_istore (lv' := [(6, .int ((aNum B (xs (i + 1)) (xs (i + 2))).1)), (5, .int (nI (aNum B (xs (i + 1)) (xs (i + 2))).2)), (4, .int (nI i)), (3, .ref o), (2, .ref (Dm 0)), (1, .ref a), (0, .ref b)]) C dL_law_661 (by decide) rfl ?_
  refine ww_aload_n C dL_law_663 rfl 4 rfl rfl ?_
  refine cv_X0_97_r (As := []) (rest := []) C dL_law_664 (ct_X4_thrown (Cx.fl C) (Cx.ok C) hX8.m) (rc_X4 (Cx.ok C) (Or.inl hX8.m)) rfl rfl (Nat.le_of_ble_eq_true rfl) (by omega) (Nat.zero_le _) (Nat.zero_le _) ?_
  refine ww_iload C dL_law_667 1 rfl ?_
  refine ww_icmp_eq_t (tgt := 674) C dL_law_669 (by decide) ht8 ?_
  refine ww_iload C dL_law_674 1 rfl ?_
  refine ww_if_ne (tgt := 691) C dL_law_676 (by decide) (fun c_676 => ?_) (fun c_676 => ?_)
  · skip
    refine ww_goto (tgt := 1827) C dL_law_691 (by decide) ?_
    refine ww_sub [2, 3, 4, 5, 6] rfl ?_
    exact ww_le (by omega) (by omega) (kk _ _ hz hI8)
  · skip
    have c9 : nI (aNum B (xs (i + 1)) (xs (i + 2))).2 = 0 := by first | exact c_676 | (exact Decidable.not_not.mp c_676)
    have hq0 : (aNum B (xs (i + 1)) (xs (i + 2))).2 = 0 := aNum_z c9
    have hf0 := hf7 hq0
    refine ww_aload_n C dL_law_679 rfl 3 rfl rfl ?_
    refine ww_iconst C dL_law_680 cI_0 ?_
    refine ww_lald C dL_law_681 (Or.inl Ho8) (by decide) (by decide) ?_
    refine ww_iload C dL_law_682 0 rfl ?_
    refine ww_i2l C dL_law_684 rfl ?_
    refine ww_lcmp C dL_law_685 ?_
    refine ww_if_eq_t (tgt := 691) C dL_law_686 (by decide) (by rw [hf0]; exact cmp_s _) ?_
    refine ww_goto (tgt := 1827) C dL_law_691 (by decide) ?_
    refine ww_sub [2, 3, 4, 5, 6] rfl ?_
    exact ww_le (by omega) (by omega) (kk _ _ hz hI8)
set_option maxHeartbeats 2000000 in
theorem lwc_16 {X : XT} {P : Oc → ZR → AH → Prop} {z : ZR} {h : AH} {kc ns d : Nat} {a m o b L i : Nat} {xs : Nat → Int32} (C : Cx X cL_law 9 "RingDominoLaw" "law" (some .boolean) [] d) (hd0 : 2100 ≤ d) (hz : zle (cst (xG X)) z) (hI : LwI (xG X) z h a m o) (hs : va_X b L xs (gS (xG X)) (gS (xG X)).heap) (hbs : b < gN (xG X)) (hi : i + 6 ≤ L) (hL : L ≤ 384) (hk : 9390 ≤ kc) (hn : 113000 ≤ ns) (kk : ∀ z' h', zle (cst (xG X)) z' → LwI (xG X) z' h' a m o → WW X P z' h' (kc - 9390) (ns - 113000) 1827 [(4, .int (nI i)), (3, .ref o), (2, .ref m), (1, .ref a), (0, .ref b)] []) : WW X P z h kc ns 694 [(4, .int (nI i)), (3, .ref o), (2, .ref m), (1, .ref a), (0, .ref b)] [] := by
  obtain ⟨tp, ba, g, ah, A, D, er, t, B, rn, T, Dm, M, f, hCo, hm, hX, hb, hT, hrn, hV, her, Ho, hdj, hno⟩ := hI
  subst hm
  obtain ⟨fb, G, dn, N, Ha, hTp, hTo, hM, hC, hS, hR, hG2, hN, hO, hAh, hd2, hd3⟩ := id hCo
  have hB := hC.1
  have hG := GmM.p hz hM
  have Ho : h o = some (.inl (gA (xG X) 2, (1, .inr (.inl f)))) := Ho
  have hzz := BO.z hB
  have hbt := hB.2.1
  have hto : ∀ q, fpC (xG X) a tp ba g ah A D q → q ≠ o := fun q f e => hno (e ▸ f)
  have fa : fpC (xG X) a tp ba g ah A D a := Or.inl rfl
  have fg : ∀ q, fpG (xG X) g A q → fpC (xG X) a tp ba g ah A D q := fun q f => Or.inr (Or.inr (Or.inr (Or.inl f)))
  have f4 : fpG (xG X) g A (A 4) := Or.inr (Or.inr (Or.inr (Or.inl rfl)))
  have na4 : a ≠ A 4 := fun e => (hd3 a (Or.inl rfl)).1 (e ▸ f4)
  have nag : a ≠ g := fun e => (hd3 a (Or.inl rfl)).1 (Or.inl e)
  have no4 : o ≠ A 4 := fun e => hno (fg _ (e ▸ f4))
  have nog : o ≠ g := fun e => hno (fg _ (Or.inl e))
  refine ww_ow0 hz (fun ow0 => ?_)
  have na6 : a ≠ A 6 := fun e => (hd3 a (Or.inl rfl)).1 (Or.inr (Or.inr (Or.inr (Or.inr (Or.inr (Or.inr ⟨Or.inr (Or.inr (Or.inl e)), ow0 _ _ Ha⟩))))))
  have no6 : o ≠ A 6 := fun e => hno (fg _ (Or.inr (Or.inr (Or.inr (Or.inr (Or.inr (Or.inr ⟨Or.inr (Or.inr (Or.inl e)), ow0 _ _ Ho⟩)))))))
  have na8 : a ≠ A 8 := fun e => (hd3 a (Or.inl rfl)).1 (Or.inr (Or.inr (Or.inr (Or.inr (Or.inr (Or.inr ⟨Or.inr (Or.inr (Or.inr e)), ow0 _ _ Ha⟩))))))
  have no8 : o ≠ A 8 := fun e => hno (fg _ (Or.inr (Or.inr (Or.inr (Or.inr (Or.inr (Or.inr ⟨Or.inr (Or.inr (Or.inr e)), ow0 _ _ Ho⟩)))))))
  refine ww_lv (lv' := [(4, .int (nI i)), (3, .ref o), (2, .ref (Dm 0)), (1, .ref a), (0, .ref b)]) rfl ?_
  show WW X P z h kc ns 694 [(4, .int (nI i)), (3, .ref o), (2, .ref (Dm 0)), (1, .ref a), (0, .ref b)] []
  refine ww_aload_n C dL_law_694 rfl 3 rfl rfl ?_
  refine ww_aload_n C dL_law_695 rfl 4 rfl rfl ?_
  refine ww_iload C dL_law_696 0 rfl ?_
  refine ww_iconst C dL_law_698 cI_1 ?_
  refine ww_iaddn C dL_law_699 ?_
  refine ww_sld (j := (i + 1)) C hs hbs (by omega) (by omega) dL_law_700 ?_
  refine ww_aload_n C dL_law_701 rfl 1 rfl rfl ?_
  refine cs_X0_159_q (As := [.ref a, .int (xs (i + 1)), .ref o]) (rest := []) C dL_law_702 (ct_X0_matchesOf (Cx.fl C) (Cx.ok C) hz (Or.inl Ha) hG hB Ho) rfl rfl (Nat.le_of_ble_eq_true rfl) (by omega) (by omega) (by omega) (fun v7 z7 k7 q7 => ?_)
  obtain ⟨hv7, hz7, f7, hE7, hf7⟩ := q7; replace hz7 := hz7.symm; subst hz7; subst hv7
  refine ww_le (kc' := kc - 9390) (ns' := ns - 113000) (by omega) (by omega) ?_
  have hFo : ∀ q, q ≠ o → k7 q = h q := fun q hq => by rw [hE7, up_n hq]
  have Ho7 : k7 o = some (cOu (xG X) f7) := by rw [hE7]; exact up_s
  refine ww_istore (lv' := [(5, .int (nI (aMaO B (xs (i + 1))).2)), (4, .int (nI i)), (3, .ref o), (2, .ref (Dm 0)), (1, .ref a), (0, .ref b)]) C dL_law_705 (by decide) rfl ?_
  refine ww_aload_n C dL_law_707 rfl 3 rfl rfl ?_
  refine ww_aload_n C dL_law_708 rfl 5 rfl rfl ?_
  refine ww_iload C dL_law_709 1 rfl ?_
  refine ww_iconst C dL_law_711 cI_1 ?_
  refine ww_iaddn C dL_law_712 ?_
  refine ww_sld (j := (i + 1)) C hs hbs (by omega) (by omega) dL_law_713 ?_
  have hXa : Mx (xG X) k7 Dm M := ⟨fun j hj => by rw [hFo _ (hdj j hj).2]; exact hX.1 j hj, hX.2⟩
  refine cv_X0_161_q (As := [.int (xs (i + 1))]) (rest := []) C dL_law_714 (ct_X4_matchesOf (Cx.fl C) (Cx.ok C) hz hXa hb hC) (rc_X4 (Cx.ok C) (Or.inl hXa.m)) rfl rfl (Nat.le_of_ble_eq_true rfl) (by omega) (Nat.zero_le _) (Nat.zero_le _) (fun v8 z8 k8 q8 => ?_)
  obtain ⟨hv8, hz8, M8, hg8, ht8, hX8, hF8⟩ := q8; replace hz8 := hz8.symm; subst hz8; subst hv8
  have hI8 : LwI (xG X) z k8 a (Dm 0) o := LwI.rd hCo hb hT hrn hV her hdj hno hFo Ho7 hg8 hX8 hF8
  have Ho8 : k8 o = some (.inl (gA (xG X) 2, (1, .inr (.inl f7)))) := by rw [hF8 o (fun i hi => ((hdj i hi).2).symm)]; exact Ho7
  refine ww_istore (lv' := [(6, .int ((aMaO B (xs (i + 1))).1)), (5, .int (nI (aMaO B (xs (i + 1))).2)), (4, .int (nI i)), (3, .ref o), (2, .ref (Dm 0)), (1, .ref a), (0, .ref b)]) C dL_law_717 (by decide) rfl ?_
  refine ww_aload_n C dL_law_719 rfl 4 rfl rfl ?_
  refine cv_X0_97_r (As := []) (rest := []) C dL_law_720 (ct_X4_thrown (Cx.fl C) (Cx.ok C) hX8.m) (rc_X4 (Cx.ok C) (Or.inl hX8.m)) rfl rfl (Nat.le_of_ble_eq_true rfl) (by omega) (Nat.zero_le _) (Nat.zero_le _) ?_
  refine ww_iload C dL_law_723 1 rfl ?_
  refine ww_icmp_eq_t (tgt := 730) C dL_law_725 (by decide) ht8 ?_
  refine ww_iload C dL_law_730 1 rfl ?_
  refine ww_if_ne (tgt := 747) C dL_law_732 (by decide) (fun c_732 => ?_) (fun c_732 => ?_)
  · skip
    refine ww_goto (tgt := 1827) C dL_law_747 (by decide) ?_
    refine ww_sub [2, 3, 4, 5, 6] rfl ?_
    exact ww_le (by omega) (by omega) (kk _ _ hz hI8)
  · skip
    have c9 : nI (aMaO B (xs (i + 1))).2 = 0 := by first | exact c_732 | (exact Decidable.not_not.mp c_732)
    have hq0 : (aMaO B (xs (i + 1))).2 = 0 := aMaO_z c9
    have hf0 := hf7 hq0
    refine ww_aload_n C dL_law_735 rfl 3 rfl rfl ?_
    refine ww_iconst C dL_law_736 cI_0 ?_
    refine ww_lald C dL_law_737 (Or.inl Ho8) (by decide) (by decide) ?_
    refine ww_iload C dL_law_738 0 rfl ?_
    refine ww_i2l C dL_law_740 rfl ?_
    refine ww_lcmp C dL_law_741 ?_
    refine ww_if_eq_t (tgt := 747) C dL_law_742 (by decide) (by rw [hf0]; exact cmp_s _) ?_
    refine ww_goto (tgt := 1827) C dL_law_747 (by decide) ?_
    refine ww_sub [2, 3, 4, 5, 6] rfl ?_
    exact ww_le (by omega) (by omega) (kk _ _ hz hI8)
set_option maxHeartbeats 2000000 in
theorem lwc_17 {X : XT} {P : Oc → ZR → AH → Prop} {z : ZR} {h : AH} {kc ns d : Nat} {a m o b L i : Nat} {xs : Nat → Int32} (C : Cx X cL_law 9 "RingDominoLaw" "law" (some .boolean) [] d) (hd0 : 2100 ≤ d) (hz : zle (cst (xG X)) z) (hI : LwI (xG X) z h a m o) (hs : va_X b L xs (gS (xG X)) (gS (xG X)).heap) (hbs : b < gN (xG X)) (hi : i + 6 ≤ L) (hL : L ≤ 384) (hk : 9390 ≤ kc) (hn : 113000 ≤ ns) (kk : ∀ z' h', zle (cst (xG X)) z' → LwI (xG X) z' h' a m o → WW X P z' h' (kc - 9390) (ns - 113000) 1827 [(4, .int (nI i)), (3, .ref o), (2, .ref m), (1, .ref a), (0, .ref b)] []) : WW X P z h kc ns 750 [(4, .int (nI i)), (3, .ref o), (2, .ref m), (1, .ref a), (0, .ref b)] [] := by
  obtain ⟨tp, ba, g, ah, A, D, er, t, B, rn, T, Dm, M, f, hCo, hm, hX, hb, hT, hrn, hV, her, Ho, hdj, hno⟩ := hI
  subst hm
  obtain ⟨fb, G, dn, N, Ha, hTp, hTo, hM, hC, hS, hR, hG2, hN, hO, hAh, hd2, hd3⟩ := id hCo
  have hB := hC.1
  have hG := GmM.p hz hM
  have Ho : h o = some (.inl (gA (xG X) 2, (1, .inr (.inl f)))) := Ho
  have hzz := BO.z hB
  have hbt := hB.2.1
  have hto : ∀ q, fpC (xG X) a tp ba g ah A D q → q ≠ o := fun q f e => hno (e ▸ f)
  have fa : fpC (xG X) a tp ba g ah A D a := Or.inl rfl
  have fg : ∀ q, fpG (xG X) g A q → fpC (xG X) a tp ba g ah A D q := fun q f => Or.inr (Or.inr (Or.inr (Or.inl f)))
  have f4 : fpG (xG X) g A (A 4) := Or.inr (Or.inr (Or.inr (Or.inl rfl)))
  have na4 : a ≠ A 4 := fun e => (hd3 a (Or.inl rfl)).1 (e ▸ f4)
  have nag : a ≠ g := fun e => (hd3 a (Or.inl rfl)).1 (Or.inl e)
  have no4 : o ≠ A 4 := fun e => hno (fg _ (e ▸ f4))
  have nog : o ≠ g := fun e => hno (fg _ (Or.inl e))
  refine ww_ow0 hz (fun ow0 => ?_)
  have na6 : a ≠ A 6 := fun e => (hd3 a (Or.inl rfl)).1 (Or.inr (Or.inr (Or.inr (Or.inr (Or.inr (Or.inr ⟨Or.inr (Or.inr (Or.inl e)), ow0 _ _ Ha⟩))))))
  have no6 : o ≠ A 6 := fun e => hno (fg _ (Or.inr (Or.inr (Or.inr (Or.inr (Or.inr (Or.inr ⟨Or.inr (Or.inr (Or.inl e)), ow0 _ _ Ho⟩)))))))
  have na8 : a ≠ A 8 := fun e => (hd3 a (Or.inl rfl)).1 (Or.inr (Or.inr (Or.inr (Or.inr (Or.inr (Or.inr ⟨Or.inr (Or.inr (Or.inr e)), ow0 _ _ Ha⟩))))))
  have no8 : o ≠ A 8 := fun e => hno (fg _ (Or.inr (Or.inr (Or.inr (Or.inr (Or.inr (Or.inr ⟨Or.inr (Or.inr (Or.inr e)), ow0 _ _ Ho⟩)))))))
  refine ww_lv (lv' := [(4, .int (nI i)), (3, .ref o), (2, .ref (Dm 0)), (1, .ref a), (0, .ref b)]) rfl ?_
  show WW X P z h kc ns 750 [(4, .int (nI i)), (3, .ref o), (2, .ref (Dm 0)), (1, .ref a), (0, .ref b)] []
  refine ww_aload_n C dL_law_750 rfl 3 rfl rfl ?_
  refine ww_aload_n C dL_law_751 rfl 4 rfl rfl ?_
  refine ww_iload C dL_law_752 0 rfl ?_
  refine ww_iconst C dL_law_754 cI_1 ?_
  refine ww_iaddn C dL_law_755 ?_
  refine ww_sld (j := (i + 1)) C hs hbs (by omega) (by omega) dL_law_756 ?_
  refine ww_aload_n C dL_law_757 rfl 1 rfl rfl ?_
  refine cs_X0_162_q (As := [.ref a, .int (xs (i + 1)), .ref o]) (rest := []) C dL_law_758 (ct_X0_isRing (Cx.fl C) (Cx.ok C) hz (Or.inl Ha) hG hB Ho) rfl rfl (Nat.le_of_ble_eq_true rfl) (by omega) (by omega) (by omega) (fun v7 z7 k7 q7 => ?_)
  obtain ⟨hv7, hz7, f7, hE7, hf7⟩ := q7; replace hz7 := hz7.symm; subst hz7; subst hv7
  refine ww_le (kc' := kc - 9390) (ns' := ns - 113000) (by omega) (by omega) ?_
  have hFo : ∀ q, q ≠ o → k7 q = h q := fun q hq => by rw [hE7, up_n hq]
  have Ho7 : k7 o = some (cOu (xG X) f7) := by rw [hE7]; exact up_s
  refine ww_istore (lv' := [(5, .int (nI (aRin B (xs (i + 1))).2)), (4, .int (nI i)), (3, .ref o), (2, .ref (Dm 0)), (1, .ref a), (0, .ref b)]) C dL_law_761 (by decide) rfl ?_
  refine ww_aload_n C dL_law_763 rfl 3 rfl rfl ?_
  refine ww_aload_n C dL_law_764 rfl 5 rfl rfl ?_
  refine ww_iload C dL_law_765 1 rfl ?_
  refine ww_iconst C dL_law_767 cI_1 ?_
  refine ww_iaddn C dL_law_768 ?_
  refine ww_sld (j := (i + 1)) C hs hbs (by omega) (by omega) dL_law_769 ?_
  have hXa : Mx (xG X) k7 Dm M := ⟨fun j hj => by rw [hFo _ (hdj j hj).2]; exact hX.1 j hj, hX.2⟩
  refine cv_X0_164_q (As := [.int (xs (i + 1))]) (rest := []) C dL_law_770 (ct_X4_isRing (Cx.fl C) (Cx.ok C) hz hXa hb hC) (rc_X4 (Cx.ok C) (Or.inl hXa.m)) rfl rfl (Nat.le_of_ble_eq_true rfl) (by omega) (Nat.zero_le _) (Nat.zero_le _) (fun v8 z8 k8 q8 => ?_)
  obtain ⟨hv8, hz8, M8, hg8, ht8, hX8, hF8⟩ := q8; replace hz8 := hz8.symm; subst hz8; subst hv8
  have hI8 : LwI (xG X) z k8 a (Dm 0) o := LwI.rd hCo hb hT hrn hV her hdj hno hFo Ho7 hg8 hX8 hF8
  have Ho8 : k8 o = some (.inl (gA (xG X) 2, (1, .inr (.inl f7)))) := by rw [hF8 o (fun i hi => ((hdj i hi).2).symm)]; exact Ho7
  refine ww_istore (lv' := [(6, .int ((aRin B (xs (i + 1))).1)), (5, .int (nI (aRin B (xs (i + 1))).2)), (4, .int (nI i)), (3, .ref o), (2, .ref (Dm 0)), (1, .ref a), (0, .ref b)]) C dL_law_773 (by decide) rfl ?_
  refine ww_aload_n C dL_law_775 rfl 4 rfl rfl ?_
  refine cv_X0_97_r (As := []) (rest := []) C dL_law_776 (ct_X4_thrown (Cx.fl C) (Cx.ok C) hX8.m) (rc_X4 (Cx.ok C) (Or.inl hX8.m)) rfl rfl (Nat.le_of_ble_eq_true rfl) (by omega) (Nat.zero_le _) (Nat.zero_le _) ?_
  refine ww_iload C dL_law_779 1 rfl ?_
  refine ww_icmp_eq_t (tgt := 786) C dL_law_781 (by decide) ht8 ?_
  refine ww_iload C dL_law_786 1 rfl ?_
  refine ww_if_ne (tgt := 810) C dL_law_788 (by decide) (fun c_788 => ?_) (fun c_788 => ?_)
  · skip
    refine ww_goto (tgt := 1827) C dL_law_810 (by decide) ?_
    refine ww_sub [2, 3, 4, 5, 6] rfl ?_
    exact ww_le (by omega) (by omega) (kk _ _ hz hI8)
  · skip
    have c9 : nI (aRin B (xs (i + 1))).2 = 0 := by first | exact c_788 | (exact Decidable.not_not.mp c_788)
    have hq0 : (aRin B (xs (i + 1))).2 = 0 := aRin_z c9
    have hf0 := hf7 hq0
    obtain ⟨b9, hb9⟩ := aRin_b B (xs (i + 1))
    refine ww_aload_n C dL_law_791 rfl 3 rfl rfl ?_
    refine ww_iconst C dL_law_792 cI_0 ?_
    refine ww_lald C dL_law_793 (Or.inl Ho8) (by decide) (by decide) ?_
    refine ww_iload C dL_law_794 0 rfl ?_
    refine ww_if_eq (tgt := 803) C dL_law_796 (by decide) (fun c_796 => ?_) (fun c_796 => ?_)
    · skip
      have c8 := c_796; rw [hb9] at c8
      have e8 : ((aRin B (xs (i + 1)))).1.toInt64 = (0 : Int64) := by rw [hb9]; exact bI_640 c8
      refine ww_lconst (v := 0) C dL_law_803 rfl ?_
      refine ww_lcmp C dL_law_804 ?_
      refine ww_if_eq_t (tgt := 810) C dL_law_805 (by decide) (by rw [hf0, e8]; exact cmp_s _) ?_
      refine ww_goto (tgt := 1827) C dL_law_810 (by decide) ?_
      refine ww_sub [2, 3, 4, 5, 6] rfl ?_
      exact ww_le (by omega) (by omega) (kk _ _ hz hI8)
    · skip
      have c8 := c_796; rw [hb9] at c8
      have e8 : ((aRin B (xs (i + 1)))).1.toInt64 = (1 : Int64) := by rw [hb9]; exact bI_64 c8
      refine ww_lconst (v := 1) C dL_law_799 rfl ?_
      refine ww_goto (tgt := 804) C dL_law_800 (by decide) ?_
      refine ww_lcmp C dL_law_804 ?_
      refine ww_if_eq_t (tgt := 810) C dL_law_805 (by decide) (by rw [hf0, e8]; exact cmp_s _) ?_
      refine ww_goto (tgt := 1827) C dL_law_810 (by decide) ?_
      refine ww_sub [2, 3, 4, 5, 6] rfl ?_
      exact ww_le (by omega) (by omega) (kk _ _ hz hI8)
set_option maxHeartbeats 2000000 in
theorem lwc_18 {X : XT} {P : Oc → ZR → AH → Prop} {z : ZR} {h : AH} {kc ns d : Nat} {a m o b L i : Nat} {xs : Nat → Int32} (C : Cx X cL_law 9 "RingDominoLaw" "law" (some .boolean) [] d) (hd0 : 2100 ≤ d) (hz : zle (cst (xG X)) z) (hI : LwI (xG X) z h a m o) (hs : va_X b L xs (gS (xG X)) (gS (xG X)).heap) (hbs : b < gN (xG X)) (hi : i + 6 ≤ L) (hL : L ≤ 384) (hk : 9390 ≤ kc) (hn : 113000 ≤ ns) (kk : ∀ z' h', zle (cst (xG X)) z' → LwI (xG X) z' h' a m o → WW X P z' h' (kc - 9390) (ns - 113000) 1827 [(4, .int (nI i)), (3, .ref o), (2, .ref m), (1, .ref a), (0, .ref b)] []) : WW X P z h kc ns 813 [(4, .int (nI i)), (3, .ref o), (2, .ref m), (1, .ref a), (0, .ref b)] [] := by
  obtain ⟨tp, ba, g, ah, A, D, er, t, B, rn, T, Dm, M, f, hCo, hm, hX, hb, hT, hrn, hV, her, Ho, hdj, hno⟩ := hI
  subst hm
  obtain ⟨fb, G, dn, N, Ha, hTp, hTo, hM, hC, hS, hR, hG2, hN, hO, hAh, hd2, hd3⟩ := id hCo
  have hB := hC.1
  have hG := GmM.p hz hM
  have Ho : h o = some (.inl (gA (xG X) 2, (1, .inr (.inl f)))) := Ho
  have hzz := BO.z hB
  have hbt := hB.2.1
  have hto : ∀ q, fpC (xG X) a tp ba g ah A D q → q ≠ o := fun q f e => hno (e ▸ f)
  have fa : fpC (xG X) a tp ba g ah A D a := Or.inl rfl
  have fg : ∀ q, fpG (xG X) g A q → fpC (xG X) a tp ba g ah A D q := fun q f => Or.inr (Or.inr (Or.inr (Or.inl f)))
  have f4 : fpG (xG X) g A (A 4) := Or.inr (Or.inr (Or.inr (Or.inl rfl)))
  have na4 : a ≠ A 4 := fun e => (hd3 a (Or.inl rfl)).1 (e ▸ f4)
  have nag : a ≠ g := fun e => (hd3 a (Or.inl rfl)).1 (Or.inl e)
  have no4 : o ≠ A 4 := fun e => hno (fg _ (e ▸ f4))
  have nog : o ≠ g := fun e => hno (fg _ (Or.inl e))
  refine ww_ow0 hz (fun ow0 => ?_)
  have na6 : a ≠ A 6 := fun e => (hd3 a (Or.inl rfl)).1 (Or.inr (Or.inr (Or.inr (Or.inr (Or.inr (Or.inr ⟨Or.inr (Or.inr (Or.inl e)), ow0 _ _ Ha⟩))))))
  have no6 : o ≠ A 6 := fun e => hno (fg _ (Or.inr (Or.inr (Or.inr (Or.inr (Or.inr (Or.inr ⟨Or.inr (Or.inr (Or.inl e)), ow0 _ _ Ho⟩)))))))
  have na8 : a ≠ A 8 := fun e => (hd3 a (Or.inl rfl)).1 (Or.inr (Or.inr (Or.inr (Or.inr (Or.inr (Or.inr ⟨Or.inr (Or.inr (Or.inr e)), ow0 _ _ Ha⟩))))))
  have no8 : o ≠ A 8 := fun e => hno (fg _ (Or.inr (Or.inr (Or.inr (Or.inr (Or.inr (Or.inr ⟨Or.inr (Or.inr (Or.inr e)), ow0 _ _ Ho⟩)))))))
  refine ww_lv (lv' := [(4, .int (nI i)), (3, .ref o), (2, .ref (Dm 0)), (1, .ref a), (0, .ref b)]) rfl ?_
  show WW X P z h kc ns 813 [(4, .int (nI i)), (3, .ref o), (2, .ref (Dm 0)), (1, .ref a), (0, .ref b)] []
  refine ww_aload_n C dL_law_813 rfl 3 rfl rfl ?_
  refine ww_aload_n C dL_law_814 rfl 4 rfl rfl ?_
  refine ww_iload C dL_law_815 0 rfl ?_
  refine ww_iconst C dL_law_817 cI_1 ?_
  refine ww_iaddn C dL_law_818 ?_
  refine ww_sld (j := (i + 1)) C hs hbs (by omega) (by omega) dL_law_819 ?_
  refine ww_aload_n C dL_law_820 rfl 1 rfl rfl ?_
  refine cs_X0_165_q (As := [.ref a, .int (xs (i + 1)), .ref o]) (rest := []) C dL_law_821 (ct_X0_isPlaced (Cx.fl C) (Cx.ok C) hz (Or.inl Ha) hG hB Ho) rfl rfl (Nat.le_of_ble_eq_true rfl) (by omega) (by omega) (by omega) (fun v7 z7 k7 q7 => ?_)
  obtain ⟨hv7, hz7, f7, hE7, hf7⟩ := q7; replace hz7 := hz7.symm; subst hz7; subst hv7
  refine ww_le (kc' := kc - 9390) (ns' := ns - 113000) (by omega) (by omega) ?_
  have hFo : ∀ q, q ≠ o → k7 q = h q := fun q hq => by rw [hE7, up_n hq]
  have Ho7 : k7 o = some (cOu (xG X) f7) := by rw [hE7]; exact up_s
  refine ww_istore (lv' := [(5, .int (nI (aPla B (xs (i + 1))).2)), (4, .int (nI i)), (3, .ref o), (2, .ref (Dm 0)), (1, .ref a), (0, .ref b)]) C dL_law_824 (by decide) rfl ?_
  refine ww_aload_n C dL_law_826 rfl 3 rfl rfl ?_
  refine ww_aload_n C dL_law_827 rfl 5 rfl rfl ?_
  refine ww_iload C dL_law_828 1 rfl ?_
  refine ww_iconst C dL_law_830 cI_1 ?_
  refine ww_iaddn C dL_law_831 ?_
  refine ww_sld (j := (i + 1)) C hs hbs (by omega) (by omega) dL_law_832 ?_
  have hXa : Mx (xG X) k7 Dm M := ⟨fun j hj => by rw [hFo _ (hdj j hj).2]; exact hX.1 j hj, hX.2⟩
  refine cv_X0_167_q (As := [.int (xs (i + 1))]) (rest := []) C dL_law_833 (ct_X4_isPlaced (Cx.fl C) (Cx.ok C) hz hXa hb hC) (rc_X4 (Cx.ok C) (Or.inl hXa.m)) rfl rfl (Nat.le_of_ble_eq_true rfl) (by omega) (Nat.zero_le _) (Nat.zero_le _) (fun v8 z8 k8 q8 => ?_)
  obtain ⟨hv8, hz8, M8, hg8, ht8, hX8, hF8⟩ := q8; replace hz8 := hz8.symm; subst hz8; subst hv8
  have hI8 : LwI (xG X) z k8 a (Dm 0) o := LwI.rd hCo hb hT hrn hV her hdj hno hFo Ho7 hg8 hX8 hF8
  have Ho8 : k8 o = some (.inl (gA (xG X) 2, (1, .inr (.inl f7)))) := by rw [hF8 o (fun i hi => ((hdj i hi).2).symm)]; exact Ho7
  refine ww_istore (lv' := [(6, .int ((aPla B (xs (i + 1))).1)), (5, .int (nI (aPla B (xs (i + 1))).2)), (4, .int (nI i)), (3, .ref o), (2, .ref (Dm 0)), (1, .ref a), (0, .ref b)]) C dL_law_836 (by decide) rfl ?_
  refine ww_aload_n C dL_law_838 rfl 4 rfl rfl ?_
  refine cv_X0_97_r (As := []) (rest := []) C dL_law_839 (ct_X4_thrown (Cx.fl C) (Cx.ok C) hX8.m) (rc_X4 (Cx.ok C) (Or.inl hX8.m)) rfl rfl (Nat.le_of_ble_eq_true rfl) (by omega) (Nat.zero_le _) (Nat.zero_le _) ?_
  refine ww_iload C dL_law_842 1 rfl ?_
  refine ww_icmp_eq_t (tgt := 849) C dL_law_844 (by decide) ht8 ?_
  refine ww_iload C dL_law_849 1 rfl ?_
  refine ww_if_ne (tgt := 873) C dL_law_851 (by decide) (fun c_851 => ?_) (fun c_851 => ?_)
  · skip
    refine ww_goto (tgt := 1827) C dL_law_873 (by decide) ?_
    refine ww_sub [2, 3, 4, 5, 6] rfl ?_
    exact ww_le (by omega) (by omega) (kk _ _ hz hI8)
  · skip
    have c9 : nI (aPla B (xs (i + 1))).2 = 0 := by first | exact c_851 | (exact Decidable.not_not.mp c_851)
    have hq0 : (aPla B (xs (i + 1))).2 = 0 := aPla_z c9
    have hf0 := hf7 hq0
    obtain ⟨b9, hb9⟩ := aPla_b B (xs (i + 1))
    refine ww_aload_n C dL_law_854 rfl 3 rfl rfl ?_
    refine ww_iconst C dL_law_855 cI_0 ?_
    refine ww_lald C dL_law_856 (Or.inl Ho8) (by decide) (by decide) ?_
    refine ww_iload C dL_law_857 0 rfl ?_
    refine ww_if_eq (tgt := 866) C dL_law_859 (by decide) (fun c_859 => ?_) (fun c_859 => ?_)
    · skip
      have c8 := c_859; rw [hb9] at c8
      have e8 : ((aPla B (xs (i + 1)))).1.toInt64 = (0 : Int64) := by rw [hb9]; exact bI_640 c8
      refine ww_lconst (v := 0) C dL_law_866 rfl ?_
      refine ww_lcmp C dL_law_867 ?_
      refine ww_if_eq_t (tgt := 873) C dL_law_868 (by decide) (by rw [hf0, e8]; exact cmp_s _) ?_
      refine ww_goto (tgt := 1827) C dL_law_873 (by decide) ?_
      refine ww_sub [2, 3, 4, 5, 6] rfl ?_
      exact ww_le (by omega) (by omega) (kk _ _ hz hI8)
    · skip
      have c8 := c_859; rw [hb9] at c8
      have e8 : ((aPla B (xs (i + 1)))).1.toInt64 = (1 : Int64) := by rw [hb9]; exact bI_64 c8
      refine ww_lconst (v := 1) C dL_law_862 rfl ?_
      refine ww_goto (tgt := 867) C dL_law_863 (by decide) ?_
      refine ww_lcmp C dL_law_867 ?_
      refine ww_if_eq_t (tgt := 873) C dL_law_868 (by decide) (by rw [hf0, e8]; exact cmp_s _) ?_
      refine ww_goto (tgt := 1827) C dL_law_873 (by decide) ?_
      refine ww_sub [2, 3, 4, 5, 6] rfl ?_
      exact ww_le (by omega) (by omega) (kk _ _ hz hI8)
set_option maxHeartbeats 2000000 in
theorem lwc_19 {X : XT} {P : Oc → ZR → AH → Prop} {z : ZR} {h : AH} {kc ns d : Nat} {a m o b L i : Nat} {xs : Nat → Int32} (C : Cx X cL_law 9 "RingDominoLaw" "law" (some .boolean) [] d) (hd0 : 2100 ≤ d) (hz : zle (cst (xG X)) z) (hI : LwI (xG X) z h a m o) (hs : va_X b L xs (gS (xG X)) (gS (xG X)).heap) (hbs : b < gN (xG X)) (hi : i + 6 ≤ L) (hL : L ≤ 384) (hk : 9390 ≤ kc) (hn : 113000 ≤ ns) (kk : ∀ z' h', zle (cst (xG X)) z' → LwI (xG X) z' h' a m o → WW X P z' h' (kc - 9390) (ns - 113000) 1827 [(4, .int (nI i)), (3, .ref o), (2, .ref m), (1, .ref a), (0, .ref b)] []) : WW X P z h kc ns 876 [(4, .int (nI i)), (3, .ref o), (2, .ref m), (1, .ref a), (0, .ref b)] [] := by
  obtain ⟨tp, ba, g, ah, A, D, er, t, B, rn, T, Dm, M, f, hCo, hm, hX, hb, hT, hrn, hV, her, Ho, hdj, hno⟩ := hI
  subst hm
  obtain ⟨fb, G, dn, N, Ha, hTp, hTo, hM, hC, hS, hR, hG2, hN, hO, hAh, hd2, hd3⟩ := id hCo
  have hB := hC.1
  have hG := GmM.p hz hM
  have Ho : h o = some (.inl (gA (xG X) 2, (1, .inr (.inl f)))) := Ho
  have hzz := BO.z hB
  have hbt := hB.2.1
  have hto : ∀ q, fpC (xG X) a tp ba g ah A D q → q ≠ o := fun q f e => hno (e ▸ f)
  have fa : fpC (xG X) a tp ba g ah A D a := Or.inl rfl
  have fg : ∀ q, fpG (xG X) g A q → fpC (xG X) a tp ba g ah A D q := fun q f => Or.inr (Or.inr (Or.inr (Or.inl f)))
  have f4 : fpG (xG X) g A (A 4) := Or.inr (Or.inr (Or.inr (Or.inl rfl)))
  have na4 : a ≠ A 4 := fun e => (hd3 a (Or.inl rfl)).1 (e ▸ f4)
  have nag : a ≠ g := fun e => (hd3 a (Or.inl rfl)).1 (Or.inl e)
  have no4 : o ≠ A 4 := fun e => hno (fg _ (e ▸ f4))
  have nog : o ≠ g := fun e => hno (fg _ (Or.inl e))
  refine ww_ow0 hz (fun ow0 => ?_)
  have na6 : a ≠ A 6 := fun e => (hd3 a (Or.inl rfl)).1 (Or.inr (Or.inr (Or.inr (Or.inr (Or.inr (Or.inr ⟨Or.inr (Or.inr (Or.inl e)), ow0 _ _ Ha⟩))))))
  have no6 : o ≠ A 6 := fun e => hno (fg _ (Or.inr (Or.inr (Or.inr (Or.inr (Or.inr (Or.inr ⟨Or.inr (Or.inr (Or.inl e)), ow0 _ _ Ho⟩)))))))
  have na8 : a ≠ A 8 := fun e => (hd3 a (Or.inl rfl)).1 (Or.inr (Or.inr (Or.inr (Or.inr (Or.inr (Or.inr ⟨Or.inr (Or.inr (Or.inr e)), ow0 _ _ Ha⟩))))))
  have no8 : o ≠ A 8 := fun e => hno (fg _ (Or.inr (Or.inr (Or.inr (Or.inr (Or.inr (Or.inr ⟨Or.inr (Or.inr (Or.inr e)), ow0 _ _ Ho⟩)))))))
  refine ww_lv (lv' := [(4, .int (nI i)), (3, .ref o), (2, .ref (Dm 0)), (1, .ref a), (0, .ref b)]) rfl ?_
  show WW X P z h kc ns 876 [(4, .int (nI i)), (3, .ref o), (2, .ref (Dm 0)), (1, .ref a), (0, .ref b)] []
  refine ww_aload_n C dL_law_876 rfl 3 rfl rfl ?_
  refine ww_aload_n C dL_law_877 rfl 4 rfl rfl ?_
  refine ww_iload C dL_law_878 0 rfl ?_
  refine ww_iconst C dL_law_880 cI_1 ?_
  refine ww_iaddn C dL_law_881 ?_
  refine ww_sld (j := (i + 1)) C hs hbs (by omega) (by omega) dL_law_882 ?_
  refine ww_aload_n C dL_law_883 rfl 1 rfl rfl ?_
  refine cs_X0_168_q (As := [.ref a, .int (xs (i + 1)), .ref o]) (rest := []) C dL_law_884 (ct_X0_cellOf (Cx.fl C) (Cx.ok C) hz (Or.inl Ha) hG hB Ho) rfl rfl (Nat.le_of_ble_eq_true rfl) (by omega) (by omega) (by omega) (fun v7 z7 k7 q7 => ?_)
  obtain ⟨hv7, hz7, f7, hE7, hf7⟩ := q7; replace hz7 := hz7.symm; subst hz7; subst hv7
  refine ww_le (kc' := kc - 9390) (ns' := ns - 113000) (by omega) (by omega) ?_
  have hFo : ∀ q, q ≠ o → k7 q = h q := fun q hq => by rw [hE7, up_n hq]
  have Ho7 : k7 o = some (cOu (xG X) f7) := by rw [hE7]; exact up_s
  refine ww_istore (lv' := [(5, .int (nI (aCel B (xs (i + 1))).2)), (4, .int (nI i)), (3, .ref o), (2, .ref (Dm 0)), (1, .ref a), (0, .ref b)]) C dL_law_887 (by decide) rfl ?_
  refine ww_aload_n C dL_law_889 rfl 3 rfl rfl ?_
  refine ww_aload_n C dL_law_890 rfl 5 rfl rfl ?_
  refine ww_iload C dL_law_891 1 rfl ?_
  refine ww_iconst C dL_law_893 cI_1 ?_
  refine ww_iaddn C dL_law_894 ?_
  refine ww_sld (j := (i + 1)) C hs hbs (by omega) (by omega) dL_law_895 ?_
  have hXa : Mx (xG X) k7 Dm M := ⟨fun j hj => by rw [hFo _ (hdj j hj).2]; exact hX.1 j hj, hX.2⟩
  refine cv_X0_170_q (As := [.int (xs (i + 1))]) (rest := []) C dL_law_896 (ct_X4_cellOf (Cx.fl C) (Cx.ok C) hz hXa hb hC) (rc_X4 (Cx.ok C) (Or.inl hXa.m)) rfl rfl (Nat.le_of_ble_eq_true rfl) (by omega) (Nat.zero_le _) (Nat.zero_le _) (fun v8 z8 k8 q8 => ?_)
  obtain ⟨hv8, hz8, M8, hg8, ht8, hX8, hF8⟩ := q8; replace hz8 := hz8.symm; subst hz8; subst hv8
  have hI8 : LwI (xG X) z k8 a (Dm 0) o := LwI.rd hCo hb hT hrn hV her hdj hno hFo Ho7 hg8 hX8 hF8
  have Ho8 : k8 o = some (.inl (gA (xG X) 2, (1, .inr (.inl f7)))) := by rw [hF8 o (fun i hi => ((hdj i hi).2).symm)]; exact Ho7
  refine ww_istore (lv' := [(6, .int ((aCel B (xs (i + 1))).1)), (5, .int (nI (aCel B (xs (i + 1))).2)), (4, .int (nI i)), (3, .ref o), (2, .ref (Dm 0)), (1, .ref a), (0, .ref b)]) C dL_law_899 (by decide) rfl ?_
  refine ww_aload_n C dL_law_901 rfl 4 rfl rfl ?_
  refine cv_X0_97_r (As := []) (rest := []) C dL_law_902 (ct_X4_thrown (Cx.fl C) (Cx.ok C) hX8.m) (rc_X4 (Cx.ok C) (Or.inl hX8.m)) rfl rfl (Nat.le_of_ble_eq_true rfl) (by omega) (Nat.zero_le _) (Nat.zero_le _) ?_
  refine ww_iload C dL_law_905 1 rfl ?_
  refine ww_icmp_eq_t (tgt := 912) C dL_law_907 (by decide) ht8 ?_
  refine ww_iload C dL_law_912 1 rfl ?_
  refine ww_if_ne (tgt := 929) C dL_law_914 (by decide) (fun c_914 => ?_) (fun c_914 => ?_)
  · skip
    refine ww_goto (tgt := 1827) C dL_law_929 (by decide) ?_
    refine ww_sub [2, 3, 4, 5, 6] rfl ?_
    exact ww_le (by omega) (by omega) (kk _ _ hz hI8)
  · skip
    have c9 : nI (aCel B (xs (i + 1))).2 = 0 := by first | exact c_914 | (exact Decidable.not_not.mp c_914)
    have hq0 : (aCel B (xs (i + 1))).2 = 0 := aCel_z c9
    have hf0 := hf7 hq0
    refine ww_aload_n C dL_law_917 rfl 3 rfl rfl ?_
    refine ww_iconst C dL_law_918 cI_0 ?_
    refine ww_lald C dL_law_919 (Or.inl Ho8) (by decide) (by decide) ?_
    refine ww_iload C dL_law_920 0 rfl ?_
    refine ww_i2l C dL_law_922 rfl ?_
    refine ww_lcmp C dL_law_923 ?_
    refine ww_if_eq_t (tgt := 929) C dL_law_924 (by decide) (by rw [hf0]; exact cmp_s _) ?_
    refine ww_goto (tgt := 1827) C dL_law_929 (by decide) ?_
    refine ww_sub [2, 3, 4, 5, 6] rfl ?_
    exact ww_le (by omega) (by omega) (kk _ _ hz hI8)
set_option maxHeartbeats 2000000 in
theorem lwc_20 {X : XT} {P : Oc → ZR → AH → Prop} {z : ZR} {h : AH} {kc ns d : Nat} {a m o b L i : Nat} {xs : Nat → Int32} (C : Cx X cL_law 9 "RingDominoLaw" "law" (some .boolean) [] d) (hd0 : 2100 ≤ d) (hz : zle (cst (xG X)) z) (hI : LwI (xG X) z h a m o) (hs : va_X b L xs (gS (xG X)) (gS (xG X)).heap) (hbs : b < gN (xG X)) (hi : i + 6 ≤ L) (hL : L ≤ 384) (hk : 9390 ≤ kc) (hn : 113000 ≤ ns) (kk : ∀ z' h', zle (cst (xG X)) z' → LwI (xG X) z' h' a m o → WW X P z' h' (kc - 9390) (ns - 113000) 1827 [(4, .int (nI i)), (3, .ref o), (2, .ref m), (1, .ref a), (0, .ref b)] []) : WW X P z h kc ns 932 [(4, .int (nI i)), (3, .ref o), (2, .ref m), (1, .ref a), (0, .ref b)] [] := by
  obtain ⟨tp, ba, g, ah, A, D, er, t, B, rn, T, Dm, M, f, hCo, hm, hX, hb, hT, hrn, hV, her, Ho, hdj, hno⟩ := hI
  subst hm
  obtain ⟨fb, G, dn, N, Ha, hTp, hTo, hM, hC, hS, hR, hG2, hN, hO, hAh, hd2, hd3⟩ := id hCo
  have hB := hC.1
  have hG := GmM.p hz hM
  have Ho : h o = some (.inl (gA (xG X) 2, (1, .inr (.inl f)))) := Ho
  have hzz := BO.z hB
  have hbt := hB.2.1
  have hto : ∀ q, fpC (xG X) a tp ba g ah A D q → q ≠ o := fun q f e => hno (e ▸ f)
  have fa : fpC (xG X) a tp ba g ah A D a := Or.inl rfl
  have fg : ∀ q, fpG (xG X) g A q → fpC (xG X) a tp ba g ah A D q := fun q f => Or.inr (Or.inr (Or.inr (Or.inl f)))
  have f4 : fpG (xG X) g A (A 4) := Or.inr (Or.inr (Or.inr (Or.inl rfl)))
  have na4 : a ≠ A 4 := fun e => (hd3 a (Or.inl rfl)).1 (e ▸ f4)
  have nag : a ≠ g := fun e => (hd3 a (Or.inl rfl)).1 (Or.inl e)
  have no4 : o ≠ A 4 := fun e => hno (fg _ (e ▸ f4))
  have nog : o ≠ g := fun e => hno (fg _ (Or.inl e))
  refine ww_ow0 hz (fun ow0 => ?_)
  have na6 : a ≠ A 6 := fun e => (hd3 a (Or.inl rfl)).1 (Or.inr (Or.inr (Or.inr (Or.inr (Or.inr (Or.inr ⟨Or.inr (Or.inr (Or.inl e)), ow0 _ _ Ha⟩))))))
  have no6 : o ≠ A 6 := fun e => hno (fg _ (Or.inr (Or.inr (Or.inr (Or.inr (Or.inr (Or.inr ⟨Or.inr (Or.inr (Or.inl e)), ow0 _ _ Ho⟩)))))))
  have na8 : a ≠ A 8 := fun e => (hd3 a (Or.inl rfl)).1 (Or.inr (Or.inr (Or.inr (Or.inr (Or.inr (Or.inr ⟨Or.inr (Or.inr (Or.inr e)), ow0 _ _ Ha⟩))))))
  have no8 : o ≠ A 8 := fun e => hno (fg _ (Or.inr (Or.inr (Or.inr (Or.inr (Or.inr (Or.inr ⟨Or.inr (Or.inr (Or.inr e)), ow0 _ _ Ho⟩)))))))
  refine ww_lv (lv' := [(4, .int (nI i)), (3, .ref o), (2, .ref (Dm 0)), (1, .ref a), (0, .ref b)]) rfl ?_
  show WW X P z h kc ns 932 [(4, .int (nI i)), (3, .ref o), (2, .ref (Dm 0)), (1, .ref a), (0, .ref b)] []
  refine ww_aload_n C dL_law_932 rfl 3 rfl rfl ?_
  refine ww_aload_n C dL_law_933 rfl 4 rfl rfl ?_
  refine ww_iload C dL_law_934 0 rfl ?_
  refine ww_iconst C dL_law_936 cI_1 ?_
  refine ww_iaddn C dL_law_937 ?_
  refine ww_sld (j := (i + 1)) C hs hbs (by omega) (by omega) dL_law_938 ?_
  refine ww_aload_n C dL_law_939 rfl 1 rfl rfl ?_
  refine cs_X0_171_q (As := [.ref a, .int (xs (i + 1)), .ref o]) (rest := []) C dL_law_940 (ct_X0_turnOf (Cx.fl C) (Cx.ok C) hz (Or.inl Ha) hG hB Ho) rfl rfl (Nat.le_of_ble_eq_true rfl) (by omega) (by omega) (by omega) (fun v7 z7 k7 q7 => ?_)
  obtain ⟨hv7, hz7, f7, hE7, hf7⟩ := q7; replace hz7 := hz7.symm; subst hz7; subst hv7
  refine ww_le (kc' := kc - 9390) (ns' := ns - 113000) (by omega) (by omega) ?_
  have hFo : ∀ q, q ≠ o → k7 q = h q := fun q hq => by rw [hE7, up_n hq]
  have Ho7 : k7 o = some (cOu (xG X) f7) := by rw [hE7]; exact up_s
  refine ww_istore (lv' := [(5, .int (nI (aTur B (xs (i + 1))).2)), (4, .int (nI i)), (3, .ref o), (2, .ref (Dm 0)), (1, .ref a), (0, .ref b)]) C dL_law_943 (by decide) rfl ?_
  refine ww_aload_n C dL_law_945 rfl 3 rfl rfl ?_
  refine ww_aload_n C dL_law_946 rfl 5 rfl rfl ?_
  refine ww_iload C dL_law_947 1 rfl ?_
  refine ww_iconst C dL_law_949 cI_1 ?_
  refine ww_iaddn C dL_law_950 ?_
  refine ww_sld (j := (i + 1)) C hs hbs (by omega) (by omega) dL_law_951 ?_
  have hXa : Mx (xG X) k7 Dm M := ⟨fun j hj => by rw [hFo _ (hdj j hj).2]; exact hX.1 j hj, hX.2⟩
  refine cv_X0_173_q (As := [.int (xs (i + 1))]) (rest := []) C dL_law_952 (ct_X4_turnOf (Cx.fl C) (Cx.ok C) hz hXa hb hC) (rc_X4 (Cx.ok C) (Or.inl hXa.m)) rfl rfl (Nat.le_of_ble_eq_true rfl) (by omega) (Nat.zero_le _) (Nat.zero_le _) (fun v8 z8 k8 q8 => ?_)
  obtain ⟨hv8, hz8, M8, hg8, ht8, hX8, hF8⟩ := q8; replace hz8 := hz8.symm; subst hz8; subst hv8
  have hI8 : LwI (xG X) z k8 a (Dm 0) o := LwI.rd hCo hb hT hrn hV her hdj hno hFo Ho7 hg8 hX8 hF8
  have Ho8 : k8 o = some (.inl (gA (xG X) 2, (1, .inr (.inl f7)))) := by rw [hF8 o (fun i hi => ((hdj i hi).2).symm)]; exact Ho7
  refine ww_istore (lv' := [(6, .int ((aTur B (xs (i + 1))).1)), (5, .int (nI (aTur B (xs (i + 1))).2)), (4, .int (nI i)), (3, .ref o), (2, .ref (Dm 0)), (1, .ref a), (0, .ref b)]) C dL_law_955 (by decide) rfl ?_
  refine ww_aload_n C dL_law_957 rfl 4 rfl rfl ?_
  refine cv_X0_97_r (As := []) (rest := []) C dL_law_958 (ct_X4_thrown (Cx.fl C) (Cx.ok C) hX8.m) (rc_X4 (Cx.ok C) (Or.inl hX8.m)) rfl rfl (Nat.le_of_ble_eq_true rfl) (by omega) (Nat.zero_le _) (Nat.zero_le _) ?_
  refine ww_iload C dL_law_961 1 rfl ?_
  refine ww_icmp_eq_t (tgt := 968) C dL_law_963 (by decide) ht8 ?_
  refine ww_iload C dL_law_968 1 rfl ?_
  refine ww_if_ne (tgt := 985) C dL_law_970 (by decide) (fun c_970 => ?_) (fun c_970 => ?_)
  · skip
    refine ww_goto (tgt := 1827) C dL_law_985 (by decide) ?_
    refine ww_sub [2, 3, 4, 5, 6] rfl ?_
    exact ww_le (by omega) (by omega) (kk _ _ hz hI8)
  · skip
    have c9 : nI (aTur B (xs (i + 1))).2 = 0 := by first | exact c_970 | (exact Decidable.not_not.mp c_970)
    have hq0 : (aTur B (xs (i + 1))).2 = 0 := aTur_z c9
    have hf0 := hf7 hq0
    refine ww_aload_n C dL_law_973 rfl 3 rfl rfl ?_
    refine ww_iconst C dL_law_974 cI_0 ?_
    refine ww_lald C dL_law_975 (Or.inl Ho8) (by decide) (by decide) ?_
    refine ww_iload C dL_law_976 0 rfl ?_
    refine ww_i2l C dL_law_978 rfl ?_
    refine ww_lcmp C dL_law_979 ?_
    refine ww_if_eq_t (tgt := 985) C dL_law_980 (by decide) (by rw [hf0]; exact cmp_s _) ?_
    refine ww_goto (tgt := 1827) C dL_law_985 (by decide) ?_
    refine ww_sub [2, 3, 4, 5, 6] rfl ?_
    exact ww_le (by omega) (by omega) (kk _ _ hz hI8)
set_option maxHeartbeats 2000000 in
theorem lwc_21 {X : XT} {P : Oc → ZR → AH → Prop} {z : ZR} {h : AH} {kc ns d : Nat} {a m o b L i : Nat} {xs : Nat → Int32} (C : Cx X cL_law 9 "RingDominoLaw" "law" (some .boolean) [] d) (hd0 : 2100 ≤ d) (hz : zle (cst (xG X)) z) (hI : LwI (xG X) z h a m o) (hs : va_X b L xs (gS (xG X)) (gS (xG X)).heap) (hbs : b < gN (xG X)) (hi : i + 6 ≤ L) (hL : L ≤ 384) (hk : 9390 ≤ kc) (hn : 113000 ≤ ns) (kk : ∀ z' h', zle (cst (xG X)) z' → LwI (xG X) z' h' a m o → WW X P z' h' (kc - 9390) (ns - 113000) 1827 [(4, .int (nI i)), (3, .ref o), (2, .ref m), (1, .ref a), (0, .ref b)] []) : WW X P z h kc ns 988 [(4, .int (nI i)), (3, .ref o), (2, .ref m), (1, .ref a), (0, .ref b)] [] := by
  obtain ⟨tp, ba, g, ah, A, D, er, t, B, rn, T, Dm, M, f, hCo, hm, hX, hb, hT, hrn, hV, her, Ho, hdj, hno⟩ := hI
  subst hm
  obtain ⟨fb, G, dn, N, Ha, hTp, hTo, hM, hC, hS, hR, hG2, hN, hO, hAh, hd2, hd3⟩ := id hCo
  have hB := hC.1
  have hG := GmM.p hz hM
  have Ho : h o = some (.inl (gA (xG X) 2, (1, .inr (.inl f)))) := Ho
  have hzz := BO.z hB
  have hbt := hB.2.1
  have hto : ∀ q, fpC (xG X) a tp ba g ah A D q → q ≠ o := fun q f e => hno (e ▸ f)
  have fa : fpC (xG X) a tp ba g ah A D a := Or.inl rfl
  have fg : ∀ q, fpG (xG X) g A q → fpC (xG X) a tp ba g ah A D q := fun q f => Or.inr (Or.inr (Or.inr (Or.inl f)))
  have f4 : fpG (xG X) g A (A 4) := Or.inr (Or.inr (Or.inr (Or.inl rfl)))
  have na4 : a ≠ A 4 := fun e => (hd3 a (Or.inl rfl)).1 (e ▸ f4)
  have nag : a ≠ g := fun e => (hd3 a (Or.inl rfl)).1 (Or.inl e)
  have no4 : o ≠ A 4 := fun e => hno (fg _ (e ▸ f4))
  have nog : o ≠ g := fun e => hno (fg _ (Or.inl e))
  refine ww_ow0 hz (fun ow0 => ?_)
  have na6 : a ≠ A 6 := fun e => (hd3 a (Or.inl rfl)).1 (Or.inr (Or.inr (Or.inr (Or.inr (Or.inr (Or.inr ⟨Or.inr (Or.inr (Or.inl e)), ow0 _ _ Ha⟩))))))
  have no6 : o ≠ A 6 := fun e => hno (fg _ (Or.inr (Or.inr (Or.inr (Or.inr (Or.inr (Or.inr ⟨Or.inr (Or.inr (Or.inl e)), ow0 _ _ Ho⟩)))))))
  have na8 : a ≠ A 8 := fun e => (hd3 a (Or.inl rfl)).1 (Or.inr (Or.inr (Or.inr (Or.inr (Or.inr (Or.inr ⟨Or.inr (Or.inr (Or.inr e)), ow0 _ _ Ha⟩))))))
  have no8 : o ≠ A 8 := fun e => hno (fg _ (Or.inr (Or.inr (Or.inr (Or.inr (Or.inr (Or.inr ⟨Or.inr (Or.inr (Or.inr e)), ow0 _ _ Ho⟩)))))))
  refine ww_lv (lv' := [(4, .int (nI i)), (3, .ref o), (2, .ref (Dm 0)), (1, .ref a), (0, .ref b)]) rfl ?_
  show WW X P z h kc ns 988 [(4, .int (nI i)), (3, .ref o), (2, .ref (Dm 0)), (1, .ref a), (0, .ref b)] []
  refine ww_aload_n C dL_law_988 rfl 3 rfl rfl ?_
  refine ww_aload_n C dL_law_989 rfl 4 rfl rfl ?_
  refine ww_iload C dL_law_990 0 rfl ?_
  refine ww_iconst C dL_law_992 cI_1 ?_
  refine ww_iaddn C dL_law_993 ?_
  refine ww_sld (j := (i + 1)) C hs hbs (by omega) (by omega) dL_law_994 ?_
  refine ww_aload_n C dL_law_995 rfl 4 rfl rfl ?_
  refine ww_iload C dL_law_996 0 rfl ?_
  refine ww_iconst C dL_law_998 cI_2 ?_
  refine ww_iaddn C dL_law_999 ?_
  refine ww_sld (j := (i + 2)) C hs hbs (by omega) (by omega) dL_law_1000 ?_
  refine ww_aload_n C dL_law_1001 rfl 4 rfl rfl ?_
  refine ww_iload C dL_law_1002 0 rfl ?_
  refine ww_iconst C dL_law_1004 cI_3 ?_
  refine ww_iaddn C dL_law_1005 ?_
  refine ww_sld (j := (i + 3)) C hs hbs (by omega) (by omega) dL_law_1006 ?_
  refine ww_aload_n C dL_law_1007 rfl 1 rfl rfl ?_
  refine cs_X0_174_q (As := [.ref a, .int (xs (i + 1)), .int (xs (i + 2)), .int (xs (i + 3)), .ref o]) (rest := []) C dL_law_1008 (ct_X0_fits (Cx.fl C) (Cx.ok C) hz (Or.inl Ha) hG hB Ho) rfl rfl (Nat.le_of_ble_eq_true rfl) (by omega) (by omega) (by omega) (fun v7 z7 k7 q7 => ?_)
  obtain ⟨hv7, hz7, f7, hE7, hf7⟩ := q7; replace hz7 := hz7.symm; subst hz7; subst hv7
  refine ww_le (kc' := kc - 9390) (ns' := ns - 113000) (by omega) (by omega) ?_
  have hFo : ∀ q, q ≠ o → k7 q = h q := fun q hq => by rw [hE7, up_n hq]
  have Ho7 : k7 o = some (cOu (xG X) f7) := by rw [hE7]; exact up_s
  refine ww_istore (lv' := [(5, .int (nI (aFit B (xs (i + 1)) (xs (i + 2)) (xs (i + 3))).2)), (4, .int (nI i)), (3, .ref o), (2, .ref (Dm 0)), (1, .ref a), (0, .ref b)]) C dL_law_1011 (by decide) rfl ?_
  refine ww_aload_n C dL_law_1013 rfl 3 rfl rfl ?_
  refine ww_aload_n C dL_law_1014 rfl 5 rfl rfl ?_
  refine ww_iload C dL_law_1015 1 rfl ?_
  refine ww_iconst C dL_law_1017 cI_1 ?_
  refine ww_iaddn C dL_law_1018 ?_
  refine ww_sld (j := (i + 1)) C hs hbs (by omega) (by omega) dL_law_1019 ?_
  refine ww_aload_n C dL_law_1020 rfl 5 rfl rfl ?_
  refine ww_iload C dL_law_1021 1 rfl ?_
  refine ww_iconst C dL_law_1023 cI_2 ?_
  refine ww_iaddn C dL_law_1024 ?_
  refine ww_sld (j := (i + 2)) C hs hbs (by omega) (by omega) dL_law_1025 ?_
  refine ww_aload_n C dL_law_1026 rfl 5 rfl rfl ?_
  refine ww_iload C dL_law_1027 1 rfl ?_
  refine ww_iconst C dL_law_1029 cI_3 ?_
  refine ww_iaddn C dL_law_1030 ?_
  refine ww_sld (j := (i + 3)) C hs hbs (by omega) (by omega) dL_law_1031 ?_
  have hXa : Mx (xG X) k7 Dm M := ⟨fun j hj => by rw [hFo _ (hdj j hj).2]; exact hX.1 j hj, hX.2⟩
  refine cv_X0_177_q (As := [.int (xs (i + 1)), .int (xs (i + 2)), .int (xs (i + 3))]) (rest := []) C dL_law_1032 (ct_X4_fits (Cx.fl C) (Cx.ok C) hz hXa hb hC) (rc_X4 (Cx.ok C) (Or.inl hXa.m)) rfl rfl (Nat.le_of_ble_eq_true rfl) (by omega) (Nat.zero_le _) (Nat.zero_le _) (fun v8 z8 k8 q8 => ?_)
  obtain ⟨hv8, hz8, M8, hg8, ht8, hX8, hF8⟩ := q8; replace hz8 := hz8.symm; subst hz8; subst hv8
  have hI8 : LwI (xG X) z k8 a (Dm 0) o := LwI.rd hCo hb hT hrn hV her hdj hno hFo Ho7 hg8 hX8 hF8
  have Ho8 : k8 o = some (.inl (gA (xG X) 2, (1, .inr (.inl f7)))) := by rw [hF8 o (fun i hi => ((hdj i hi).2).symm)]; exact Ho7
  refine ww_istore (lv' := [(6, .int ((aFit B (xs (i + 1)) (xs (i + 2)) (xs (i + 3))).1)), (5, .int (nI (aFit B (xs (i + 1)) (xs (i + 2)) (xs (i + 3))).2)), (4, .int (nI i)), (3, .ref o), (2, .ref (Dm 0)), (1, .ref a), (0, .ref b)]) C dL_law_1035 (by decide) rfl ?_
  refine ww_aload_n C dL_law_1037 rfl 4 rfl rfl ?_
  refine cv_X0_97_r (As := []) (rest := []) C dL_law_1038 (ct_X4_thrown (Cx.fl C) (Cx.ok C) hX8.m) (rc_X4 (Cx.ok C) (Or.inl hX8.m)) rfl rfl (Nat.le_of_ble_eq_true rfl) (by omega) (Nat.zero_le _) (Nat.zero_le _) ?_
  refine ww_iload C dL_law_1041 1 rfl ?_
  refine ww_icmp_eq_t (tgt := 1048) C dL_law_1043 (by decide) ht8 ?_
  refine ww_iload C dL_law_1048 1 rfl ?_
  refine ww_if_ne (tgt := 1072) C dL_law_1050 (by decide) (fun c_1050 => ?_) (fun c_1050 => ?_)
  · skip
    refine ww_goto (tgt := 1827) C dL_law_1072 (by decide) ?_
    refine ww_sub [2, 3, 4, 5, 6] rfl ?_
    exact ww_le (by omega) (by omega) (kk _ _ hz hI8)
  · skip
    have c9 : nI (aFit B (xs (i + 1)) (xs (i + 2)) (xs (i + 3))).2 = 0 := by first | exact c_1050 | (exact Decidable.not_not.mp c_1050)
    have hq0 : (aFit B (xs (i + 1)) (xs (i + 2)) (xs (i + 3))).2 = 0 := aFit_z c9
    have hf0 := hf7 hq0
    obtain ⟨b9, hb9⟩ := aFit_b B (xs (i + 1)) (xs (i + 2)) (xs (i + 3))
    refine ww_aload_n C dL_law_1053 rfl 3 rfl rfl ?_
    refine ww_iconst C dL_law_1054 cI_0 ?_
    refine ww_lald C dL_law_1055 (Or.inl Ho8) (by decide) (by decide) ?_
    refine ww_iload C dL_law_1056 0 rfl ?_
    refine ww_if_eq (tgt := 1065) C dL_law_1058 (by decide) (fun c_1058 => ?_) (fun c_1058 => ?_)
    · skip
      have c8 := c_1058; rw [hb9] at c8
      have e8 : ((aFit B (xs (i + 1)) (xs (i + 2)) (xs (i + 3)))).1.toInt64 = (0 : Int64) := by rw [hb9]; exact bI_640 c8
      refine ww_lconst (v := 0) C dL_law_1065 rfl ?_
      refine ww_lcmp C dL_law_1066 ?_
      refine ww_if_eq_t (tgt := 1072) C dL_law_1067 (by decide) (by rw [hf0, e8]; exact cmp_s _) ?_
      refine ww_goto (tgt := 1827) C dL_law_1072 (by decide) ?_
      refine ww_sub [2, 3, 4, 5, 6] rfl ?_
      exact ww_le (by omega) (by omega) (kk _ _ hz hI8)
    · skip
      have c8 := c_1058; rw [hb9] at c8
      have e8 : ((aFit B (xs (i + 1)) (xs (i + 2)) (xs (i + 3)))).1.toInt64 = (1 : Int64) := by rw [hb9]; exact bI_64 c8
      refine ww_lconst (v := 1) C dL_law_1061 rfl ?_
      refine ww_goto (tgt := 1066) C dL_law_1062 (by decide) ?_
      refine ww_lcmp C dL_law_1066 ?_
      refine ww_if_eq_t (tgt := 1072) C dL_law_1067 (by decide) (by rw [hf0, e8]; exact cmp_s _) ?_
      refine ww_goto (tgt := 1827) C dL_law_1072 (by decide) ?_
      refine ww_sub [2, 3, 4, 5, 6] rfl ?_
      exact ww_le (by omega) (by omega) (kk _ _ hz hI8)
set_option maxHeartbeats 2000000 in
theorem lwc_22 {X : XT} {P : Oc → ZR → AH → Prop} {z : ZR} {h : AH} {kc ns d : Nat} {a m o b L i : Nat} {xs : Nat → Int32} (C : Cx X cL_law 9 "RingDominoLaw" "law" (some .boolean) [] d) (hd0 : 2100 ≤ d) (hz : zle (cst (xG X)) z) (hI : LwI (xG X) z h a m o) (hs : va_X b L xs (gS (xG X)) (gS (xG X)).heap) (hbs : b < gN (xG X)) (hi : i + 6 ≤ L) (hL : L ≤ 384) (hk : 9390 ≤ kc) (hn : 113000 ≤ ns) (kk : ∀ z' h', zle (cst (xG X)) z' → LwI (xG X) z' h' a m o → WW X P z' h' (kc - 9390) (ns - 113000) 1827 [(4, .int (nI i)), (3, .ref o), (2, .ref m), (1, .ref a), (0, .ref b)] []) : WW X P z h kc ns 1075 [(4, .int (nI i)), (3, .ref o), (2, .ref m), (1, .ref a), (0, .ref b)] [] := by
  obtain ⟨tp, ba, g, ah, A, D, er, t, B, rn, T, Dm, M, f, hCo, hm, hX, hb, hT, hrn, hV, her, Ho, hdj, hno⟩ := hI
  subst hm
  obtain ⟨fb, G, dn, N, Ha, hTp, hTo, hM, hC, hS, hR, hG2, hN, hO, hAh, hd2, hd3⟩ := id hCo
  have hB := hC.1
  have hG := GmM.p hz hM
  have Ho : h o = some (.inl (gA (xG X) 2, (1, .inr (.inl f)))) := Ho
  have hzz := BO.z hB
  have hbt := hB.2.1
  have hto : ∀ q, fpC (xG X) a tp ba g ah A D q → q ≠ o := fun q f e => hno (e ▸ f)
  have fa : fpC (xG X) a tp ba g ah A D a := Or.inl rfl
  have fg : ∀ q, fpG (xG X) g A q → fpC (xG X) a tp ba g ah A D q := fun q f => Or.inr (Or.inr (Or.inr (Or.inl f)))
  have f4 : fpG (xG X) g A (A 4) := Or.inr (Or.inr (Or.inr (Or.inl rfl)))
  have na4 : a ≠ A 4 := fun e => (hd3 a (Or.inl rfl)).1 (e ▸ f4)
  have nag : a ≠ g := fun e => (hd3 a (Or.inl rfl)).1 (Or.inl e)
  have no4 : o ≠ A 4 := fun e => hno (fg _ (e ▸ f4))
  have nog : o ≠ g := fun e => hno (fg _ (Or.inl e))
  refine ww_ow0 hz (fun ow0 => ?_)
  have na6 : a ≠ A 6 := fun e => (hd3 a (Or.inl rfl)).1 (Or.inr (Or.inr (Or.inr (Or.inr (Or.inr (Or.inr ⟨Or.inr (Or.inr (Or.inl e)), ow0 _ _ Ha⟩))))))
  have no6 : o ≠ A 6 := fun e => hno (fg _ (Or.inr (Or.inr (Or.inr (Or.inr (Or.inr (Or.inr ⟨Or.inr (Or.inr (Or.inl e)), ow0 _ _ Ho⟩)))))))
  have na8 : a ≠ A 8 := fun e => (hd3 a (Or.inl rfl)).1 (Or.inr (Or.inr (Or.inr (Or.inr (Or.inr (Or.inr ⟨Or.inr (Or.inr (Or.inr e)), ow0 _ _ Ha⟩))))))
  have no8 : o ≠ A 8 := fun e => hno (fg _ (Or.inr (Or.inr (Or.inr (Or.inr (Or.inr (Or.inr ⟨Or.inr (Or.inr (Or.inr e)), ow0 _ _ Ho⟩)))))))
  refine ww_lv (lv' := [(4, .int (nI i)), (3, .ref o), (2, .ref (Dm 0)), (1, .ref a), (0, .ref b)]) rfl ?_
  show WW X P z h kc ns 1075 [(4, .int (nI i)), (3, .ref o), (2, .ref (Dm 0)), (1, .ref a), (0, .ref b)] []
  refine ww_aload_n C dL_law_1075 rfl 3 rfl rfl ?_
  refine ww_aload_n C dL_law_1076 rfl 4 rfl rfl ?_
  refine ww_iload C dL_law_1077 0 rfl ?_
  refine ww_iconst C dL_law_1079 cI_1 ?_
  refine ww_iaddn C dL_law_1080 ?_
  refine ww_sld (j := (i + 1)) C hs hbs (by omega) (by omega) dL_law_1081 ?_
  refine ww_aload_n C dL_law_1082 rfl 4 rfl rfl ?_
  refine ww_iload C dL_law_1083 0 rfl ?_
  refine ww_iconst C dL_law_1085 cI_2 ?_
  refine ww_iaddn C dL_law_1086 ?_
  refine ww_sld (j := (i + 2)) C hs hbs (by omega) (by omega) dL_law_1087 ?_
  refine ww_aload_n C dL_law_1088 rfl 4 rfl rfl ?_
  refine ww_iload C dL_law_1089 0 rfl ?_
  refine ww_iconst C dL_law_1091 cI_3 ?_
  refine ww_iaddn C dL_law_1092 ?_
  refine ww_sld (j := (i + 3)) C hs hbs (by omega) (by omega) dL_law_1093 ?_
  refine ww_aload_n C dL_law_1094 rfl 1 rfl rfl ?_
  refine cs_X0_178_q (As := [.ref a, .int (xs (i + 1)), .int (xs (i + 2)), .int (xs (i + 3)), .ref o]) (rest := []) C dL_law_1095 (ct_X0_edgeAgainst (Cx.fl C) (Cx.ok C) hz (Or.inl Ha) hG hB Ho) rfl rfl (Nat.le_of_ble_eq_true rfl) (by omega) (by omega) (by omega) (fun v7 z7 k7 q7 => ?_)
  obtain ⟨hv7, hz7, f7, hE7, hf7⟩ := q7; replace hz7 := hz7.symm; subst hz7; subst hv7
  refine ww_le (kc' := kc - 9390) (ns' := ns - 113000) (by omega) (by omega) ?_
  have hFo : ∀ q, q ≠ o → k7 q = h q := fun q hq => by rw [hE7, up_n hq]
  have Ho7 : k7 o = some (cOu (xG X) f7) := by rw [hE7]; exact up_s
  refine ww_istore (lv' := [(5, .int (nI (aAga B (xs (i + 1)) (xs (i + 2)) (xs (i + 3))).2)), (4, .int (nI i)), (3, .ref o), (2, .ref (Dm 0)), (1, .ref a), (0, .ref b)]) C dL_law_1098 (by decide) rfl ?_
  refine ww_aload_n C dL_law_1100 rfl 3 rfl rfl ?_
  refine ww_aload_n C dL_law_1101 rfl 5 rfl rfl ?_
  refine ww_iload C dL_law_1102 1 rfl ?_
  refine ww_iconst C dL_law_1104 cI_1 ?_
  refine ww_iaddn C dL_law_1105 ?_
  refine ww_sld (j := (i + 1)) C hs hbs (by omega) (by omega) dL_law_1106 ?_
  refine ww_aload_n C dL_law_1107 rfl 5 rfl rfl ?_
  refine ww_iload C dL_law_1108 1 rfl ?_
  refine ww_iconst C dL_law_1110 cI_2 ?_
  refine ww_iaddn C dL_law_1111 ?_
  refine ww_sld (j := (i + 2)) C hs hbs (by omega) (by omega) dL_law_1112 ?_
  refine ww_aload_n C dL_law_1113 rfl 5 rfl rfl ?_
  refine ww_iload C dL_law_1114 1 rfl ?_
  refine ww_iconst C dL_law_1116 cI_3 ?_
  refine ww_iaddn C dL_law_1117 ?_
  refine ww_sld (j := (i + 3)) C hs hbs (by omega) (by omega) dL_law_1118 ?_
  have hXa : Mx (xG X) k7 Dm M := ⟨fun j hj => by rw [hFo _ (hdj j hj).2]; exact hX.1 j hj, hX.2⟩
  refine cv_X0_180_q (As := [.int (xs (i + 1)), .int (xs (i + 2)), .int (xs (i + 3))]) (rest := []) C dL_law_1119 (ct_X4_edgeAgainst (Cx.fl C) (Cx.ok C) hz hXa hb hC) (rc_X4 (Cx.ok C) (Or.inl hXa.m)) rfl rfl (Nat.le_of_ble_eq_true rfl) (by omega) (Nat.zero_le _) (Nat.zero_le _) (fun v8 z8 k8 q8 => ?_)
  obtain ⟨hv8, hz8, M8, hg8, ht8, hX8, hF8⟩ := q8; replace hz8 := hz8.symm; subst hz8; subst hv8
  have hI8 : LwI (xG X) z k8 a (Dm 0) o := LwI.rd hCo hb hT hrn hV her hdj hno hFo Ho7 hg8 hX8 hF8
  have Ho8 : k8 o = some (.inl (gA (xG X) 2, (1, .inr (.inl f7)))) := by rw [hF8 o (fun i hi => ((hdj i hi).2).symm)]; exact Ho7
  refine ww_istore (lv' := [(6, .int ((aAga B (xs (i + 1)) (xs (i + 2)) (xs (i + 3))).1)), (5, .int (nI (aAga B (xs (i + 1)) (xs (i + 2)) (xs (i + 3))).2)), (4, .int (nI i)), (3, .ref o), (2, .ref (Dm 0)), (1, .ref a), (0, .ref b)]) C dL_law_1122 (by decide) rfl ?_
  refine ww_aload_n C dL_law_1124 rfl 4 rfl rfl ?_
  refine cv_X0_97_r (As := []) (rest := []) C dL_law_1125 (ct_X4_thrown (Cx.fl C) (Cx.ok C) hX8.m) (rc_X4 (Cx.ok C) (Or.inl hX8.m)) rfl rfl (Nat.le_of_ble_eq_true rfl) (by omega) (Nat.zero_le _) (Nat.zero_le _) ?_
  refine ww_iload C dL_law_1128 1 rfl ?_
  refine ww_icmp_eq_t (tgt := 1135) C dL_law_1130 (by decide) ht8 ?_
  refine ww_iload C dL_law_1135 1 rfl ?_
  refine ww_if_ne (tgt := 1152) C dL_law_1137 (by decide) (fun c_1137 => ?_) (fun c_1137 => ?_)
  · skip
    refine ww_goto (tgt := 1827) C dL_law_1152 (by decide) ?_
    refine ww_sub [2, 3, 4, 5, 6] rfl ?_
    exact ww_le (by omega) (by omega) (kk _ _ hz hI8)
  · skip
    have c9 : nI (aAga B (xs (i + 1)) (xs (i + 2)) (xs (i + 3))).2 = 0 := by first | exact c_1137 | (exact Decidable.not_not.mp c_1137)
    have hq0 : (aAga B (xs (i + 1)) (xs (i + 2)) (xs (i + 3))).2 = 0 := aAga_z c9
    have hf0 := hf7 hq0
    refine ww_aload_n C dL_law_1140 rfl 3 rfl rfl ?_
    refine ww_iconst C dL_law_1141 cI_0 ?_
    refine ww_lald C dL_law_1142 (Or.inl Ho8) (by decide) (by decide) ?_
    refine ww_iload C dL_law_1143 0 rfl ?_
    refine ww_i2l C dL_law_1145 rfl ?_
    refine ww_lcmp C dL_law_1146 ?_
    refine ww_if_eq_t (tgt := 1152) C dL_law_1147 (by decide) (by rw [hf0]; exact cmp_s _) ?_
    refine ww_goto (tgt := 1827) C dL_law_1152 (by decide) ?_
    refine ww_sub [2, 3, 4, 5, 6] rfl ?_
    exact ww_le (by omega) (by omega) (kk _ _ hz hI8)
set_option maxHeartbeats 2000000 in
theorem lwc_23 {X : XT} {P : Oc → ZR → AH → Prop} {z : ZR} {h : AH} {kc ns d : Nat} {a m o b L i : Nat} {xs : Nat → Int32} (C : Cx X cL_law 9 "RingDominoLaw" "law" (some .boolean) [] d) (hd0 : 2100 ≤ d) (hz : zle (cst (xG X)) z) (hI : LwI (xG X) z h a m o) (hs : va_X b L xs (gS (xG X)) (gS (xG X)).heap) (hbs : b < gN (xG X)) (hi : i + 6 ≤ L) (hL : L ≤ 384) (hk : 9390 ≤ kc) (hn : 113000 ≤ ns) (kk : ∀ z' h', zle (cst (xG X)) z' → LwI (xG X) z' h' a m o → WW X P z' h' (kc - 9390) (ns - 113000) 1827 [(4, .int (nI i)), (3, .ref o), (2, .ref m), (1, .ref a), (0, .ref b)] []) : WW X P z h kc ns 1155 [(4, .int (nI i)), (3, .ref o), (2, .ref m), (1, .ref a), (0, .ref b)] [] := by
  obtain ⟨tp, ba, g, ah, A, D, er, t, B, rn, T, Dm, M, f, hCo, hm, hX, hb, hT, hrn, hV, her, Ho, hdj, hno⟩ := hI
  subst hm
  obtain ⟨fb, G, dn, N, Ha, hTp, hTo, hM, hC, hS, hR, hG2, hN, hO, hAh, hd2, hd3⟩ := id hCo
  have hB := hC.1
  have hG := GmM.p hz hM
  have Ho : h o = some (.inl (gA (xG X) 2, (1, .inr (.inl f)))) := Ho
  have hzz := BO.z hB
  have hbt := hB.2.1
  have hto : ∀ q, fpC (xG X) a tp ba g ah A D q → q ≠ o := fun q f e => hno (e ▸ f)
  have fa : fpC (xG X) a tp ba g ah A D a := Or.inl rfl
  have fg : ∀ q, fpG (xG X) g A q → fpC (xG X) a tp ba g ah A D q := fun q f => Or.inr (Or.inr (Or.inr (Or.inl f)))
  have f4 : fpG (xG X) g A (A 4) := Or.inr (Or.inr (Or.inr (Or.inl rfl)))
  have na4 : a ≠ A 4 := fun e => (hd3 a (Or.inl rfl)).1 (e ▸ f4)
  have nag : a ≠ g := fun e => (hd3 a (Or.inl rfl)).1 (Or.inl e)
  have no4 : o ≠ A 4 := fun e => hno (fg _ (e ▸ f4))
  have nog : o ≠ g := fun e => hno (fg _ (Or.inl e))
  refine ww_ow0 hz (fun ow0 => ?_)
  have na6 : a ≠ A 6 := fun e => (hd3 a (Or.inl rfl)).1 (Or.inr (Or.inr (Or.inr (Or.inr (Or.inr (Or.inr ⟨Or.inr (Or.inr (Or.inl e)), ow0 _ _ Ha⟩))))))
  have no6 : o ≠ A 6 := fun e => hno (fg _ (Or.inr (Or.inr (Or.inr (Or.inr (Or.inr (Or.inr ⟨Or.inr (Or.inr (Or.inl e)), ow0 _ _ Ho⟩)))))))
  have na8 : a ≠ A 8 := fun e => (hd3 a (Or.inl rfl)).1 (Or.inr (Or.inr (Or.inr (Or.inr (Or.inr (Or.inr ⟨Or.inr (Or.inr (Or.inr e)), ow0 _ _ Ha⟩))))))
  have no8 : o ≠ A 8 := fun e => hno (fg _ (Or.inr (Or.inr (Or.inr (Or.inr (Or.inr (Or.inr ⟨Or.inr (Or.inr (Or.inr e)), ow0 _ _ Ho⟩)))))))
  refine ww_lv (lv' := [(4, .int (nI i)), (3, .ref o), (2, .ref (Dm 0)), (1, .ref a), (0, .ref b)]) rfl ?_
  show WW X P z h kc ns 1155 [(4, .int (nI i)), (3, .ref o), (2, .ref (Dm 0)), (1, .ref a), (0, .ref b)] []
  refine ww_aload_n C dL_law_1155 rfl 3 rfl rfl ?_
  refine ww_aload_n C dL_law_1156 rfl 4 rfl rfl ?_
  refine ww_iload C dL_law_1157 0 rfl ?_
  refine ww_iconst C dL_law_1159 cI_1 ?_
  refine ww_iaddn C dL_law_1160 ?_
  refine ww_sld (j := (i + 1)) C hs hbs (by omega) (by omega) dL_law_1161 ?_
  refine ww_aload_n C dL_law_1162 rfl 1 rfl rfl ?_
  refine cs_X0_181_q (As := [.ref a, .int (xs (i + 1)), .ref o]) (rest := []) C dL_law_1163 (ct_X0_waysOf (Cx.fl C) (Cx.ok C) hz (Or.inl Ha) hG hB Ho) rfl rfl (Nat.le_of_ble_eq_true rfl) (by omega) (by omega) (by omega) (fun v7 z7 k7 q7 => ?_)
  obtain ⟨hv7, hz7, f7, hE7, hf7⟩ := q7; replace hz7 := hz7.symm; subst hz7; subst hv7
  refine ww_le (kc' := kc - 9390) (ns' := ns - 113000) (by omega) (by omega) ?_
  have hFo : ∀ q, q ≠ o → k7 q = h q := fun q hq => by rw [hE7, up_n hq]
  have Ho7 : k7 o = some (cOu (xG X) f7) := by rw [hE7]; exact up_s
  refine ww_istore (lv' := [(5, .int (nI (aWay B (xs (i + 1))).2)), (4, .int (nI i)), (3, .ref o), (2, .ref (Dm 0)), (1, .ref a), (0, .ref b)]) C dL_law_1166 (by decide) rfl ?_
  refine ww_aload_n C dL_law_1168 rfl 3 rfl rfl ?_
  refine ww_aload_n C dL_law_1169 rfl 5 rfl rfl ?_
  refine ww_iload C dL_law_1170 1 rfl ?_
  refine ww_iconst C dL_law_1172 cI_1 ?_
  refine ww_iaddn C dL_law_1173 ?_
  refine ww_sld (j := (i + 1)) C hs hbs (by omega) (by omega) dL_law_1174 ?_
  have hXa : Mx (xG X) k7 Dm M := ⟨fun j hj => by rw [hFo _ (hdj j hj).2]; exact hX.1 j hj, hX.2⟩
  refine cv_X0_183_q (As := [.int (xs (i + 1))]) (rest := []) C dL_law_1175 (ct_X4_waysOf (Cx.fl C) (Cx.ok C) hz hXa hb hC) (rc_X4 (Cx.ok C) (Or.inl hXa.m)) rfl rfl (Nat.le_of_ble_eq_true rfl) (by omega) (Nat.zero_le _) (Nat.zero_le _) (fun v8 z8 k8 q8 => ?_)
  obtain ⟨hv8, hz8, M8, hg8, ht8, hX8, hF8⟩ := q8; replace hz8 := hz8.symm; subst hz8; subst hv8
  have hI8 : LwI (xG X) z k8 a (Dm 0) o := LwI.rd hCo hb hT hrn hV her hdj hno hFo Ho7 hg8 hX8 hF8
  have Ho8 : k8 o = some (.inl (gA (xG X) 2, (1, .inr (.inl f7)))) := by rw [hF8 o (fun i hi => ((hdj i hi).2).symm)]; exact Ho7
  refine ww_istore (lv' := [(6, .int ((aWay B (xs (i + 1))).1)), (5, .int (nI (aWay B (xs (i + 1))).2)), (4, .int (nI i)), (3, .ref o), (2, .ref (Dm 0)), (1, .ref a), (0, .ref b)]) C dL_law_1178 (by decide) rfl ?_
  refine ww_aload_n C dL_law_1180 rfl 4 rfl rfl ?_
  refine cv_X0_97_r (As := []) (rest := []) C dL_law_1181 (ct_X4_thrown (Cx.fl C) (Cx.ok C) hX8.m) (rc_X4 (Cx.ok C) (Or.inl hX8.m)) rfl rfl (Nat.le_of_ble_eq_true rfl) (by omega) (Nat.zero_le _) (Nat.zero_le _) ?_
  refine ww_iload C dL_law_1184 1 rfl ?_
  refine ww_icmp_eq_t (tgt := 1191) C dL_law_1186 (by decide) ht8 ?_
  refine ww_iload C dL_law_1191 1 rfl ?_
  refine ww_if_ne (tgt := 1208) C dL_law_1193 (by decide) (fun c_1193 => ?_) (fun c_1193 => ?_)
  · skip
    refine ww_goto (tgt := 1827) C dL_law_1208 (by decide) ?_
    refine ww_sub [2, 3, 4, 5, 6] rfl ?_
    exact ww_le (by omega) (by omega) (kk _ _ hz hI8)
  · skip
    have c9 : nI (aWay B (xs (i + 1))).2 = 0 := by first | exact c_1193 | (exact Decidable.not_not.mp c_1193)
    have hq0 : (aWay B (xs (i + 1))).2 = 0 := aWay_z c9
    have hf0 := hf7 hq0
    refine ww_aload_n C dL_law_1196 rfl 3 rfl rfl ?_
    refine ww_iconst C dL_law_1197 cI_0 ?_
    refine ww_lald C dL_law_1198 (Or.inl Ho8) (by decide) (by decide) ?_
    refine ww_iload C dL_law_1199 0 rfl ?_
    refine ww_i2l C dL_law_1201 rfl ?_
    refine ww_lcmp C dL_law_1202 ?_
    refine ww_if_eq_t (tgt := 1208) C dL_law_1203 (by decide) (by rw [hf0]; exact cmp_s _) ?_
    refine ww_goto (tgt := 1827) C dL_law_1208 (by decide) ?_
    refine ww_sub [2, 3, 4, 5, 6] rfl ?_
    exact ww_le (by omega) (by omega) (kk _ _ hz hI8)
set_option maxHeartbeats 2000000 in
theorem lwc_24 {X : XT} {P : Oc → ZR → AH → Prop} {z : ZR} {h : AH} {kc ns d : Nat} {a m o b L i : Nat} {xs : Nat → Int32} (C : Cx X cL_law 9 "RingDominoLaw" "law" (some .boolean) [] d) (hd0 : 2100 ≤ d) (hz : zle (cst (xG X)) z) (hI : LwI (xG X) z h a m o) (hs : va_X b L xs (gS (xG X)) (gS (xG X)).heap) (hbs : b < gN (xG X)) (hi : i + 6 ≤ L) (hL : L ≤ 384) (hk : 9390 ≤ kc) (hn : 113000 ≤ ns) (kk : ∀ z' h', zle (cst (xG X)) z' → LwI (xG X) z' h' a m o → WW X P z' h' (kc - 9390) (ns - 113000) 1827 [(4, .int (nI i)), (3, .ref o), (2, .ref m), (1, .ref a), (0, .ref b)] []) : WW X P z h kc ns 1211 [(4, .int (nI i)), (3, .ref o), (2, .ref m), (1, .ref a), (0, .ref b)] [] := by
  obtain ⟨tp, ba, g, ah, A, D, er, t, B, rn, T, Dm, M, f, hCo, hm, hX, hb, hT, hrn, hV, her, Ho, hdj, hno⟩ := hI
  subst hm
  obtain ⟨fb, G, dn, N, Ha, hTp, hTo, hM, hC, hS, hR, hG2, hN, hO, hAh, hd2, hd3⟩ := id hCo
  have hB := hC.1
  have hG := GmM.p hz hM
  have Ho : h o = some (.inl (gA (xG X) 2, (1, .inr (.inl f)))) := Ho
  have hzz := BO.z hB
  have hbt := hB.2.1
  have hto : ∀ q, fpC (xG X) a tp ba g ah A D q → q ≠ o := fun q f e => hno (e ▸ f)
  have fa : fpC (xG X) a tp ba g ah A D a := Or.inl rfl
  have fg : ∀ q, fpG (xG X) g A q → fpC (xG X) a tp ba g ah A D q := fun q f => Or.inr (Or.inr (Or.inr (Or.inl f)))
  have f4 : fpG (xG X) g A (A 4) := Or.inr (Or.inr (Or.inr (Or.inl rfl)))
  have na4 : a ≠ A 4 := fun e => (hd3 a (Or.inl rfl)).1 (e ▸ f4)
  have nag : a ≠ g := fun e => (hd3 a (Or.inl rfl)).1 (Or.inl e)
  have no4 : o ≠ A 4 := fun e => hno (fg _ (e ▸ f4))
  have nog : o ≠ g := fun e => hno (fg _ (Or.inl e))
  refine ww_ow0 hz (fun ow0 => ?_)
  have na6 : a ≠ A 6 := fun e => (hd3 a (Or.inl rfl)).1 (Or.inr (Or.inr (Or.inr (Or.inr (Or.inr (Or.inr ⟨Or.inr (Or.inr (Or.inl e)), ow0 _ _ Ha⟩))))))
  have no6 : o ≠ A 6 := fun e => hno (fg _ (Or.inr (Or.inr (Or.inr (Or.inr (Or.inr (Or.inr ⟨Or.inr (Or.inr (Or.inl e)), ow0 _ _ Ho⟩)))))))
  have na8 : a ≠ A 8 := fun e => (hd3 a (Or.inl rfl)).1 (Or.inr (Or.inr (Or.inr (Or.inr (Or.inr (Or.inr ⟨Or.inr (Or.inr (Or.inr e)), ow0 _ _ Ha⟩))))))
  have no8 : o ≠ A 8 := fun e => hno (fg _ (Or.inr (Or.inr (Or.inr (Or.inr (Or.inr (Or.inr ⟨Or.inr (Or.inr (Or.inr e)), ow0 _ _ Ho⟩)))))))
  refine ww_lv (lv' := [(4, .int (nI i)), (3, .ref o), (2, .ref (Dm 0)), (1, .ref a), (0, .ref b)]) rfl ?_
  show WW X P z h kc ns 1211 [(4, .int (nI i)), (3, .ref o), (2, .ref (Dm 0)), (1, .ref a), (0, .ref b)] []
  refine ww_aload_n C dL_law_1211 rfl 3 rfl rfl ?_
  refine ww_aload_n C dL_law_1212 rfl 4 rfl rfl ?_
  refine ww_iload C dL_law_1213 0 rfl ?_
  refine ww_iconst C dL_law_1215 cI_1 ?_
  refine ww_iaddn C dL_law_1216 ?_
  refine ww_sld (j := (i + 1)) C hs hbs (by omega) (by omega) dL_law_1217 ?_
  refine ww_aload_n C dL_law_1218 rfl 1 rfl rfl ?_
  refine cs_X0_184_q (As := [.ref a, .int (xs (i + 1)), .ref o]) (rest := []) C dL_law_1219 (ct_X0_isLeftover (Cx.fl C) (Cx.ok C) hz (Or.inl Ha) hG hB Ho) rfl rfl (Nat.le_of_ble_eq_true rfl) (by omega) (by omega) (by omega) (fun v7 z7 k7 q7 => ?_)
  obtain ⟨hv7, hz7, f7, hE7, hf7⟩ := q7; replace hz7 := hz7.symm; subst hz7; subst hv7
  refine ww_le (kc' := kc - 9390) (ns' := ns - 113000) (by omega) (by omega) ?_
  have hFo : ∀ q, q ≠ o → k7 q = h q := fun q hq => by rw [hE7, up_n hq]
  have Ho7 : k7 o = some (cOu (xG X) f7) := by rw [hE7]; exact up_s
  refine ww_istore (lv' := [(5, .int (nI (aLef B (xs (i + 1))).2)), (4, .int (nI i)), (3, .ref o), (2, .ref (Dm 0)), (1, .ref a), (0, .ref b)]) C dL_law_1222 (by decide) rfl ?_
  refine ww_aload_n C dL_law_1224 rfl 3 rfl rfl ?_
  refine ww_aload_n C dL_law_1225 rfl 5 rfl rfl ?_
  refine ww_iload C dL_law_1226 1 rfl ?_
  refine ww_iconst C dL_law_1228 cI_1 ?_
  refine ww_iaddn C dL_law_1229 ?_
  refine ww_sld (j := (i + 1)) C hs hbs (by omega) (by omega) dL_law_1230 ?_
  have hXa : Mx (xG X) k7 Dm M := ⟨fun j hj => by rw [hFo _ (hdj j hj).2]; exact hX.1 j hj, hX.2⟩
  refine cv_X0_186_q (As := [.int (xs (i + 1))]) (rest := []) C dL_law_1231 (ct_X4_isLeftover (Cx.fl C) (Cx.ok C) hz hXa hb hC) (rc_X4 (Cx.ok C) (Or.inl hXa.m)) rfl rfl (Nat.le_of_ble_eq_true rfl) (by omega) (Nat.zero_le _) (Nat.zero_le _) (fun v8 z8 k8 q8 => ?_)
  obtain ⟨hv8, hz8, M8, hg8, ht8, hX8, hF8⟩ := q8; replace hz8 := hz8.symm; subst hz8; subst hv8
  have hI8 : LwI (xG X) z k8 a (Dm 0) o := LwI.rd hCo hb hT hrn hV her hdj hno hFo Ho7 hg8 hX8 hF8
  have Ho8 : k8 o = some (.inl (gA (xG X) 2, (1, .inr (.inl f7)))) := by rw [hF8 o (fun i hi => ((hdj i hi).2).symm)]; exact Ho7
  refine ww_istore (lv' := [(6, .int ((aLef B (xs (i + 1))).1)), (5, .int (nI (aLef B (xs (i + 1))).2)), (4, .int (nI i)), (3, .ref o), (2, .ref (Dm 0)), (1, .ref a), (0, .ref b)]) C dL_law_1234 (by decide) rfl ?_
  refine ww_aload_n C dL_law_1236 rfl 4 rfl rfl ?_
  refine cv_X0_97_r (As := []) (rest := []) C dL_law_1237 (ct_X4_thrown (Cx.fl C) (Cx.ok C) hX8.m) (rc_X4 (Cx.ok C) (Or.inl hX8.m)) rfl rfl (Nat.le_of_ble_eq_true rfl) (by omega) (Nat.zero_le _) (Nat.zero_le _) ?_
  refine ww_iload C dL_law_1240 1 rfl ?_
  refine ww_icmp_eq_t (tgt := 1247) C dL_law_1242 (by decide) ht8 ?_
  refine ww_iload C dL_law_1247 1 rfl ?_
  refine ww_if_ne (tgt := 1271) C dL_law_1249 (by decide) (fun c_1249 => ?_) (fun c_1249 => ?_)
  · skip
    refine ww_goto (tgt := 1827) C dL_law_1271 (by decide) ?_
    refine ww_sub [2, 3, 4, 5, 6] rfl ?_
    exact ww_le (by omega) (by omega) (kk _ _ hz hI8)
  · skip
    have c9 : nI (aLef B (xs (i + 1))).2 = 0 := by first | exact c_1249 | (exact Decidable.not_not.mp c_1249)
    have hq0 : (aLef B (xs (i + 1))).2 = 0 := aLef_z c9
    have hf0 := hf7 hq0
    obtain ⟨b9, hb9⟩ := aLef_b B (xs (i + 1))
    refine ww_aload_n C dL_law_1252 rfl 3 rfl rfl ?_
    refine ww_iconst C dL_law_1253 cI_0 ?_
    refine ww_lald C dL_law_1254 (Or.inl Ho8) (by decide) (by decide) ?_
    refine ww_iload C dL_law_1255 0 rfl ?_
    refine ww_if_eq (tgt := 1264) C dL_law_1257 (by decide) (fun c_1257 => ?_) (fun c_1257 => ?_)
    · skip
      have c8 := c_1257; rw [hb9] at c8
      have e8 : ((aLef B (xs (i + 1)))).1.toInt64 = (0 : Int64) := by rw [hb9]; exact bI_640 c8
      refine ww_lconst (v := 0) C dL_law_1264 rfl ?_
      refine ww_lcmp C dL_law_1265 ?_
      refine ww_if_eq_t (tgt := 1271) C dL_law_1266 (by decide) (by rw [hf0, e8]; exact cmp_s _) ?_
      refine ww_goto (tgt := 1827) C dL_law_1271 (by decide) ?_
      refine ww_sub [2, 3, 4, 5, 6] rfl ?_
      exact ww_le (by omega) (by omega) (kk _ _ hz hI8)
    · skip
      have c8 := c_1257; rw [hb9] at c8
      have e8 : ((aLef B (xs (i + 1)))).1.toInt64 = (1 : Int64) := by rw [hb9]; exact bI_64 c8
      refine ww_lconst (v := 1) C dL_law_1260 rfl ?_
      refine ww_goto (tgt := 1265) C dL_law_1261 (by decide) ?_
      refine ww_lcmp C dL_law_1265 ?_
      refine ww_if_eq_t (tgt := 1271) C dL_law_1266 (by decide) (by rw [hf0, e8]; exact cmp_s _) ?_
      refine ww_goto (tgt := 1827) C dL_law_1271 (by decide) ?_
      refine ww_sub [2, 3, 4, 5, 6] rfl ?_
      exact ww_le (by omega) (by omega) (kk _ _ hz hI8)
set_option maxHeartbeats 2000000 in
theorem lwc_25 {X : XT} {P : Oc → ZR → AH → Prop} {z : ZR} {h : AH} {kc ns d : Nat} {a m o b L i : Nat} {xs : Nat → Int32} (C : Cx X cL_law 9 "RingDominoLaw" "law" (some .boolean) [] d) (hd0 : 2100 ≤ d) (hz : zle (cst (xG X)) z) (hI : LwI (xG X) z h a m o) (hs : va_X b L xs (gS (xG X)) (gS (xG X)).heap) (hbs : b < gN (xG X)) (hi : i + 6 ≤ L) (hL : L ≤ 384) (hk : 9390 ≤ kc) (hn : 113000 ≤ ns) (kk : ∀ z' h', zle (cst (xG X)) z' → LwI (xG X) z' h' a m o → WW X P z' h' (kc - 9390) (ns - 113000) 1827 [(4, .int (nI i)), (3, .ref o), (2, .ref m), (1, .ref a), (0, .ref b)] []) : WW X P z h kc ns 1274 [(4, .int (nI i)), (3, .ref o), (2, .ref m), (1, .ref a), (0, .ref b)] [] := by
  obtain ⟨tp, ba, g, ah, A, D, er, t, B, rn, T, Dm, M, f, hCo, hm, hX, hb, hT, hrn, hV, her, Ho, hdj, hno⟩ := hI
  subst hm
  obtain ⟨fb, G, dn, N, Ha, hTp, hTo, hM, hC, hS, hR, hG2, hN, hO, hAh, hd2, hd3⟩ := id hCo
  have hB := hC.1
  have hG := GmM.p hz hM
  have Ho : h o = some (.inl (gA (xG X) 2, (1, .inr (.inl f)))) := Ho
  have hzz := BO.z hB
  have hbt := hB.2.1
  have hto : ∀ q, fpC (xG X) a tp ba g ah A D q → q ≠ o := fun q f e => hno (e ▸ f)
  have fa : fpC (xG X) a tp ba g ah A D a := Or.inl rfl
  have fg : ∀ q, fpG (xG X) g A q → fpC (xG X) a tp ba g ah A D q := fun q f => Or.inr (Or.inr (Or.inr (Or.inl f)))
  have f4 : fpG (xG X) g A (A 4) := Or.inr (Or.inr (Or.inr (Or.inl rfl)))
  have na4 : a ≠ A 4 := fun e => (hd3 a (Or.inl rfl)).1 (e ▸ f4)
  have nag : a ≠ g := fun e => (hd3 a (Or.inl rfl)).1 (Or.inl e)
  have no4 : o ≠ A 4 := fun e => hno (fg _ (e ▸ f4))
  have nog : o ≠ g := fun e => hno (fg _ (Or.inl e))
  refine ww_ow0 hz (fun ow0 => ?_)
  have na6 : a ≠ A 6 := fun e => (hd3 a (Or.inl rfl)).1 (Or.inr (Or.inr (Or.inr (Or.inr (Or.inr (Or.inr ⟨Or.inr (Or.inr (Or.inl e)), ow0 _ _ Ha⟩))))))
  have no6 : o ≠ A 6 := fun e => hno (fg _ (Or.inr (Or.inr (Or.inr (Or.inr (Or.inr (Or.inr ⟨Or.inr (Or.inr (Or.inl e)), ow0 _ _ Ho⟩)))))))
  have na8 : a ≠ A 8 := fun e => (hd3 a (Or.inl rfl)).1 (Or.inr (Or.inr (Or.inr (Or.inr (Or.inr (Or.inr ⟨Or.inr (Or.inr (Or.inr e)), ow0 _ _ Ha⟩))))))
  have no8 : o ≠ A 8 := fun e => hno (fg _ (Or.inr (Or.inr (Or.inr (Or.inr (Or.inr (Or.inr ⟨Or.inr (Or.inr (Or.inr e)), ow0 _ _ Ho⟩)))))))
  refine ww_lv (lv' := [(4, .int (nI i)), (3, .ref o), (2, .ref (Dm 0)), (1, .ref a), (0, .ref b)]) rfl ?_
  show WW X P z h kc ns 1274 [(4, .int (nI i)), (3, .ref o), (2, .ref (Dm 0)), (1, .ref a), (0, .ref b)] []
  refine ww_aload_n C dL_law_1274 rfl 3 rfl rfl ?_
  refine ww_aload_n C dL_law_1275 rfl 4 rfl rfl ?_
  refine ww_iload C dL_law_1276 0 rfl ?_
  refine ww_iconst C dL_law_1278 cI_1 ?_
  refine ww_iaddn C dL_law_1279 ?_
  refine ww_sld (j := (i + 1)) C hs hbs (by omega) (by omega) dL_law_1280 ?_
  refine ww_aload_n C dL_law_1281 rfl 1 rfl rfl ?_
  refine cs_X0_187_q (As := [.ref a, .int (xs (i + 1)), .ref o]) (rest := []) C dL_law_1282 (ct_X0_looksToProve (Cx.fl C) (Cx.ok C) hz (Or.inl Ha) hG hB Ho) rfl rfl (Nat.le_of_ble_eq_true rfl) (by omega) (by omega) (by omega) (fun v7 z7 k7 q7 => ?_)
  obtain ⟨hv7, hz7, f7, hE7, hf7⟩ := q7; replace hz7 := hz7.symm; subst hz7; subst hv7
  refine ww_le (kc' := kc - 9390) (ns' := ns - 113000) (by omega) (by omega) ?_
  have hFo : ∀ q, q ≠ o → k7 q = h q := fun q hq => by rw [hE7, up_n hq]
  have Ho7 : k7 o = some (cOu (xG X) f7) := by rw [hE7]; exact up_s
  refine ww_istore (lv' := [(5, .int (nI (aLok B (xs (i + 1))).2)), (4, .int (nI i)), (3, .ref o), (2, .ref (Dm 0)), (1, .ref a), (0, .ref b)]) C dL_law_1285 (by decide) rfl ?_
  refine ww_aload_n C dL_law_1287 rfl 3 rfl rfl ?_
  refine ww_aload_n C dL_law_1288 rfl 5 rfl rfl ?_
  refine ww_iload C dL_law_1289 1 rfl ?_
  refine ww_iconst C dL_law_1291 cI_1 ?_
  refine ww_iaddn C dL_law_1292 ?_
  refine ww_sld (j := (i + 1)) C hs hbs (by omega) (by omega) dL_law_1293 ?_
  have hXa : Mx (xG X) k7 Dm M := ⟨fun j hj => by rw [hFo _ (hdj j hj).2]; exact hX.1 j hj, hX.2⟩
  refine cv_X0_189_q (As := [.int (xs (i + 1))]) (rest := []) C dL_law_1294 (ct_X4_looksToProve (Cx.fl C) (Cx.ok C) hz hXa hb hC) (rc_X4 (Cx.ok C) (Or.inl hXa.m)) rfl rfl (Nat.le_of_ble_eq_true rfl) (by omega) (Nat.zero_le _) (Nat.zero_le _) (fun v8 z8 k8 q8 => ?_)
  obtain ⟨hv8, hz8, M8, hg8, ht8, hX8, hF8⟩ := q8; replace hz8 := hz8.symm; subst hz8; subst hv8
  have hI8 : LwI (xG X) z k8 a (Dm 0) o := LwI.rd hCo hb hT hrn hV her hdj hno hFo Ho7 hg8 hX8 hF8
  have Ho8 : k8 o = some (.inl (gA (xG X) 2, (1, .inr (.inl f7)))) := by rw [hF8 o (fun i hi => ((hdj i hi).2).symm)]; exact Ho7
  refine ww_istore (lv' := [(6, .int ((aLok B (xs (i + 1))).1)), (5, .int (nI (aLok B (xs (i + 1))).2)), (4, .int (nI i)), (3, .ref o), (2, .ref (Dm 0)), (1, .ref a), (0, .ref b)]) C dL_law_1297 (by decide) rfl ?_
  refine ww_aload_n C dL_law_1299 rfl 4 rfl rfl ?_
  refine cv_X0_97_r (As := []) (rest := []) C dL_law_1300 (ct_X4_thrown (Cx.fl C) (Cx.ok C) hX8.m) (rc_X4 (Cx.ok C) (Or.inl hX8.m)) rfl rfl (Nat.le_of_ble_eq_true rfl) (by omega) (Nat.zero_le _) (Nat.zero_le _) ?_
  refine ww_iload C dL_law_1303 1 rfl ?_
  refine ww_icmp_eq_t (tgt := 1310) C dL_law_1305 (by decide) ht8 ?_
  refine ww_iload C dL_law_1310 1 rfl ?_
  refine ww_if_ne (tgt := 1327) C dL_law_1312 (by decide) (fun c_1312 => ?_) (fun c_1312 => ?_)
  · skip
    refine ww_goto (tgt := 1827) C dL_law_1327 (by decide) ?_
    refine ww_sub [2, 3, 4, 5, 6] rfl ?_
    exact ww_le (by omega) (by omega) (kk _ _ hz hI8)
  · skip
    have c9 : nI (aLok B (xs (i + 1))).2 = 0 := by first | exact c_1312 | (exact Decidable.not_not.mp c_1312)
    have hq0 : (aLok B (xs (i + 1))).2 = 0 := aLok_z c9
    have hf0 := hf7 hq0
    refine ww_aload_n C dL_law_1315 rfl 3 rfl rfl ?_
    refine ww_iconst C dL_law_1316 cI_0 ?_
    refine ww_lald C dL_law_1317 (Or.inl Ho8) (by decide) (by decide) ?_
    refine ww_iload C dL_law_1318 0 rfl ?_
    refine ww_i2l C dL_law_1320 rfl ?_
    refine ww_lcmp C dL_law_1321 ?_
    refine ww_if_eq_t (tgt := 1327) C dL_law_1322 (by decide) (by rw [hf0]; exact cmp_s _) ?_
    refine ww_goto (tgt := 1827) C dL_law_1327 (by decide) ?_
    refine ww_sub [2, 3, 4, 5, 6] rfl ?_
    exact ww_le (by omega) (by omega) (kk _ _ hz hI8)
set_option maxHeartbeats 2000000 in
theorem lwc_32 {X : XT} {P : Oc → ZR → AH → Prop} {z : ZR} {h : AH} {kc ns d : Nat} {a m o b L i : Nat} {xs : Nat → Int32} (C : Cx X cL_law 9 "RingDominoLaw" "law" (some .boolean) [] d) (hd0 : 2100 ≤ d) (hz : zle (cst (xG X)) z) (hI : LwI (xG X) z h a m o) (hs : va_X b L xs (gS (xG X)) (gS (xG X)).heap) (hbs : b < gN (xG X)) (hi : i + 6 ≤ L) (hL : L ≤ 384) (hk : 9390 ≤ kc) (hn : 113000 ≤ ns) (kk : ∀ z' h', zle (cst (xG X)) z' → LwI (xG X) z' h' a m o → WW X P z' h' (kc - 9390) (ns - 113000) 1827 [(4, .int (nI i)), (3, .ref o), (2, .ref m), (1, .ref a), (0, .ref b)] []) : WW X P z h kc ns 1647 [(4, .int (nI i)), (3, .ref o), (2, .ref m), (1, .ref a), (0, .ref b)] [] := by
  obtain ⟨tp, ba, g, ah, A, D, er, t, B, rn, T, Dm, M, f, hCo, hm, hX, hb, hT, hrn, hV, her, Ho, hdj, hno⟩ := hI
  subst hm
  obtain ⟨fb, G, dn, N, Ha, hTp, hTo, hM, hC, hS, hR, hG2, hN, hO, hAh, hd2, hd3⟩ := id hCo
  have hB := hC.1
  have hG := GmM.p hz hM
  have Ho : h o = some (.inl (gA (xG X) 2, (1, .inr (.inl f)))) := Ho
  have hzz := BO.z hB
  have hbt := hB.2.1
  have hto : ∀ q, fpC (xG X) a tp ba g ah A D q → q ≠ o := fun q f e => hno (e ▸ f)
  have fa : fpC (xG X) a tp ba g ah A D a := Or.inl rfl
  have fg : ∀ q, fpG (xG X) g A q → fpC (xG X) a tp ba g ah A D q := fun q f => Or.inr (Or.inr (Or.inr (Or.inl f)))
  have f4 : fpG (xG X) g A (A 4) := Or.inr (Or.inr (Or.inr (Or.inl rfl)))
  have na4 : a ≠ A 4 := fun e => (hd3 a (Or.inl rfl)).1 (e ▸ f4)
  have nag : a ≠ g := fun e => (hd3 a (Or.inl rfl)).1 (Or.inl e)
  have no4 : o ≠ A 4 := fun e => hno (fg _ (e ▸ f4))
  have nog : o ≠ g := fun e => hno (fg _ (Or.inl e))
  refine ww_ow0 hz (fun ow0 => ?_)
  have na6 : a ≠ A 6 := fun e => (hd3 a (Or.inl rfl)).1 (Or.inr (Or.inr (Or.inr (Or.inr (Or.inr (Or.inr ⟨Or.inr (Or.inr (Or.inl e)), ow0 _ _ Ha⟩))))))
  have no6 : o ≠ A 6 := fun e => hno (fg _ (Or.inr (Or.inr (Or.inr (Or.inr (Or.inr (Or.inr ⟨Or.inr (Or.inr (Or.inl e)), ow0 _ _ Ho⟩)))))))
  have na8 : a ≠ A 8 := fun e => (hd3 a (Or.inl rfl)).1 (Or.inr (Or.inr (Or.inr (Or.inr (Or.inr (Or.inr ⟨Or.inr (Or.inr (Or.inr e)), ow0 _ _ Ha⟩))))))
  have no8 : o ≠ A 8 := fun e => hno (fg _ (Or.inr (Or.inr (Or.inr (Or.inr (Or.inr (Or.inr ⟨Or.inr (Or.inr (Or.inr e)), ow0 _ _ Ho⟩)))))))
  refine ww_lv (lv' := [(4, .int (nI i)), (3, .ref o), (2, .ref (Dm 0)), (1, .ref a), (0, .ref b)]) rfl ?_
  show WW X P z h kc ns 1647 [(4, .int (nI i)), (3, .ref o), (2, .ref (Dm 0)), (1, .ref a), (0, .ref b)] []
  refine ww_aload_n C dL_law_1647 rfl 3 rfl rfl ?_
  refine ww_aload_n C dL_law_1648 rfl 4 rfl rfl ?_
  refine ww_iload C dL_law_1649 0 rfl ?_
  refine ww_iconst C dL_law_1651 cI_1 ?_
  refine ww_iaddn C dL_law_1652 ?_
  refine ww_sld (j := (i + 1)) C hs hbs (by omega) (by omega) dL_law_1653 ?_
  refine ww_aload_n C dL_law_1654 rfl 1 rfl rfl ?_
  have hbw : bwM B (xs (i + 1)) ≤ 288 := bwM_288 hC
  refine cs_X0_209_q (As := [.ref a, .int (xs (i + 1)), .ref o]) (rest := []) C dL_law_1655 (ct_X0_bestCell (Cx.fl C) (Cx.ok C) hz (Or.inl Ha) hM hC Ho) rfl rfl (Nat.le_of_ble_eq_true rfl) (by omega) (by omega) (by omega) (fun v7 z7 k7 q7 => ?_)
  obtain ⟨hv7, hz7, f7, hE7, hf7⟩ := q7; replace hz7 := hz7.symm; subst hz7; subst hv7
  refine ww_le (kc' := kc - 9390) (ns' := ns - 113000) (by omega) (by omega) ?_
  have hFo : ∀ q, q ≠ o → k7 q = h q := fun q hq => by rw [hE7, up_n hq]
  have Ho7 : k7 o = some (cOu (xG X) f7) := by rw [hE7]; exact up_s
  refine ww_istore (lv' := [(5, .int (nI (aBeC B (xs (i + 1))).2)), (4, .int (nI i)), (3, .ref o), (2, .ref (Dm 0)), (1, .ref a), (0, .ref b)]) C dL_law_1658 (by decide) rfl ?_
  refine ww_aload_n C dL_law_1660 rfl 3 rfl rfl ?_
  refine ww_aload_n C dL_law_1661 rfl 5 rfl rfl ?_
  refine ww_iload C dL_law_1662 1 rfl ?_
  refine ww_iconst C dL_law_1664 cI_1 ?_
  refine ww_iaddn C dL_law_1665 ?_
  refine ww_sld (j := (i + 1)) C hs hbs (by omega) (by omega) dL_law_1666 ?_
  have hXa : Mx (xG X) k7 Dm M := ⟨fun j hj => by rw [hFo _ (hdj j hj).2]; exact hX.1 j hj, hX.2⟩
  refine cv_X0_211_q (As := [.int (xs (i + 1))]) (rest := []) C dL_law_1667 (ct_X4_bestCell (Cx.fl C) (Cx.ok C) hz hXa hb hC) (rc_X4 (Cx.ok C) (Or.inl hXa.m)) rfl rfl (Nat.le_of_ble_eq_true rfl) (by omega) (Nat.zero_le _) (Nat.zero_le _) (fun v8 z8 k8 q8 => ?_)
  obtain ⟨hv8, hz8, M8, hg8, ht8, hX8, hF8⟩ := q8; replace hz8 := hz8.symm; subst hz8; subst hv8
  have hI8 : LwI (xG X) z k8 a (Dm 0) o := LwI.rd hCo hb hT hrn hV her hdj hno hFo Ho7 hg8 hX8 hF8
  have Ho8 : k8 o = some (.inl (gA (xG X) 2, (1, .inr (.inl f7)))) := by rw [hF8 o (fun i hi => ((hdj i hi).2).symm)]; exact Ho7
  refine ww_istore (lv' := [(6, .int ((aBeC B (xs (i + 1))).1)), (5, .int (nI (aBeC B (xs (i + 1))).2)), (4, .int (nI i)), (3, .ref o), (2, .ref (Dm 0)), (1, .ref a), (0, .ref b)]) C dL_law_1670 (by decide) rfl ?_
  refine ww_aload_n C dL_law_1672 rfl 4 rfl rfl ?_
  refine cv_X0_97_r (As := []) (rest := []) C dL_law_1673 (ct_X4_thrown (Cx.fl C) (Cx.ok C) hX8.m) (rc_X4 (Cx.ok C) (Or.inl hX8.m)) rfl rfl (Nat.le_of_ble_eq_true rfl) (by omega) (Nat.zero_le _) (Nat.zero_le _) ?_
  refine ww_iload C dL_law_1676 1 rfl ?_
  refine ww_icmp_eq_t (tgt := 1683) C dL_law_1678 (by decide) ht8 ?_
  refine ww_iload C dL_law_1683 1 rfl ?_
  refine ww_if_ne (tgt := 1700) C dL_law_1685 (by decide) (fun c_1685 => ?_) (fun c_1685 => ?_)
  · skip
    refine ww_goto (tgt := 1827) C dL_law_1700 (by decide) ?_
    refine ww_sub [2, 3, 4, 5, 6] rfl ?_
    exact ww_le (by omega) (by omega) (kk _ _ hz hI8)
  · skip
    have c9 : nI (aBeC B (xs (i + 1))).2 = 0 := by first | exact c_1685 | (exact Decidable.not_not.mp c_1685)
    have hq0 : (aBeC B (xs (i + 1))).2 = 0 := aBeC_z c9
    have hf0 := hf7 hq0
    refine ww_aload_n C dL_law_1688 rfl 3 rfl rfl ?_
    refine ww_iconst C dL_law_1689 cI_0 ?_
    refine ww_lald C dL_law_1690 (Or.inl Ho8) (by decide) (by decide) ?_
    refine ww_iload C dL_law_1691 0 rfl ?_
    refine ww_i2l C dL_law_1693 rfl ?_
    refine ww_lcmp C dL_law_1694 ?_
    refine ww_if_eq_t (tgt := 1700) C dL_law_1695 (by decide) (by rw [hf0]; exact cmp_s _) ?_
    refine ww_goto (tgt := 1827) C dL_law_1700 (by decide) ?_
    refine ww_sub [2, 3, 4, 5, 6] rfl ?_
    exact ww_le (by omega) (by omega) (kk _ _ hz hI8)
set_option maxHeartbeats 2000000 in
theorem lwc_33 {X : XT} {P : Oc → ZR → AH → Prop} {z : ZR} {h : AH} {kc ns d : Nat} {a m o b L i : Nat} {xs : Nat → Int32} (C : Cx X cL_law 9 "RingDominoLaw" "law" (some .boolean) [] d) (hd0 : 2100 ≤ d) (hz : zle (cst (xG X)) z) (hI : LwI (xG X) z h a m o) (hs : va_X b L xs (gS (xG X)) (gS (xG X)).heap) (hbs : b < gN (xG X)) (hi : i + 6 ≤ L) (hL : L ≤ 384) (hk : 9390 ≤ kc) (hn : 113000 ≤ ns) (kk : ∀ z' h', zle (cst (xG X)) z' → LwI (xG X) z' h' a m o → WW X P z' h' (kc - 9390) (ns - 113000) 1827 [(4, .int (nI i)), (3, .ref o), (2, .ref m), (1, .ref a), (0, .ref b)] []) : WW X P z h kc ns 1703 [(4, .int (nI i)), (3, .ref o), (2, .ref m), (1, .ref a), (0, .ref b)] [] := by
  obtain ⟨tp, ba, g, ah, A, D, er, t, B, rn, T, Dm, M, f, hCo, hm, hX, hb, hT, hrn, hV, her, Ho, hdj, hno⟩ := hI
  subst hm
  obtain ⟨fb, G, dn, N, Ha, hTp, hTo, hM, hC, hS, hR, hG2, hN, hO, hAh, hd2, hd3⟩ := id hCo
  have hB := hC.1
  have hG := GmM.p hz hM
  have Ho : h o = some (.inl (gA (xG X) 2, (1, .inr (.inl f)))) := Ho
  have hzz := BO.z hB
  have hbt := hB.2.1
  have hto : ∀ q, fpC (xG X) a tp ba g ah A D q → q ≠ o := fun q f e => hno (e ▸ f)
  have fa : fpC (xG X) a tp ba g ah A D a := Or.inl rfl
  have fg : ∀ q, fpG (xG X) g A q → fpC (xG X) a tp ba g ah A D q := fun q f => Or.inr (Or.inr (Or.inr (Or.inl f)))
  have f4 : fpG (xG X) g A (A 4) := Or.inr (Or.inr (Or.inr (Or.inl rfl)))
  have na4 : a ≠ A 4 := fun e => (hd3 a (Or.inl rfl)).1 (e ▸ f4)
  have nag : a ≠ g := fun e => (hd3 a (Or.inl rfl)).1 (Or.inl e)
  have no4 : o ≠ A 4 := fun e => hno (fg _ (e ▸ f4))
  have nog : o ≠ g := fun e => hno (fg _ (Or.inl e))
  refine ww_ow0 hz (fun ow0 => ?_)
  have na6 : a ≠ A 6 := fun e => (hd3 a (Or.inl rfl)).1 (Or.inr (Or.inr (Or.inr (Or.inr (Or.inr (Or.inr ⟨Or.inr (Or.inr (Or.inl e)), ow0 _ _ Ha⟩))))))
  have no6 : o ≠ A 6 := fun e => hno (fg _ (Or.inr (Or.inr (Or.inr (Or.inr (Or.inr (Or.inr ⟨Or.inr (Or.inr (Or.inl e)), ow0 _ _ Ho⟩)))))))
  have na8 : a ≠ A 8 := fun e => (hd3 a (Or.inl rfl)).1 (Or.inr (Or.inr (Or.inr (Or.inr (Or.inr (Or.inr ⟨Or.inr (Or.inr (Or.inr e)), ow0 _ _ Ha⟩))))))
  have no8 : o ≠ A 8 := fun e => hno (fg _ (Or.inr (Or.inr (Or.inr (Or.inr (Or.inr (Or.inr ⟨Or.inr (Or.inr (Or.inr e)), ow0 _ _ Ho⟩)))))))
  refine ww_lv (lv' := [(4, .int (nI i)), (3, .ref o), (2, .ref (Dm 0)), (1, .ref a), (0, .ref b)]) rfl ?_
  show WW X P z h kc ns 1703 [(4, .int (nI i)), (3, .ref o), (2, .ref (Dm 0)), (1, .ref a), (0, .ref b)] []
  refine ww_aload_n C dL_law_1703 rfl 3 rfl rfl ?_
  refine ww_aload_n C dL_law_1704 rfl 4 rfl rfl ?_
  refine ww_iload C dL_law_1705 0 rfl ?_
  refine ww_iconst C dL_law_1707 cI_1 ?_
  refine ww_iaddn C dL_law_1708 ?_
  refine ww_sld (j := (i + 1)) C hs hbs (by omega) (by omega) dL_law_1709 ?_
  refine ww_aload_n C dL_law_1710 rfl 1 rfl rfl ?_
  have hbw : bwM B (xs (i + 1)) ≤ 288 := bwM_288 hC
  refine cs_X0_212_q (As := [.ref a, .int (xs (i + 1)), .ref o]) (rest := []) C dL_law_1711 (ct_X0_bestTurn (Cx.fl C) (Cx.ok C) hz (Or.inl Ha) hM hC Ho) rfl rfl (Nat.le_of_ble_eq_true rfl) (by omega) (by omega) (by omega) (fun v7 z7 k7 q7 => ?_)
  obtain ⟨hv7, hz7, f7, hE7, hf7⟩ := q7; replace hz7 := hz7.symm; subst hz7; subst hv7
  refine ww_le (kc' := kc - 9390) (ns' := ns - 113000) (by omega) (by omega) ?_
  have hFo : ∀ q, q ≠ o → k7 q = h q := fun q hq => by rw [hE7, up_n hq]
  have Ho7 : k7 o = some (cOu (xG X) f7) := by rw [hE7]; exact up_s
  refine ww_istore (lv' := [(5, .int (nI (aBeT B (xs (i + 1))).2)), (4, .int (nI i)), (3, .ref o), (2, .ref (Dm 0)), (1, .ref a), (0, .ref b)]) C dL_law_1714 (by decide) rfl ?_
  refine ww_aload_n C dL_law_1716 rfl 3 rfl rfl ?_
  refine ww_aload_n C dL_law_1717 rfl 5 rfl rfl ?_
  refine ww_iload C dL_law_1718 1 rfl ?_
  refine ww_iconst C dL_law_1720 cI_1 ?_
  refine ww_iaddn C dL_law_1721 ?_
  refine ww_sld (j := (i + 1)) C hs hbs (by omega) (by omega) dL_law_1722 ?_
  have hXa : Mx (xG X) k7 Dm M := ⟨fun j hj => by rw [hFo _ (hdj j hj).2]; exact hX.1 j hj, hX.2⟩
  refine cv_X0_214_q (As := [.int (xs (i + 1))]) (rest := []) C dL_law_1723 (ct_X4_bestTurn (Cx.fl C) (Cx.ok C) hz hXa hb hC) (rc_X4 (Cx.ok C) (Or.inl hXa.m)) rfl rfl (Nat.le_of_ble_eq_true rfl) (by omega) (Nat.zero_le _) (Nat.zero_le _) (fun v8 z8 k8 q8 => ?_)
  obtain ⟨hv8, hz8, M8, hg8, ht8, hX8, hF8⟩ := q8; replace hz8 := hz8.symm; subst hz8; subst hv8
  have hI8 : LwI (xG X) z k8 a (Dm 0) o := LwI.rd hCo hb hT hrn hV her hdj hno hFo Ho7 hg8 hX8 hF8
  have Ho8 : k8 o = some (.inl (gA (xG X) 2, (1, .inr (.inl f7)))) := by rw [hF8 o (fun i hi => ((hdj i hi).2).symm)]; exact Ho7
  refine ww_istore (lv' := [(6, .int ((aBeT B (xs (i + 1))).1)), (5, .int (nI (aBeT B (xs (i + 1))).2)), (4, .int (nI i)), (3, .ref o), (2, .ref (Dm 0)), (1, .ref a), (0, .ref b)]) C dL_law_1726 (by decide) rfl ?_
  refine ww_aload_n C dL_law_1728 rfl 4 rfl rfl ?_
  refine cv_X0_97_r (As := []) (rest := []) C dL_law_1729 (ct_X4_thrown (Cx.fl C) (Cx.ok C) hX8.m) (rc_X4 (Cx.ok C) (Or.inl hX8.m)) rfl rfl (Nat.le_of_ble_eq_true rfl) (by omega) (Nat.zero_le _) (Nat.zero_le _) ?_
  refine ww_iload C dL_law_1732 1 rfl ?_
  refine ww_icmp_eq_t (tgt := 1739) C dL_law_1734 (by decide) ht8 ?_
  refine ww_iload C dL_law_1739 1 rfl ?_
  refine ww_if_ne (tgt := 1756) C dL_law_1741 (by decide) (fun c_1741 => ?_) (fun c_1741 => ?_)
  · skip
    refine ww_goto (tgt := 1827) C dL_law_1756 (by decide) ?_
    refine ww_sub [2, 3, 4, 5, 6] rfl ?_
    exact ww_le (by omega) (by omega) (kk _ _ hz hI8)
  · skip
    have c9 : nI (aBeT B (xs (i + 1))).2 = 0 := by first | exact c_1741 | (exact Decidable.not_not.mp c_1741)
    have hq0 : (aBeT B (xs (i + 1))).2 = 0 := aBeT_z c9
    have hf0 := hf7 hq0
    refine ww_aload_n C dL_law_1744 rfl 3 rfl rfl ?_
    refine ww_iconst C dL_law_1745 cI_0 ?_
    refine ww_lald C dL_law_1746 (Or.inl Ho8) (by decide) (by decide) ?_
    refine ww_iload C dL_law_1747 0 rfl ?_
    refine ww_i2l C dL_law_1749 rfl ?_
    refine ww_lcmp C dL_law_1750 ?_
    refine ww_if_eq_t (tgt := 1756) C dL_law_1751 (by decide) (by rw [hf0]; exact cmp_s _) ?_
    refine ww_goto (tgt := 1827) C dL_law_1756 (by decide) ?_
    refine ww_sub [2, 3, 4, 5, 6] rfl ?_
    exact ww_le (by omega) (by omega) (kk _ _ hz hI8)
end LAW3
