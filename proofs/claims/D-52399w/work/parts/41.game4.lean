section GA4
set_option maxRecDepth 100000
set_option maxHeartbeats 2000000 in
theorem ct_X3_put {l : Launch} {Γ : Gm} (hl : l.flags = flags0) (hΓ : GOK Γ) {z : ZR} {h : AH} {g : Nat} {A : Nat → Nat} {B : GB} {G : GG} {rn dn : Int32} {k x t : Nat} (hz : zle (cst Γ) z) (hM : GmM Γ z h g A B G rn dn) (hB : BO B) (hk : k < Bt B) (hx : x < 49) (ht : t < 6) : Ct l Γ yX3_put cX3_put 4 (some .boolean) 4 0 0 [.ref g, .int (nI k), .int (nI x), .int (nI t)] z h (Rv (fun v z' h' => v = .int (nI 1) ∧ z' = z ∧ h' = gmH Γ h A G (putB B k x t))) := by
  refine Ct.of hl hΓ (by decide +kernel) (Nat.le_of_ble_eq_true rfl) (fun X e1 e2 C => ?_)
  subst e1; subst e2
  have C : Cx X cX3_put 4 "RingDomino$Game" "put" (some .boolean) [] 4 := C
  obtain ⟨Hg, Hl, L1, Ht, L0, L2, L3, Hd⟩ := id hM
  obtain ⟨⟨⟨c1, c2⟩, ⟨r1, r2⟩⟩, t1, bl1, bu1, bp1, bn1⟩ := id hB
  have hzz := BO.z hB
  have hbl := BO.l hB
  have hG := GmM.p hz hM
  show WW X (Rv (fun v z' h' => v = .int (nI 1) ∧ z' = z ∧ h' = gmH (xG X) h A G (putB B k x t))) z h 0 0 0 [(0, .ref g), (1, .int (nI k)), (2, .int (nI x)), (3, .int (nI t))] []
  have Hc := L2.ow hk
  have Hu := L3.ow hk
  have hne := GmM.ne hM hk
  replace Hc := Hc.1; replace Hu := Hu.1
  have e5 := L2.1
  have e7 := L3.1
  have ne0 : A 6 ≠ A 8 := hne.2.2
  have ne2 : A 4 ≠ A 6 := hne.1
  have ne3 : A 4 ≠ A 8 := hne.2.1
  have ne4 : A 5 ≠ A 4 := (ne_ob e5 Hl (by simp [cAL, cLi, cAr]))
  have ne5 : A 5 ≠ A 6 := (ne_ob e5 Hc (by simp [cAL, cLi, cAr]))
  have ne6 : A 5 ≠ A 8 := (ne_ob e5 Hu (by simp [cAL, cLi, cAr]))
  have ne7 : A 7 ≠ A 4 := (ne_ob e7 Hl (by simp [cAL, cLi, cAr]))
  have ne8 : A 7 ≠ A 6 := (ne_ob e7 Hc (by simp [cAL, cLi, cAr]))
  have ne9 : A 7 ≠ A 8 := (ne_ob e7 Hu (by simp [cAL, cLi, cAr]))
  have ne10 : g ≠ A 4 := (ne_ob Hg Hl (by simp [cGm, cLi, cAr]))
  have ne11 : g ≠ A 6 := (ne_ob Hg Hc (by simp [cGm, cLi, cAr]))
  have ne12 : g ≠ A 8 := (ne_ob Hg Hu (by simp [cGm, cLi, cAr]))
  refine ww_aload_n C dX3_put_0 rfl 0 rfl rfl ?_
  refine gf_X3_28_X3 C dX3_put_1 (Or.inl Hg) rfl ?_
  refine ww_iload_n C dX3_put_4 rfl 2 rfl ?_
  refine ww_iload_n C dX3_put_5 rfl 1 rfl ?_
  refine ww_iconst C dX3_put_6 cI_1 ?_
  refine ww_iaddn C dX3_put_7 ?_
  refine ww_iast C dX3_put_8 Hl (by omega) (by decide) ?_
  refine ww_gen (fun h1 hE1 => ?_)
  have Hg_h1 : h1 g = some (.inr (2, [.int (nI (Bc B)), .int (nI (Br B)), .ref (A 0), .ref (A 2), .int rn, .int dn, .ref (A 4), .ref (A 5), .ref (A 7)])) := by rw [hE1, up_n ne10]; exact Hg
  have e5_h1 : h1 (A 5) = some (.inr (23, [.int (G.1 2), .ref (A 6), .int (nI (Bt B))])) := by rw [hE1, up_n ne4]; exact e5
  have e7_h1 : h1 (A 7) = some (.inr (23, [.int (G.1 3), .ref (A 8), .int (nI (Bt B))])) := by rw [hE1, up_n ne7]; exact e7
  have Hc_h1 : h1 (A 6) = some (.inl (gA (xG X) 4, (G.2.1 2, refs (lf (Bt B) (fun k => bxA (xG X) (oI (Bp B k))))))) := by rw [hE1, up_n (Ne.symm ne2)]; exact Hc
  have Hu_h1 : h1 (A 8) = some (.inl (gA (xG X) 4, (G.2.1 3, refs (lf (Bt B) (fun k => bxA (xG X) (nI (Bu B k))))))) := by rw [hE1, up_n (Ne.symm ne3)]; exact Hu
  have Hl_h1 : h1 (A 4) = some (.inl (gA (xG X) 0, (49, .inl (upd (fun x => nI (Bl B x)) x (nI (k + 1)))))) := by rw [hE1]; exact up_s
  refine ww_aload_n C dX3_put_9 rfl 0 rfl rfl ?_
  refine gf_X3_32_X3 C dX3_put_10 (Or.inl Hg_h1) rfl ?_
  refine ww_iload_n C dX3_put_13 rfl 1 rfl ?_
  refine ww_iload_n C dX3_put_14 rfl 2 rfl ?_
  refine cs_X3_42_r (As := [.int (nI x)]) (rest := [.int (nI k), .ref (A 5)]) C dX3_put_15 (ct_J19_valueOf (Cx.fl C) (Cx.ok C) hz (nI_rng hx).1 (nI_rng hx).2) rfl rfl (Nat.le_of_ble_eq_true rfl) (by decide) (Nat.zero_le _) (Nat.zero_le _) ?_
  have hvv : rcv (xG X) z h1 (bxA (xG X) (nI x)) "java/lang/Integer" := rc_J19 (Cx.ok C) (bx_rd hz (nI_rng hx))
  refine cv_X3_114_q (As := [.int (nI k), .ref (bxA (xG X) (nI x))]) (rest := []) C dX3_put_18 (ct_J2_set (Cx.fl C) (Cx.ok C) (Or.inl e5_h1) Hc_h1 L2.2.2.1 L2.2.2.2 hk hvv q3421) (rc_J2 (Cx.ok C) (Or.inl e5_h1)) rfl rfl (Nat.le_of_ble_eq_true rfl) (by decide) (Nat.zero_le _) (Nat.zero_le _) (fun v2 z2 h2 q2 => ?_)
  obtain ⟨rfl, hq, hE2⟩ := q2; replace hq := hq.symm; subst hq
  have Hg_h3 : h2 g = some (.inr (2, [.int (nI (Bc B)), .int (nI (Br B)), .ref (A 0), .ref (A 2), .int rn, .int dn, .ref (A 4), .ref (A 5), .ref (A 7)])) := by rw [hE2, up_n ne11]; exact Hg_h1
  have Hl_h3 : h2 (A 4) = some (.inl (gA (xG X) 0, (49, .inl (upd (fun x => nI (Bl B x)) x (nI (k + 1)))))) := by rw [hE2, up_n ne2]; exact Hl_h1
  have e5_h3 : h2 (A 5) = some (.inr (23, [.int (G.1 2), .ref (A 6), .int (nI (Bt B))])) := by rw [hE2, up_n ne5]; exact e5_h1
  have e7_h3 : h2 (A 7) = some (.inr (23, [.int (G.1 3), .ref (A 8), .int (nI (Bt B))])) := by rw [hE2, up_n ne8]; exact e7_h1
  have Hu_h3 : h2 (A 8) = some (.inl (gA (xG X) 4, (G.2.1 3, refs (lf (Bt B) (fun k => bxA (xG X) (nI (Bu B k))))))) := by rw [hE2, up_n (Ne.symm ne0)]; exact Hu_h1
  have Hc_h3 : h2 (A 6) = some (.inl (gA (xG X) 4, (G.2.1 2, refs (lf (Bt B) (va_up (fun k => bxA (xG X) (oI (Bp B k))) k (bxA (xG X) (nI x))))))) := by rw [hE2]; exact up_s
  refine ww_pop C dX3_put_21 rfl ?_
  refine ww_aload_n C dX3_put_22 rfl 0 rfl rfl ?_
  refine gf_X3_35_X3 C dX3_put_23 (Or.inl Hg_h3) rfl ?_
  refine ww_iload_n C dX3_put_26 rfl 1 rfl ?_
  refine ww_iload_n C dX3_put_27 rfl 3 rfl ?_
  refine cs_X3_42_r (As := [.int (nI t)]) (rest := [.int (nI k), .ref (A 7)]) C dX3_put_28 (ct_J19_valueOf (Cx.fl C) (Cx.ok C) hz (nI_rng (by omega)).1 (nI_rng (by omega)).2) rfl rfl (Nat.le_of_ble_eq_true rfl) (by decide) (Nat.zero_le _) (Nat.zero_le _) ?_
  have hvv : rcv (xG X) z h2 (bxA (xG X) (nI t)) "java/lang/Integer" := rc_J19 (Cx.ok C) (bx_rd hz (nI_rng (by omega)))
  refine cv_X3_114_q (As := [.int (nI k), .ref (bxA (xG X) (nI t))]) (rest := []) C dX3_put_31 (ct_J2_set (Cx.fl C) (Cx.ok C) (Or.inl e7_h3) Hu_h3 L3.2.2.1 L3.2.2.2 hk hvv q3421) (rc_J2 (Cx.ok C) (Or.inl e7_h3)) rfl rfl (Nat.le_of_ble_eq_true rfl) (by decide) (Nat.zero_le _) (Nat.zero_le _) (fun v4 z4 h4 q4 => ?_)
  obtain ⟨rfl, hq, hE4⟩ := q4; replace hq := hq.symm; subst hq
  have Hg_h5 : h4 g = some (.inr (2, [.int (nI (Bc B)), .int (nI (Br B)), .ref (A 0), .ref (A 2), .int rn, .int dn, .ref (A 4), .ref (A 5), .ref (A 7)])) := by rw [hE4, up_n ne12]; exact Hg_h3
  have Hl_h5 : h4 (A 4) = some (.inl (gA (xG X) 0, (49, .inl (upd (fun x => nI (Bl B x)) x (nI (k + 1)))))) := by rw [hE4, up_n ne3]; exact Hl_h3
  have e5_h5 : h4 (A 5) = some (.inr (23, [.int (G.1 2), .ref (A 6), .int (nI (Bt B))])) := by rw [hE4, up_n ne6]; exact e5_h3
  have e7_h5 : h4 (A 7) = some (.inr (23, [.int (G.1 3), .ref (A 8), .int (nI (Bt B))])) := by rw [hE4, up_n ne9]; exact e7_h3
  have Hc_h5 : h4 (A 6) = some (.inl (gA (xG X) 4, (G.2.1 2, refs (lf (Bt B) (va_up (fun k => bxA (xG X) (oI (Bp B k))) k (bxA (xG X) (nI x))))))) := by rw [hE4, up_n ne0]; exact Hc_h3
  have Hu_h5 : h4 (A 8) = some (.inl (gA (xG X) 4, (G.2.1 3, refs (lf (Bt B) (va_up (fun k => bxA (xG X) (nI (Bu B k))) k (bxA (xG X) (nI t))))))) := by rw [hE4]; exact up_s
  refine ww_pop C dX3_put_34 rfl ?_
  refine ww_iconst C dX3_put_35 cI_1 ?_
  have q4 : upd (fun x => nI (Bl B x)) x (nI (k + 1)) = fun y => nI (Bl (putB B k x t) y) := by funext y; show (if y = x then _ else _) = nI (if y = x then k + 1 else Bl B y); split <;> rfl
  have q6 : va_up (fun k => bxA (xG X) (oI (Bp B k))) k (bxA (xG X) (nI x)) = fun i => bxA (xG X) (oI (Bp (putB B k x t) i)) := by funext y; show (if y = k then _ else _) = bxA (xG X) (oI (if y = k then some x else Bp B y)); split <;> rfl
  have q8 : va_up (fun k => bxA (xG X) (nI (Bu B k))) k (bxA (xG X) (nI t)) = fun i => bxA (xG X) (nI (Bu (putB B k x t) i)) := by funext y; show (if y = k then _ else _) = bxA (xG X) (nI (if y = k then t else Bu B y)); split <;> rfl
  exact ww_zret C dX3_put_36 nar_z1 ⟨rfl, rfl, by unfold gmH cLi; rw [hE4, hE2, hE1, q4, q6, q8]; rfl⟩
set_option maxHeartbeats 2000000 in
theorem ct_X3_take {l : Launch} {Γ : Gm} (hl : l.flags = flags0) (hΓ : GOK Γ) {z : ZR} {h : AH} {g : Nat} {A : Nat → Nat} {B : GB} {G : GG} {rn dn : Int32} {k x : Nat} (hz : zle (cst Γ) z) (hM : GmM Γ z h g A B G rn dn) (hB : BO B) (hk : k < Bt B) (hp : Bp B k = some x) : Ct l Γ yX3_take cX3_take 2 (some .boolean) 4 0 0 [.ref g, .int (nI k)] z h (Rv (fun v z' h' => v = .int (nI 1) ∧ z' = z ∧ h' = gmH Γ h A G (takB B k))) := by
  refine Ct.of hl hΓ (by decide +kernel) (Nat.le_of_ble_eq_true rfl) (fun X e1 e2 C => ?_)
  subst e1; subst e2
  have C : Cx X cX3_take 2 "RingDomino$Game" "take" (some .boolean) [] 4 := C
  obtain ⟨Hg, Hl, L1, Ht, L0, L2, L3, Hd⟩ := id hM
  obtain ⟨⟨⟨c1, c2⟩, ⟨r1, r2⟩⟩, t1, bl1, bu1, bp1, bn1⟩ := id hB
  have hzz := BO.z hB
  have hbl := BO.l hB
  have hG := GmM.p hz hM
  have hx := bp1 k x hp
  have hgx : (Bp B k).getD 0 = x := by rw [hp]; rfl
  show WW X (Rv (fun v z' h' => v = .int (nI 1) ∧ z' = z ∧ h' = gmH (xG X) h A G (takB B k))) z h 0 0 0 [(0, .ref g), (1, .int (nI k))] []
  have Hc := L2.ow hk
  have Hu := L3.ow hk
  have hne := GmM.ne hM hk
  replace Hc := Hc.1; replace Hu := Hu.1
  have e5 := L2.1
  have e7 := L3.1
  have ne0 : A 6 ≠ A 8 := hne.2.2
  have ne2 : A 4 ≠ A 6 := hne.1
  have ne3 : A 4 ≠ A 8 := hne.2.1
  have ne4 : A 5 ≠ A 4 := (ne_ob e5 Hl (by simp [cAL, cLi, cAr]))
  have ne5 : A 5 ≠ A 6 := (ne_ob e5 Hc (by simp [cAL, cLi, cAr]))
  have ne6 : A 5 ≠ A 8 := (ne_ob e5 Hu (by simp [cAL, cLi, cAr]))
  have ne7 : A 7 ≠ A 4 := (ne_ob e7 Hl (by simp [cAL, cLi, cAr]))
  have ne8 : A 7 ≠ A 6 := (ne_ob e7 Hc (by simp [cAL, cLi, cAr]))
  have ne9 : A 7 ≠ A 8 := (ne_ob e7 Hu (by simp [cAL, cLi, cAr]))
  have ne10 : g ≠ A 4 := (ne_ob Hg Hl (by simp [cGm, cLi, cAr]))
  have ne11 : g ≠ A 6 := (ne_ob Hg Hc (by simp [cGm, cLi, cAr]))
  have ne12 : g ≠ A 8 := (ne_ob Hg Hu (by simp [cGm, cLi, cAr]))
  have hC := L2.p hz
  have Hb : rd z h (bxA (xG X) (oI (Bp B k))) (.inr (26, [.int (oI (Bp B k))])) := bx_rd hz (oI_rng (bp1 k))
  refine ww_aload_n C dX3_take_0 rfl 0 rfl rfl ?_
  refine gf_X3_28_X3 C dX3_take_1 (Or.inl Hg) rfl ?_
  refine ww_aload_n C dX3_take_4 rfl 0 rfl rfl ?_
  refine gf_X3_32_X3 C dX3_take_5 (Or.inl Hg) rfl ?_
  refine ww_iload_n C dX3_take_8 rfl 1 rfl ?_
  refine cv_X3_48_r (As := [.int (nI k)]) (rest := [.ref (A 4)]) C dX3_take_9 (ct_J2_get (Cx.fl C) (Cx.ok C) hC hk) (ALp.rc (Cx.ok C) hC) rfl rfl (Nat.le_of_ble_eq_true rfl) (by decide) (Nat.zero_le _) (Nat.zero_le _) ?_
  refine ww_castS (ci := 26) C q2055 rfl dX3_take_12 (rc_J19 (Cx.ok C) Hb) ?_
  refine cv_X3_54_r (As := []) (rest := [.ref (A 4)]) C dX3_take_15 (ct_J19_intValue (Cx.fl C) (Cx.ok C) Hb) (rc_J19 (Cx.ok C) Hb) rfl rfl (Nat.le_of_ble_eq_true rfl) (by decide) (Nat.zero_le _) (Nat.zero_le _) ?_
  refine ww_st (st' := [.int (nI x), .ref (A 4)]) (by rw [hp]; rfl) ?_
  refine ww_iconst C dX3_take_18 cI_0 ?_
  refine ww_iast C dX3_take_19 Hl (by omega) (by decide) ?_
  refine ww_gen (fun h1 hE1 => ?_)
  have Hg_h1 : h1 g = some (.inr (2, [.int (nI (Bc B)), .int (nI (Br B)), .ref (A 0), .ref (A 2), .int rn, .int dn, .ref (A 4), .ref (A 5), .ref (A 7)])) := by rw [hE1, up_n ne10]; exact Hg
  have e5_h1 : h1 (A 5) = some (.inr (23, [.int (G.1 2), .ref (A 6), .int (nI (Bt B))])) := by rw [hE1, up_n ne4]; exact e5
  have e7_h1 : h1 (A 7) = some (.inr (23, [.int (G.1 3), .ref (A 8), .int (nI (Bt B))])) := by rw [hE1, up_n ne7]; exact e7
  have Hc_h1 : h1 (A 6) = some (.inl (gA (xG X) 4, (G.2.1 2, refs (lf (Bt B) (fun k => bxA (xG X) (oI (Bp B k))))))) := by rw [hE1, up_n (Ne.symm ne2)]; exact Hc
  have Hu_h1 : h1 (A 8) = some (.inl (gA (xG X) 4, (G.2.1 3, refs (lf (Bt B) (fun k => bxA (xG X) (nI (Bu B k))))))) := by rw [hE1, up_n (Ne.symm ne3)]; exact Hu
  have Hl_h1 : h1 (A 4) = some (.inl (gA (xG X) 0, (49, .inl (upd (fun x => nI (Bl B x)) x (nI 0))))) := by rw [hE1]; exact up_s
  refine ww_aload_n C dX3_take_20 rfl 0 rfl rfl ?_
  refine gf_X3_32_X3 C dX3_take_21 (Or.inl Hg_h1) rfl ?_
  refine ww_iload_n C dX3_take_24 rfl 1 rfl ?_
  refine ww_iconst C dX3_take_25 cI_m1 ?_
  refine cs_X3_42_r (As := [.int (-1)]) (rest := [.int (nI k), .ref (A 5)]) C dX3_take_26 (ct_J19_valueOf (Cx.fl C) (Cx.ok C) hz (by decide) (by decide)) rfl rfl (Nat.le_of_ble_eq_true rfl) (by decide) (Nat.zero_le _) (Nat.zero_le _) ?_
  have hvv : rcv (xG X) z h1 (bxA (xG X) (-1)) "java/lang/Integer" := rc_J19 (Cx.ok C) (bx_rd hz (by decide))
  refine cv_X3_114_q (As := [.int (nI k), .ref (bxA (xG X) (-1))]) (rest := []) C dX3_take_29 (ct_J2_set (Cx.fl C) (Cx.ok C) (Or.inl e5_h1) Hc_h1 L2.2.2.1 L2.2.2.2 hk hvv q3421) (rc_J2 (Cx.ok C) (Or.inl e5_h1)) rfl rfl (Nat.le_of_ble_eq_true rfl) (by decide) (Nat.zero_le _) (Nat.zero_le _) (fun v2 z2 h2 q2 => ?_)
  obtain ⟨rfl, hq, hE2⟩ := q2; replace hq := hq.symm; subst hq
  have Hg_h3 : h2 g = some (.inr (2, [.int (nI (Bc B)), .int (nI (Br B)), .ref (A 0), .ref (A 2), .int rn, .int dn, .ref (A 4), .ref (A 5), .ref (A 7)])) := by rw [hE2, up_n ne11]; exact Hg_h1
  have Hl_h3 : h2 (A 4) = some (.inl (gA (xG X) 0, (49, .inl (upd (fun x => nI (Bl B x)) x (nI 0))))) := by rw [hE2, up_n ne2]; exact Hl_h1
  have e5_h3 : h2 (A 5) = some (.inr (23, [.int (G.1 2), .ref (A 6), .int (nI (Bt B))])) := by rw [hE2, up_n ne5]; exact e5_h1
  have e7_h3 : h2 (A 7) = some (.inr (23, [.int (G.1 3), .ref (A 8), .int (nI (Bt B))])) := by rw [hE2, up_n ne8]; exact e7_h1
  have Hu_h3 : h2 (A 8) = some (.inl (gA (xG X) 4, (G.2.1 3, refs (lf (Bt B) (fun k => bxA (xG X) (nI (Bu B k))))))) := by rw [hE2, up_n (Ne.symm ne0)]; exact Hu_h1
  have Hc_h3 : h2 (A 6) = some (.inl (gA (xG X) 4, (G.2.1 2, refs (lf (Bt B) (va_up (fun k => bxA (xG X) (oI (Bp B k))) k (bxA (xG X) (-1))))))) := by rw [hE2]; exact up_s
  refine ww_pop C dX3_take_32 rfl ?_
  refine ww_aload_n C dX3_take_33 rfl 0 rfl rfl ?_
  refine gf_X3_35_X3 C dX3_take_34 (Or.inl Hg_h3) rfl ?_
  refine ww_iload_n C dX3_take_37 rfl 1 rfl ?_
  refine ww_iconst C dX3_take_38 cI_0 ?_
  refine cs_X3_42_r (As := [.int (nI 0)]) (rest := [.int (nI k), .ref (A 7)]) C dX3_take_39 (ct_J19_valueOf (Cx.fl C) (Cx.ok C) hz (by decide) (by decide)) rfl rfl (Nat.le_of_ble_eq_true rfl) (by decide) (Nat.zero_le _) (Nat.zero_le _) ?_
  have hvv : rcv (xG X) z h2 (bxA (xG X) (nI 0)) "java/lang/Integer" := rc_J19 (Cx.ok C) (bx_rd hz (by decide))
  refine cv_X3_114_q (As := [.int (nI k), .ref (bxA (xG X) (nI 0))]) (rest := []) C dX3_take_42 (ct_J2_set (Cx.fl C) (Cx.ok C) (Or.inl e7_h3) Hu_h3 L3.2.2.1 L3.2.2.2 hk hvv q3421) (rc_J2 (Cx.ok C) (Or.inl e7_h3)) rfl rfl (Nat.le_of_ble_eq_true rfl) (by decide) (Nat.zero_le _) (Nat.zero_le _) (fun v4 z4 h4 q4 => ?_)
  obtain ⟨rfl, hq, hE4⟩ := q4; replace hq := hq.symm; subst hq
  have Hg_h5 : h4 g = some (.inr (2, [.int (nI (Bc B)), .int (nI (Br B)), .ref (A 0), .ref (A 2), .int rn, .int dn, .ref (A 4), .ref (A 5), .ref (A 7)])) := by rw [hE4, up_n ne12]; exact Hg_h3
  have Hl_h5 : h4 (A 4) = some (.inl (gA (xG X) 0, (49, .inl (upd (fun x => nI (Bl B x)) x (nI 0))))) := by rw [hE4, up_n ne3]; exact Hl_h3
  have e5_h5 : h4 (A 5) = some (.inr (23, [.int (G.1 2), .ref (A 6), .int (nI (Bt B))])) := by rw [hE4, up_n ne6]; exact e5_h3
  have e7_h5 : h4 (A 7) = some (.inr (23, [.int (G.1 3), .ref (A 8), .int (nI (Bt B))])) := by rw [hE4, up_n ne9]; exact e7_h3
  have Hc_h5 : h4 (A 6) = some (.inl (gA (xG X) 4, (G.2.1 2, refs (lf (Bt B) (va_up (fun k => bxA (xG X) (oI (Bp B k))) k (bxA (xG X) (-1))))))) := by rw [hE4, up_n ne0]; exact Hc_h3
  have Hu_h5 : h4 (A 8) = some (.inl (gA (xG X) 4, (G.2.1 3, refs (lf (Bt B) (va_up (fun k => bxA (xG X) (nI (Bu B k))) k (bxA (xG X) (nI 0))))))) := by rw [hE4]; exact up_s
  refine ww_pop C dX3_take_45 rfl ?_
  refine ww_iconst C dX3_take_46 cI_1 ?_
  have q4 : upd (fun x => nI (Bl B x)) x (nI 0) = fun y => nI (Bl (takB B k) y) := by funext y; show (if y = x then _ else _) = nI (if y = (Bp B k).getD 0 then 0 else Bl B y); rw [hgx]; split <;> rfl
  have q6 : va_up (fun k => bxA (xG X) (oI (Bp B k))) k (bxA (xG X) (-1)) = fun i => bxA (xG X) (oI (Bp (takB B k) i)) := by funext y; show (if y = k then _ else _) = bxA (xG X) (oI (if y = k then none else Bp B y)); split <;> rfl
  have q8 : va_up (fun k => bxA (xG X) (nI (Bu B k))) k (bxA (xG X) (nI 0)) = fun i => bxA (xG X) (nI (Bu (takB B k) i)) := by funext y; show (if y = k then _ else _) = bxA (xG X) (nI (if y = k then 0 else Bu B y)); split <;> rfl
  exact ww_zret C dX3_take_47 nar_z1 ⟨rfl, rfl, by unfold gmH cLi; rw [hE4, hE2, hE1, q4, q6, q8]; rfl⟩
set_option maxHeartbeats 2000000 in
theorem ct_X3_put_2 {l : Launch} {Γ : Gm} (hl : l.flags = flags0) (hΓ : GOK Γ) {z : ZR} {h : AH} {g : Nat} {A : Nat → Nat} {B : GB} {G : GG} {rn dn : Int32} {k x t a : Nat} (hz : zle (cst Γ) z) (hM : GmM Γ z h g A B G rn dn) (hB : BO B) (hk : k < Bt B) (hx : x < 49) (ht : t < 6) (hw : rd z h a (.inr (22, [.int (nI x), .int (nI t)]))) : Ct l Γ yX3_put_2 cX3_put_2 3 (some .boolean) 5 0 0 [.ref g, .int (nI k), .ref a] z h (Rv (fun v z' h' => v = .int (nI 1) ∧ z' = z ∧ h' = gmH Γ h A G (putB B k x t))) := by
  refine Ct.of hl hΓ (by decide +kernel) (Nat.le_of_ble_eq_true rfl) (fun X e1 e2 C => ?_)
  subst e1; subst e2
  have C : Cx X cX3_put_2 3 "RingDomino$Game" "put" (some .boolean) [] 5 := C
  obtain ⟨Hg, Hl, L1, Ht, L0, L2, L3, Hd⟩ := id hM
  obtain ⟨⟨⟨c1, c2⟩, ⟨r1, r2⟩⟩, t1, bl1, bu1, bp1, bn1⟩ := id hB
  have hzz := BO.z hB
  have hbl := BO.l hB
  have hG := GmM.p hz hM
  show WW X (Rv (fun v z' h' => v = .int (nI 1) ∧ z' = z ∧ h' = gmH (xG X) h A G (putB B k x t))) z h 0 0 0 [(0, .ref g), (1, .int (nI k)), (2, .ref a)] []
  refine ww_aload_n C dX3_put_2_0 rfl 0 rfl rfl ?_
  refine ww_iload_n C dX3_put_2_1 rfl 1 rfl ?_
  refine ww_aload_n C dX3_put_2_2 rfl 2 rfl rfl ?_
  refine gf_X3_118_X25 C dX3_put_2_3 hw rfl ?_
  refine ww_aload_n C dX3_put_2_6 rfl 2 rfl rfl ?_
  refine gf_X3_121_X25 C dX3_put_2_7 hw rfl ?_
  refine cv_X3_124_q (As := [.int (nI k), .int (nI x), .int (nI t)]) (rest := []) C dX3_put_2_10 (ct_X3_put (Cx.fl C) (Cx.ok C) hz hM hB hk hx ht) (rc_X3 (Cx.ok C) (Or.inl Hg)) rfl rfl (Nat.le_of_ble_eq_true rfl) (by decide) (Nat.zero_le _) (Nat.zero_le _) (fun v z1 h1 q => ?_)
  obtain ⟨rfl, hq1, hq2⟩ := q
  exact ww_zret C dX3_put_2_13 nar_z1 ⟨rfl, hq1, hq2⟩
set_option maxHeartbeats 2000000 in
theorem ct_X3_pointsWith {l : Launch} {Γ : Gm} (hl : l.flags = flags0) (hΓ : GOK Γ) {z : ZR} {h : AH} {g : Nat} {A : Nat → Nat} {B : GB} {G : GG} {rn dn : Int32} {k x t : Nat} (hz : zle (cst Γ) z) (hM : GmM Γ z h g A B G rn dn) (hB : BO B) (hk : k < Bt B) (hx : x < 49) (ht : t < 6) (hl0 : Bl B x = 0) (hp0 : Bp B k = none) (hu0 : Bu B k = 0) : Ct l Γ yX3_pointsWith cX3_pointsWith 5 (some .int) 7 0 0 [.ref g, .int (nI k), .int (nI x), .int (nI t)] z h (RdP z h (some (.int (nI (poN (putB B k x t)))))) := by
  refine Ct.of hl hΓ (by decide +kernel) (Nat.le_of_ble_eq_true rfl) (fun X e1 e2 C => ?_)
  subst e1; subst e2
  have C : Cx X cX3_pointsWith 5 "RingDomino$Game" "pointsWith" (some .int) [] 7 := C
  obtain ⟨Hg, Hl, L1, Ht, L0, L2, L3, Hd⟩ := id hM
  obtain ⟨⟨⟨c1, c2⟩, ⟨r1, r2⟩⟩, t1, bl1, bu1, bp1, bn1⟩ := id hB
  have hzz := BO.z hB
  have hbl := BO.l hB
  have hG := GmM.p hz hM
  show WW X (RdP z h (some (.int (nI (poN (putB B k x t)))))) z h 0 0 0 [(0, .ref g), (1, .int (nI k)), (2, .int (nI x)), (3, .int (nI t))] []
  refine ww_aload_n C dX3_pointsWith_0 rfl 0 rfl rfl ?_
  refine ww_iload_n C dX3_pointsWith_1 rfl 1 rfl ?_
  refine ww_iload_n C dX3_pointsWith_2 rfl 2 rfl ?_
  refine ww_iload_n C dX3_pointsWith_3 rfl 3 rfl ?_
  refine cv_X3_124_q (As := [.int (nI k), .int (nI x), .int (nI t)]) (rest := []) C dX3_pointsWith_4 (ct_X3_put (Cx.fl C) (Cx.ok C) hz hM hB hk hx ht) (rc_X3 (Cx.ok C) (Or.inl Hg)) rfl rfl (Nat.le_of_ble_eq_true rfl) (by decide) (Nat.zero_le _) (Nat.zero_le _) (fun v z1 h1 q => ?_)
  obtain ⟨rfl, hq1, hq2⟩ := q; replace hq1 := hq1.symm; subst hq1; subst hq2
  have hM1 := hM.st hk (B' := putB B k x t) rfl rfl
  have hB1 := putB_o hB hk hx ht
  have hp1 : Bp (putB B k x t) k = some x := by show (if k = k then _ else _) = _; rw [if_pos rfl]
  refine ww_pop C dX3_pointsWith_7 rfl ?_
  refine ww_aload_n C dX3_pointsWith_8 rfl 0 rfl rfl ?_
  refine cv_X3_180_r (As := []) (rest := []) C dX3_pointsWith_9 (ct_X3_points (Cx.fl C) (Cx.ok C) hz (GmM.p hz hM1) hB1) (rc_X3 (Cx.ok C) (Or.inl hM1.1)) rfl rfl (Nat.le_of_ble_eq_true rfl) (by decide) (Nat.zero_le _) (Nat.zero_le _) ?_
  refine ww_istore (lv' := [(4, .int (nI (poN (putB B k x t)))), (0, .ref g), (1, .int (nI k)), (2, .int (nI x)), (3, .int (nI t))]) C dX3_pointsWith_12 (by decide) rfl ?_
  refine ww_aload_n C dX3_pointsWith_14 rfl 1 rfl rfl ?_
  refine ww_iload_n C dX3_pointsWith_15 rfl 2 rfl ?_
  refine cv_X3_183_q (As := [.int (nI k)]) (rest := []) C dX3_pointsWith_16 (ct_X3_take (Cx.fl C) (Cx.ok C) hz hM1 hB1 hk hp1) (rc_X3 (Cx.ok C) (Or.inl hM1.1)) rfl rfl (Nat.le_of_ble_eq_true rfl) (by decide) (Nat.zero_le _) (Nat.zero_le _) (fun v z1 h1 q => ?_)
  obtain ⟨rfl, hq1, hq2⟩ := q; replace hq1 := hq1.symm; subst hq1
  rw [tak_put hl0 hp0 hu0, gmH_st, gmH_id Hl (L2.ow hk).1 (L3.ow hk).1] at hq2
  subst hq2
  refine ww_pop C dX3_pointsWith_19 rfl ?_
  refine ww_iload C dX3_pointsWith_20 0 rfl ?_
  exact ww_iret C dX3_pointsWith_22 (RdP.i (by rfl))
set_option maxHeartbeats 2000000 in
theorem ct_X3_firstWay {l : Launch} {Γ : Gm} (hl : l.flags = flags0) (hΓ : GOK Γ) {z : ZR} {h : AH} {g : Nat} {A : Nat → Nat} {B : GB} {G : GG} {rn dn : Int32} {k : Nat} (hz : zle (cst Γ) z) (hM : GmM Γ z h g A B G rn dn) (hB : BO B) (hk : k < Bt B) : Ct l Γ yX3_firstWay cX3_firstWay 4 (some (.object "java/util/Optional")) 7 2 3 [.ref g, .int (nI k)] z h (Rv (fun v z' h' => ∃ o, v = .ref o ∧ h' = h ∧ zle z z' ∧ OpW z' o (fwN B k))) := by
  refine Ct.of hl hΓ (by decide +kernel) (Nat.le_of_ble_eq_true rfl) (fun X e1 e2 C => ?_)
  subst e1; subst e2
  have C : Cx X cX3_firstWay 4 "RingDomino$Game" "firstWay" (some (.object "java/util/Optional")) [] 7 := C
  obtain ⟨Hg, Hl, L1, Ht, L0, L2, L3, Hd⟩ := id hM
  obtain ⟨⟨⟨c1, c2⟩, ⟨r1, r2⟩⟩, t1, bl1, bu1, bp1, bn1⟩ := id hB
  have hzz := BO.z hB
  have hbl := BO.l hB
  have hG := GmM.p hz hM
  show WW X (Rv (fun v z' h' => ∃ o, v = .ref o ∧ h' = h ∧ zle z z' ∧ OpW z' o (fwN B k))) z h 2 3 0 [(0, .ref g), (1, .int (nI k))] []
  refine ww_iconst C dX3_firstWay_0 cI_0 ?_
  refine ww_istore_n (lv' := [(2, .int (nI 0)), (0, .ref g), (1, .int (nI k))]) C dX3_firstWay_1 rfl (by decide) rfl ?_
  refine loop_up (N := (Bz B)) (M := fun x => ff (fwP B k) (6 * Bz B) 0 = ff (fwP B k) (6 * Bz B - 6 * x) (6 * x) → WW X (Rv (fun v z' h' => ∃ o, v = .ref o ∧ h' = h ∧ zle z z' ∧ OpW z' o (fwN B k))) z h 2 3 2 [(2, .int (nI x)), (0, .ref g), (1, .int (nI k))] []) ?_ ?_ 0 (Nat.zero_le _) rfl
  · intro hv; show WW X (Rv (fun v z' h' => ∃ o, v = .ref o ∧ h' = h ∧ zle z z' ∧ OpW z' o (fwN B k))) z h 2 3 2 [(2, .int (nI (Bz B))), (0, .ref g), (1, .int (nI k))] []
    refine ww_iload_n C dX3_firstWay_2 rfl 0 rfl ?_
    refine ww_aload_n C dX3_firstWay_3 rfl 1 rfl rfl ?_
    refine cv_X3_62_r (As := []) (rest := [.int (nI (Bz B))]) C dX3_firstWay_4 (ct_X3_cells (Cx.fl C) (Cx.ok C) hG hB.1) (rc_X3 (Cx.ok C) (Or.inl Hg)) rfl rfl (Nat.le_of_ble_eq_true rfl) (by decide) (Nat.zero_le _) (Nat.zero_le _) ?_
    refine ww_icmp_ge_t (tgt := 53) C dX3_firstWay_7 (by decide) (nI_le (Nat.le_refl _) (by omega)) ?_
    refine cs_X3_103_r (As := []) (rest := []) C dX3_firstWay_53 (ct_J31_empty (Cx.fl C) (Cx.ok C)) rfl rfl (Nat.le_of_ble_eq_true rfl) (by decide) (Nat.zero_le _) (Nat.zero_le _) ?_
    exact ww_aret C (Or.inl ⟨_, rfl⟩) dX3_firstWay_56 rfl ⟨_, rfl, rfl, zle.rf, by unfold fwN; rw [hv, ff_0]; exact cst_op hz⟩
  · intro x hi ih hv
    show WW X (Rv (fun v z' h' => ∃ o, v = .ref o ∧ h' = h ∧ zle z z' ∧ OpW z' o (fwN B k))) z h 2 3 2 [(2, .int (nI x)), (0, .ref g), (1, .int (nI k))] []
    refine ww_iload_n C dX3_firstWay_2 rfl 0 rfl ?_
    refine ww_aload_n C dX3_firstWay_3 rfl 1 rfl rfl ?_
    refine cv_X3_62_r (As := []) (rest := [.int (nI x)]) C dX3_firstWay_4 (ct_X3_cells (Cx.fl C) (Cx.ok C) hG hB.1) (rc_X3 (Cx.ok C) (Or.inl Hg)) rfl rfl (Nat.le_of_ble_eq_true rfl) (by decide) (Nat.zero_le _) (Nat.zero_le _) ?_
    refine ww_icmp_ge_f (tgt := 53) C dX3_firstWay_7 (by decide) (nI_ge hi (by omega)) ?_
    refine ww_iconst C dX3_firstWay_10 cI_0 ?_
    refine ww_istore_n (lv' := [(3, .int (nI 0)), (2, .int (nI x)), (0, .ref g), (1, .int (nI k))]) C dX3_firstWay_11 rfl (by decide) rfl ?_
    refine loop_up (N := 6) (M := fun j => ff (fwP B k) (6 * Bz B) 0 = ff (fwP B k) (6 * Bz B - (6 * x + j)) (6 * x + j) → WW X (Rv (fun v z' h' => ∃ o, v = .ref o ∧ h' = h ∧ zle z z' ∧ OpW z' o (fwN B k))) z h 2 3 12 [(3, .int (nI j)), (2, .int (nI x)), (0, .ref g), (1, .int (nI k))] []) ?_ ?_ 0 (Nat.zero_le _) hv
    · intro hv; show WW X (Rv (fun v z' h' => ∃ o, v = .ref o ∧ h' = h ∧ zle z z' ∧ OpW z' o (fwN B k))) z h 2 3 12 [(3, .int (nI 6)), (2, .int (nI x)), (0, .ref g), (1, .int (nI k))] []
      refine ww_iload_n C dX3_firstWay_12 rfl 0 rfl ?_
      refine ww_bipush C dX3_firstWay_13 cB_6 ?_
      refine ww_icmp_ge_t (tgt := 47) C dX3_firstWay_15 (by decide) (nI_le (Nat.le_refl _) (by decide)) ?_
      refine ww_iinc (lv' := [(2, .int (nI (x + 1))), (3, .int (nI 6)), (0, .ref g), (1, .int (nI k))]) C dX3_firstWay_47 1 rfl (inc_n _) (by decide) rfl ?_
      refine ww_goto (tgt := 2) C dX3_firstWay_50 (by decide) ?_
      refine ww_sub [0, 2, 3] rfl ?_
      exact ih hv
    · intro j hj ih2 hv
      show WW X (Rv (fun v z' h' => ∃ o, v = .ref o ∧ h' = h ∧ zle z z' ∧ OpW z' o (fwN B k))) z h 2 3 12 [(3, .int (nI j)), (2, .int (nI x)), (0, .ref g), (1, .int (nI k))] []
      refine ww_iload_n C dX3_firstWay_12 rfl 0 rfl ?_
      refine ww_bipush C dX3_firstWay_13 cB_6 ?_
      refine ww_icmp_ge_f (tgt := 47) C dX3_firstWay_15 (by decide) (nI_ge hj (by decide)) ?_
      refine ww_aload_n C dX3_firstWay_18 rfl 2 rfl rfl ?_
      refine ww_iload_n C dX3_firstWay_19 rfl 3 rfl ?_
      refine ww_iload_n C dX3_firstWay_20 rfl 1 rfl ?_
      refine ww_iload_n C dX3_firstWay_21 rfl 0 rfl ?_
      refine cv_X3_88_r (As := [.int (nI k), .int (nI x), .int (nI j)]) (rest := []) C dX3_firstWay_22 (ct_X3_fits (Cx.fl C) (Cx.ok C) hz hG hB hk (by omega) hj) (rc_X3 (Cx.ok C) (Or.inl Hg)) rfl rfl (Nat.le_of_ble_eq_true rfl) (by decide) (Nat.zero_le _) (Nat.zero_le _) ?_
      refine ww_if_eq_b (tgt := 41) C dX3_firstWay_25 (by decide) (fun c_25 => ?_) (fun c_25 => ?_)
      · skip
        have hp : fwP B k (6 * x + j) = false := by rw [fwP_e hj]; exact c_25
        refine ww_iinc (lv' := [(3, .int (nI (j + 1))), (2, .int (nI x)), (0, .ref g), (1, .int (nI k))]) C dX3_firstWay_41 0 rfl (inc_n _) (by decide) rfl ?_
        refine ww_goto (tgt := 12) C dX3_firstWay_44 (by decide) ?_
        exact ih2 (hv.trans (ff_f (by omega) hp))
      · skip
        have hp : fwP B k (6 * x + j) = true := by rw [fwP_e hj]; exact c_25
        refine nw_X3_92 C dX3_firstWay_28 (by decide) (by decide) (fun y y_n y_z y_g => ?_)
        refine ww_gen (fun h1 hE1 => ?_)
        have Hg_h1 : h1 g = some (.inr (2, [.int (nI (Bc B)), .int (nI (Br B)), .ref (A 0), .ref (A 2), .int rn, .int dn, .ref (A 4), .ref (A 5), .ref (A 7)])) := by rw [hE1, up_n (ne_nw Hg y_n)]; exact Hg
        have Hl_h1 : h1 (A 4) = some (.inl (gA (xG X) 0, (49, .inl (fun x => nI (Bl B x))))) := by rw [hE1, up_n (ne_nw Hl y_n)]; exact Hl
        have N1_h1 : h1 y = some (.inr (22, [.int (nI 0), .int (nI 0)])) := by rw [hE1]; exact up_s
        refine ww_dup C dX3_firstWay_31 rfl ?_
        refine ww_iload_n C dX3_firstWay_32 rfl 1 rfl ?_
        refine ww_iload_n C dX3_firstWay_33 rfl 0 rfl ?_
        refine ci_X3_94_q (As := [.int (nI x), .int (nI j)]) (rest := [.ref y]) C dX3_firstWay_34 (ct_X25_init (Cx.fl C) (Cx.ok C) N1_h1) rfl rfl (Nat.le_of_ble_eq_true rfl) (by decide) (Nat.zero_le _) (Nat.zero_le _) (fun z2 h2 q2 => ?_)
        obtain ⟨hq, hE2⟩ := q2; replace hq := hq.symm; subst hq
        have Hg_h3 : h2 g = some (.inr (2, [.int (nI (Bc B)), .int (nI (Br B)), .ref (A 0), .ref (A 2), .int rn, .int dn, .ref (A 4), .ref (A 5), .ref (A 7)])) := by rw [hE2, up_n (ne_ob Hg_h1 N1_h1 (by simp))]; exact Hg_h1
        have Hl_h3 : h2 (A 4) = some (.inl (gA (xG X) 0, (49, .inl (fun x => nI (Bl B x))))) := by rw [hE2, up_n (ne_ob Hl_h1 N1_h1 (by simp))]; exact Hl_h1
        have N1_h3 : h2 y = some (.inr (22, [.int (nI x), .int (nI j)])) := by rw [hE2]; exact up_s
        refine ww_frzN y_n (by rw [hE2, hE1, up_up]) ?_
        refine cs_X3_97_q (As := [.ref y]) (rest := []) C dX3_firstWay_37 (ct_J31_of (Cx.fl C) (Cx.ok C)) rfl rfl (Nat.le_of_ble_eq_true rfl) (by decide) (by decide) (by decide) (fun v z1 h1 q => ?_)
        obtain ⟨o, rfl, hq1, hq2, hq3⟩ := q; subst hq1
        exact ww_aret C (Or.inl ⟨_, rfl⟩) dX3_firstWay_40 rfl ⟨o, rfl, rfl, zle.tr zad_le hq2, by unfold fwN; rw [hv, ff_t (by omega) hp]; exact ⟨y, hq3, by rw [show (6 * x + j) / 6 = x by omega, show (6 * x + j) % 6 = j by omega]; exact hq2 _ _ zad_s⟩⟩
end GA4
