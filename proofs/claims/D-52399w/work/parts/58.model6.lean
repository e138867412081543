section MO6
set_option maxRecDepth 100000
set_option maxHeartbeats 2000000 in
theorem ct_X6_put {l : Launch} {Γ : Gm} (hl : l.flags = flags0) (hΓ : GOK Γ) {z : ZR} {h : AH} {M : MS} {D : Nat → Nat} {k x t : Nat} (hX : Mx Γ h D M) (hk : k < 16) (hx : x < 49) : Ct l Γ yX6_put cX6_put 4 none 1 0 0 [.ref (D 10), .int (nI k), .int (nI x), .int (nI t)] z h (Rn (fun z' h' => z' = z ∧ Mx Γ h' D (putM M 30 40 k x t) ∧ FrD h h' D)) := by
  refine Ct.of hl hΓ (by decide +kernel) (Nat.le_of_ble_eq_true rfl) (fun X e1 e2 C => ?_)
  subst e1; subst e2
  have C : Cx X cX6_put 4 "RingDominoModel$State" "put" none [] 1 := C
  show WW X (Rn (fun z' h' => z' = z ∧ Mx (xG X) h' D (putM M 30 40 k x t) ∧ FrD h h' D)) z h 0 0 0 [(0, .ref (D 10)), (1, .int (nI k)), (2, .int (nI x)), (3, .int (nI t))] []
  have Xs : h (D 10) = some (cSt (fun i => D (40 + i)) (M.1 30) (M.1 31)) := hX.1 10 (by decide)
  have Xr0 : h (D 40) = some (cI (xG X) 49 (M.2.1 40)) := hX.1 40 (by decide)
  have Xr1 : h (D 41) = some (cI (xG X) 16 (M.2.1 41)) := hX.1 41 (by decide)
  have Xr2 : h (D 42) = some (cI (xG X) 16 (M.2.1 42)) := hX.1 42 (by decide)
  refine ww_aload_n C dX6_put_0 rfl 0 rfl rfl ?_
  refine gf_X6_9_X6 C dX6_put_1 (Or.inl Xs) rfl ?_
  refine ww_iload_n C dX6_put_4 rfl 2 rfl ?_
  refine ww_iload_n C dX6_put_5 rfl 1 rfl ?_
  refine ww_iast C dX6_put_6 Xr0 (by omega) (by decide) ?_
  refine ww_gen (fun h1 hE1 => ?_)
  have Xs_h1 : h1 (D 10) = some (.inr (5, [.ref (D 40), .ref (D 41), .ref (D 42), .int (M.1 30), .int (M.1 31)])) := by rw [hE1, up_n (fun q => by cases hX.2 10 40 (by decide) (by decide) q)]; exact Xs
  have Xr1_h1 : h1 (D 41) = some (.inl (gA (xG X) 0, (16, .inl (M.2.1 41)))) := by rw [hE1, up_n (Ne.symm (fun q => by cases hX.2 40 41 (by decide) (by decide) q))]; exact Xr1
  have Xr2_h1 : h1 (D 42) = some (.inl (gA (xG X) 0, (16, .inl (M.2.1 42)))) := by rw [hE1, up_n (Ne.symm (fun q => by cases hX.2 40 42 (by decide) (by decide) q))]; exact Xr2
  have Xr0_h1 : h1 (D 40) = some (.inl (gA (xG X) 0, (49, .inl (upd (M.2.1 40) x (nI k))))) := by rw [hE1]; exact up_s
  refine ww_aload_n C dX6_put_7 rfl 0 rfl rfl ?_
  refine gf_X6_15_X6 C dX6_put_8 (Or.inl Xs_h1) rfl ?_
  refine ww_iload_n C dX6_put_11 rfl 1 rfl ?_
  refine ww_iload_n C dX6_put_12 rfl 2 rfl ?_
  refine ww_iast C dX6_put_13 Xr1_h1 (by omega) (by decide) ?_
  refine ww_gen (fun h2 hE2 => ?_)
  have Xs_h2 : h2 (D 10) = some (.inr (5, [.ref (D 40), .ref (D 41), .ref (D 42), .int (M.1 30), .int (M.1 31)])) := by rw [hE2, up_n (fun q => by cases hX.2 10 41 (by decide) (by decide) q)]; exact Xs_h1
  have Xr0_h2 : h2 (D 40) = some (.inl (gA (xG X) 0, (49, .inl (upd (M.2.1 40) x (nI k))))) := by rw [hE2, up_n (fun q => by cases hX.2 40 41 (by decide) (by decide) q)]; exact Xr0_h1
  have Xr2_h2 : h2 (D 42) = some (.inl (gA (xG X) 0, (16, .inl (M.2.1 42)))) := by rw [hE2, up_n (Ne.symm (fun q => by cases hX.2 41 42 (by decide) (by decide) q))]; exact Xr2_h1
  have Xr1_h2 : h2 (D 41) = some (.inl (gA (xG X) 0, (16, .inl (upd (M.2.1 41) k (nI x))))) := by rw [hE2]; exact up_s
  refine ww_aload_n C dX6_put_14 rfl 0 rfl rfl ?_
  refine gf_X6_18_X6 C dX6_put_15 (Or.inl Xs_h2) rfl ?_
  refine ww_iload_n C dX6_put_18 rfl 1 rfl ?_
  refine ww_iload_n C dX6_put_19 rfl 3 rfl ?_
  refine ww_iast C dX6_put_20 Xr2_h2 (by omega) (by decide) ?_
  refine ww_gen (fun h3 hE3 => ?_)
  have Xs_h3 : h3 (D 10) = some (.inr (5, [.ref (D 40), .ref (D 41), .ref (D 42), .int (M.1 30), .int (M.1 31)])) := by rw [hE3, up_n (fun q => by cases hX.2 10 42 (by decide) (by decide) q)]; exact Xs_h2
  have Xr0_h3 : h3 (D 40) = some (.inl (gA (xG X) 0, (49, .inl (upd (M.2.1 40) x (nI k))))) := by rw [hE3, up_n (fun q => by cases hX.2 40 42 (by decide) (by decide) q)]; exact Xr0_h2
  have Xr1_h3 : h3 (D 41) = some (.inl (gA (xG X) 0, (16, .inl (upd (M.2.1 41) k (nI x))))) := by rw [hE3, up_n (fun q => by cases hX.2 41 42 (by decide) (by decide) q)]; exact Xr1_h2
  have Xr2_h3 : h3 (D 42) = some (.inl (gA (xG X) 0, (16, .inl (upd (M.2.1 42) k (nI t))))) := by rw [hE3]; exact up_s
  refine ww_aload_n C dX6_put_21 rfl 0 rfl rfl ?_
  refine ww_dup C dX6_put_22 rfl ?_
  refine gf_X6_21_X6 C dX6_put_23 (Or.inl Xs_h3) rfl ?_
  refine ww_iconst C dX6_put_26 cI_1 ?_
  refine ww_iadd C dX6_put_27 ?_
  refine pf_X6_21_X6 (fs' := [.ref (D 40), .ref (D 41), .ref (D 42), .int ((M.1 30) + (nI 1)), .int (M.1 31)]) C dX6_put_28 Xs_h3 rfl rfl (Nat.le_of_ble_eq_true rfl) rfl ?_
  refine ww_gen (fun h4 hE4 => ?_)
  have Xr0_h4 : h4 (D 40) = some (.inl (gA (xG X) 0, (49, .inl (upd (M.2.1 40) x (nI k))))) := by rw [hE4, up_n (Ne.symm (fun q => by cases hX.2 10 40 (by decide) (by decide) q))]; exact Xr0_h3
  have Xr1_h4 : h4 (D 41) = some (.inl (gA (xG X) 0, (16, .inl (upd (M.2.1 41) k (nI x))))) := by rw [hE4, up_n (Ne.symm (fun q => by cases hX.2 10 41 (by decide) (by decide) q))]; exact Xr1_h3
  have Xr2_h4 : h4 (D 42) = some (.inl (gA (xG X) 0, (16, .inl (upd (M.2.1 42) k (nI t))))) := by rw [hE4, up_n (Ne.symm (fun q => by cases hX.2 10 42 (by decide) (by decide) q))]; exact Xr2_h3
  have Xs_h4 : h4 (D 10) = some (.inr (5, [.ref (D 40), .ref (D 41), .ref (D 42), .int ((M.1 30) + (nI 1)), .int (M.1 31)])) := by rw [hE4]; exact up_s
  exact ww_vret C dX6_put_31 ⟨rfl, by rw [hE4, hE3, hE2, hE1]; exact (((hX.r (i := 40) (by decide)).r (i := 41) (by decide)).r (i := 42) (by decide)).i (j := 30) (Or.inr (by decide)) rfl, by rw [hE4, hE3, hE2, hE1]; exact (((FrD.rf.w (i := 40) (by decide)).w (i := 41) (by decide)).w (i := 42) (by decide)).w (i := 10) (by decide)⟩
set_option maxHeartbeats 2000000 in
theorem ct_X6_take {l : Launch} {Γ : Gm} (hl : l.flags = flags0) (hΓ : GOK Γ) {z : ZR} {h : AH} {M : MS} {D : Nat → Nat} {k x : Nat} (hX : Mx Γ h D M) (hk : k < 16) (hx : x < 49) (hkx : M.2.1 41 k = nI x) : Ct l Γ yX6_take cX6_take 2 none 1 0 0 [.ref (D 10), .int (nI k)] z h (Rn (fun z' h' => z' = z ∧ Mx Γ h' D (takM M 30 40 k x) ∧ FrD h h' D)) := by
  refine Ct.of hl hΓ (by decide +kernel) (Nat.le_of_ble_eq_true rfl) (fun X e1 e2 C => ?_)
  subst e1; subst e2
  have C : Cx X cX6_take 2 "RingDominoModel$State" "take" none [] 1 := C
  show WW X (Rn (fun z' h' => z' = z ∧ Mx (xG X) h' D (takM M 30 40 k x) ∧ FrD h h' D)) z h 0 0 0 [(0, .ref (D 10)), (1, .int (nI k))] []
  have Xs : h (D 10) = some (cSt (fun i => D (40 + i)) (M.1 30) (M.1 31)) := hX.1 10 (by decide)
  have Xr0 : h (D 40) = some (cI (xG X) 49 (M.2.1 40)) := hX.1 40 (by decide)
  have Xr1 : h (D 41) = some (cI (xG X) 16 (M.2.1 41)) := hX.1 41 (by decide)
  have Xr2 : h (D 42) = some (cI (xG X) 16 (M.2.1 42)) := hX.1 42 (by decide)
  refine ww_aload_n C dX6_take_0 rfl 0 rfl rfl ?_
  refine gf_X6_9_X6 C dX6_take_1 (Or.inl Xs) rfl ?_
  refine ww_aload_n C dX6_take_4 rfl 0 rfl rfl ?_
  refine gf_X6_15_X6 C dX6_take_5 (Or.inl Xs) rfl ?_
  refine ww_iload_n C dX6_take_8 rfl 1 rfl ?_
  refine ww_iald C dX6_take_9 (Or.inl Xr1) (by omega) (by decide) ?_
  refine ww_st (st' := [.int (nI x), .ref (D 40)]) (by rw [hkx]) ?_
  refine ww_iconst C dX6_take_10 cI_m1 ?_
  refine ww_iast C dX6_take_11 Xr0 (by omega) (by decide) ?_
  refine ww_gen (fun h1 hE1 => ?_)
  have Xs_h1 : h1 (D 10) = some (.inr (5, [.ref (D 40), .ref (D 41), .ref (D 42), .int (M.1 30), .int (M.1 31)])) := by rw [hE1, up_n (fun q => by cases hX.2 10 40 (by decide) (by decide) q)]; exact Xs
  have Xr1_h1 : h1 (D 41) = some (.inl (gA (xG X) 0, (16, .inl (M.2.1 41)))) := by rw [hE1, up_n (Ne.symm (fun q => by cases hX.2 40 41 (by decide) (by decide) q))]; exact Xr1
  have Xr2_h1 : h1 (D 42) = some (.inl (gA (xG X) 0, (16, .inl (M.2.1 42)))) := by rw [hE1, up_n (Ne.symm (fun q => by cases hX.2 40 42 (by decide) (by decide) q))]; exact Xr2
  have Xr0_h1 : h1 (D 40) = some (.inl (gA (xG X) 0, (49, .inl (upd (M.2.1 40) x (-1))))) := by rw [hE1]; exact up_s
  refine ww_aload_n C dX6_take_12 rfl 0 rfl rfl ?_
  refine gf_X6_15_X6 C dX6_take_13 (Or.inl Xs_h1) rfl ?_
  refine ww_iload_n C dX6_take_16 rfl 1 rfl ?_
  refine ww_iconst C dX6_take_17 cI_m1 ?_
  refine ww_iast C dX6_take_18 Xr1_h1 (by omega) (by decide) ?_
  refine ww_gen (fun h2 hE2 => ?_)
  have Xs_h2 : h2 (D 10) = some (.inr (5, [.ref (D 40), .ref (D 41), .ref (D 42), .int (M.1 30), .int (M.1 31)])) := by rw [hE2, up_n (fun q => by cases hX.2 10 41 (by decide) (by decide) q)]; exact Xs_h1
  have Xr0_h2 : h2 (D 40) = some (.inl (gA (xG X) 0, (49, .inl (upd (M.2.1 40) x (-1))))) := by rw [hE2, up_n (fun q => by cases hX.2 40 41 (by decide) (by decide) q)]; exact Xr0_h1
  have Xr2_h2 : h2 (D 42) = some (.inl (gA (xG X) 0, (16, .inl (M.2.1 42)))) := by rw [hE2, up_n (Ne.symm (fun q => by cases hX.2 41 42 (by decide) (by decide) q))]; exact Xr2_h1
  have Xr1_h2 : h2 (D 41) = some (.inl (gA (xG X) 0, (16, .inl (upd (M.2.1 41) k (-1))))) := by rw [hE2]; exact up_s
  refine ww_aload_n C dX6_take_19 rfl 0 rfl rfl ?_
  refine ww_dup C dX6_take_20 rfl ?_
  refine gf_X6_21_X6 C dX6_take_21 (Or.inl Xs_h2) rfl ?_
  refine ww_iconst C dX6_take_24 cI_1 ?_
  refine ww_isub C dX6_take_25 ?_
  refine pf_X6_21_X6 (fs' := [.ref (D 40), .ref (D 41), .ref (D 42), .int ((M.1 30) - (nI 1)), .int (M.1 31)]) C dX6_take_26 Xs_h2 rfl rfl (Nat.le_of_ble_eq_true rfl) rfl ?_
  refine ww_gen (fun h3 hE3 => ?_)
  have Xr0_h3 : h3 (D 40) = some (.inl (gA (xG X) 0, (49, .inl (upd (M.2.1 40) x (-1))))) := by rw [hE3, up_n (Ne.symm (fun q => by cases hX.2 10 40 (by decide) (by decide) q))]; exact Xr0_h2
  have Xr1_h3 : h3 (D 41) = some (.inl (gA (xG X) 0, (16, .inl (upd (M.2.1 41) k (-1))))) := by rw [hE3, up_n (Ne.symm (fun q => by cases hX.2 10 41 (by decide) (by decide) q))]; exact Xr1_h2
  have Xr2_h3 : h3 (D 42) = some (.inl (gA (xG X) 0, (16, .inl (M.2.1 42)))) := by rw [hE3, up_n (Ne.symm (fun q => by cases hX.2 10 42 (by decide) (by decide) q))]; exact Xr2_h2
  have Xs_h3 : h3 (D 10) = some (.inr (5, [.ref (D 40), .ref (D 41), .ref (D 42), .int ((M.1 30) - (nI 1)), .int (M.1 31)])) := by rw [hE3]; exact up_s
  exact ww_vret C dX6_take_29 ⟨rfl, by rw [hE3, hE2, hE1]; exact ((hX.r (i := 40) (by decide)).r (i := 41) (by decide)).i (j := 30) (Or.inr (by decide)) rfl, by rw [hE3, hE2, hE1]; exact ((FrD.rf.w (i := 40) (by decide)).w (i := 41) (by decide)).w (i := 10) (by decide)⟩
set_option maxHeartbeats 2000000 in
theorem ct_X6_put_a {l : Launch} {Γ : Gm} (hl : l.flags = flags0) (hΓ : GOK Γ) {z : ZR} {h : AH} {M : MS} {D : Nat → Nat} {k x t : Nat} (hX : Mx Γ h D M) (hk : k < 16) (hx : x < 49) : Ct l Γ yX6_put cX6_put 4 none 1 0 0 [.ref (D 11), .int (nI k), .int (nI x), .int (nI t)] z h (Rn (fun z' h' => z' = z ∧ Mx Γ h' D (putM M 32 43 k x t) ∧ FrD h h' D)) := by
  refine Ct.of hl hΓ (by decide +kernel) (Nat.le_of_ble_eq_true rfl) (fun X e1 e2 C => ?_)
  subst e1; subst e2
  have C : Cx X cX6_put 4 "RingDominoModel$State" "put" none [] 1 := C
  show WW X (Rn (fun z' h' => z' = z ∧ Mx (xG X) h' D (putM M 32 43 k x t) ∧ FrD h h' D)) z h 0 0 0 [(0, .ref (D 11)), (1, .int (nI k)), (2, .int (nI x)), (3, .int (nI t))] []
  have Xs : h (D 11) = some (cSt (fun i => D (43 + i)) (M.1 32) (M.1 33)) := hX.1 11 (by decide)
  have Xr0 : h (D 43) = some (cI (xG X) 49 (M.2.1 43)) := hX.1 43 (by decide)
  have Xr1 : h (D 44) = some (cI (xG X) 16 (M.2.1 44)) := hX.1 44 (by decide)
  have Xr2 : h (D 45) = some (cI (xG X) 16 (M.2.1 45)) := hX.1 45 (by decide)
  refine ww_aload_n C dX6_put_0 rfl 0 rfl rfl ?_
  refine gf_X6_9_X6 C dX6_put_1 (Or.inl Xs) rfl ?_
  refine ww_iload_n C dX6_put_4 rfl 2 rfl ?_
  refine ww_iload_n C dX6_put_5 rfl 1 rfl ?_
  refine ww_iast C dX6_put_6 Xr0 (by omega) (by decide) ?_
  refine ww_gen (fun h1 hE1 => ?_)
  have Xs_h1 : h1 (D 11) = some (.inr (5, [.ref (D 43), .ref (D 44), .ref (D 45), .int (M.1 32), .int (M.1 33)])) := by rw [hE1, up_n (fun q => by cases hX.2 11 43 (by decide) (by decide) q)]; exact Xs
  have Xr1_h1 : h1 (D 44) = some (.inl (gA (xG X) 0, (16, .inl (M.2.1 44)))) := by rw [hE1, up_n (Ne.symm (fun q => by cases hX.2 43 44 (by decide) (by decide) q))]; exact Xr1
  have Xr2_h1 : h1 (D 45) = some (.inl (gA (xG X) 0, (16, .inl (M.2.1 45)))) := by rw [hE1, up_n (Ne.symm (fun q => by cases hX.2 43 45 (by decide) (by decide) q))]; exact Xr2
  have Xr0_h1 : h1 (D 43) = some (.inl (gA (xG X) 0, (49, .inl (upd (M.2.1 43) x (nI k))))) := by rw [hE1]; exact up_s
  refine ww_aload_n C dX6_put_7 rfl 0 rfl rfl ?_
  refine gf_X6_15_X6 C dX6_put_8 (Or.inl Xs_h1) rfl ?_
  refine ww_iload_n C dX6_put_11 rfl 1 rfl ?_
  refine ww_iload_n C dX6_put_12 rfl 2 rfl ?_
  refine ww_iast C dX6_put_13 Xr1_h1 (by omega) (by decide) ?_
  refine ww_gen (fun h2 hE2 => ?_)
  have Xs_h2 : h2 (D 11) = some (.inr (5, [.ref (D 43), .ref (D 44), .ref (D 45), .int (M.1 32), .int (M.1 33)])) := by rw [hE2, up_n (fun q => by cases hX.2 11 44 (by decide) (by decide) q)]; exact Xs_h1
  have Xr0_h2 : h2 (D 43) = some (.inl (gA (xG X) 0, (49, .inl (upd (M.2.1 43) x (nI k))))) := by rw [hE2, up_n (fun q => by cases hX.2 43 44 (by decide) (by decide) q)]; exact Xr0_h1
  have Xr2_h2 : h2 (D 45) = some (.inl (gA (xG X) 0, (16, .inl (M.2.1 45)))) := by rw [hE2, up_n (Ne.symm (fun q => by cases hX.2 44 45 (by decide) (by decide) q))]; exact Xr2_h1
  have Xr1_h2 : h2 (D 44) = some (.inl (gA (xG X) 0, (16, .inl (upd (M.2.1 44) k (nI x))))) := by rw [hE2]; exact up_s
  refine ww_aload_n C dX6_put_14 rfl 0 rfl rfl ?_
  refine gf_X6_18_X6 C dX6_put_15 (Or.inl Xs_h2) rfl ?_
  refine ww_iload_n C dX6_put_18 rfl 1 rfl ?_
  refine ww_iload_n C dX6_put_19 rfl 3 rfl ?_
  refine ww_iast C dX6_put_20 Xr2_h2 (by omega) (by decide) ?_
  refine ww_gen (fun h3 hE3 => ?_)
  have Xs_h3 : h3 (D 11) = some (.inr (5, [.ref (D 43), .ref (D 44), .ref (D 45), .int (M.1 32), .int (M.1 33)])) := by rw [hE3, up_n (fun q => by cases hX.2 11 45 (by decide) (by decide) q)]; exact Xs_h2
  have Xr0_h3 : h3 (D 43) = some (.inl (gA (xG X) 0, (49, .inl (upd (M.2.1 43) x (nI k))))) := by rw [hE3, up_n (fun q => by cases hX.2 43 45 (by decide) (by decide) q)]; exact Xr0_h2
  have Xr1_h3 : h3 (D 44) = some (.inl (gA (xG X) 0, (16, .inl (upd (M.2.1 44) k (nI x))))) := by rw [hE3, up_n (fun q => by cases hX.2 44 45 (by decide) (by decide) q)]; exact Xr1_h2
  have Xr2_h3 : h3 (D 45) = some (.inl (gA (xG X) 0, (16, .inl (upd (M.2.1 45) k (nI t))))) := by rw [hE3]; exact up_s
  refine ww_aload_n C dX6_put_21 rfl 0 rfl rfl ?_
  refine ww_dup C dX6_put_22 rfl ?_
  refine gf_X6_21_X6 C dX6_put_23 (Or.inl Xs_h3) rfl ?_
  refine ww_iconst C dX6_put_26 cI_1 ?_
  refine ww_iadd C dX6_put_27 ?_
  refine pf_X6_21_X6 (fs' := [.ref (D 43), .ref (D 44), .ref (D 45), .int ((M.1 32) + (nI 1)), .int (M.1 33)]) C dX6_put_28 Xs_h3 rfl rfl (Nat.le_of_ble_eq_true rfl) rfl ?_
  refine ww_gen (fun h4 hE4 => ?_)
  have Xr0_h4 : h4 (D 43) = some (.inl (gA (xG X) 0, (49, .inl (upd (M.2.1 43) x (nI k))))) := by rw [hE4, up_n (Ne.symm (fun q => by cases hX.2 11 43 (by decide) (by decide) q))]; exact Xr0_h3
  have Xr1_h4 : h4 (D 44) = some (.inl (gA (xG X) 0, (16, .inl (upd (M.2.1 44) k (nI x))))) := by rw [hE4, up_n (Ne.symm (fun q => by cases hX.2 11 44 (by decide) (by decide) q))]; exact Xr1_h3
  have Xr2_h4 : h4 (D 45) = some (.inl (gA (xG X) 0, (16, .inl (upd (M.2.1 45) k (nI t))))) := by rw [hE4, up_n (Ne.symm (fun q => by cases hX.2 11 45 (by decide) (by decide) q))]; exact Xr2_h3
  have Xs_h4 : h4 (D 11) = some (.inr (5, [.ref (D 43), .ref (D 44), .ref (D 45), .int ((M.1 32) + (nI 1)), .int (M.1 33)])) := by rw [hE4]; exact up_s
  exact ww_vret C dX6_put_31 ⟨rfl, by rw [hE4, hE3, hE2, hE1]; exact (((hX.r (i := 43) (by decide)).r (i := 44) (by decide)).r (i := 45) (by decide)).i (j := 32) (Or.inr (by decide)) rfl, by rw [hE4, hE3, hE2, hE1]; exact (((FrD.rf.w (i := 43) (by decide)).w (i := 44) (by decide)).w (i := 45) (by decide)).w (i := 11) (by decide)⟩
set_option maxHeartbeats 2000000 in
theorem ct_X6_take_a {l : Launch} {Γ : Gm} (hl : l.flags = flags0) (hΓ : GOK Γ) {z : ZR} {h : AH} {M : MS} {D : Nat → Nat} {k x : Nat} (hX : Mx Γ h D M) (hk : k < 16) (hx : x < 49) (hkx : M.2.1 44 k = nI x) : Ct l Γ yX6_take cX6_take 2 none 1 0 0 [.ref (D 11), .int (nI k)] z h (Rn (fun z' h' => z' = z ∧ Mx Γ h' D (takM M 32 43 k x) ∧ FrD h h' D)) := by
  refine Ct.of hl hΓ (by decide +kernel) (Nat.le_of_ble_eq_true rfl) (fun X e1 e2 C => ?_)
  subst e1; subst e2
  have C : Cx X cX6_take 2 "RingDominoModel$State" "take" none [] 1 := C
  show WW X (Rn (fun z' h' => z' = z ∧ Mx (xG X) h' D (takM M 32 43 k x) ∧ FrD h h' D)) z h 0 0 0 [(0, .ref (D 11)), (1, .int (nI k))] []
  have Xs : h (D 11) = some (cSt (fun i => D (43 + i)) (M.1 32) (M.1 33)) := hX.1 11 (by decide)
  have Xr0 : h (D 43) = some (cI (xG X) 49 (M.2.1 43)) := hX.1 43 (by decide)
  have Xr1 : h (D 44) = some (cI (xG X) 16 (M.2.1 44)) := hX.1 44 (by decide)
  have Xr2 : h (D 45) = some (cI (xG X) 16 (M.2.1 45)) := hX.1 45 (by decide)
  refine ww_aload_n C dX6_take_0 rfl 0 rfl rfl ?_
  refine gf_X6_9_X6 C dX6_take_1 (Or.inl Xs) rfl ?_
  refine ww_aload_n C dX6_take_4 rfl 0 rfl rfl ?_
  refine gf_X6_15_X6 C dX6_take_5 (Or.inl Xs) rfl ?_
  refine ww_iload_n C dX6_take_8 rfl 1 rfl ?_
  refine ww_iald C dX6_take_9 (Or.inl Xr1) (by omega) (by decide) ?_
  refine ww_st (st' := [.int (nI x), .ref (D 43)]) (by rw [hkx]) ?_
  refine ww_iconst C dX6_take_10 cI_m1 ?_
  refine ww_iast C dX6_take_11 Xr0 (by omega) (by decide) ?_
  refine ww_gen (fun h1 hE1 => ?_)
  have Xs_h1 : h1 (D 11) = some (.inr (5, [.ref (D 43), .ref (D 44), .ref (D 45), .int (M.1 32), .int (M.1 33)])) := by rw [hE1, up_n (fun q => by cases hX.2 11 43 (by decide) (by decide) q)]; exact Xs
  have Xr1_h1 : h1 (D 44) = some (.inl (gA (xG X) 0, (16, .inl (M.2.1 44)))) := by rw [hE1, up_n (Ne.symm (fun q => by cases hX.2 43 44 (by decide) (by decide) q))]; exact Xr1
  have Xr2_h1 : h1 (D 45) = some (.inl (gA (xG X) 0, (16, .inl (M.2.1 45)))) := by rw [hE1, up_n (Ne.symm (fun q => by cases hX.2 43 45 (by decide) (by decide) q))]; exact Xr2
  have Xr0_h1 : h1 (D 43) = some (.inl (gA (xG X) 0, (49, .inl (upd (M.2.1 43) x (-1))))) := by rw [hE1]; exact up_s
  refine ww_aload_n C dX6_take_12 rfl 0 rfl rfl ?_
  refine gf_X6_15_X6 C dX6_take_13 (Or.inl Xs_h1) rfl ?_
  refine ww_iload_n C dX6_take_16 rfl 1 rfl ?_
  refine ww_iconst C dX6_take_17 cI_m1 ?_
  refine ww_iast C dX6_take_18 Xr1_h1 (by omega) (by decide) ?_
  refine ww_gen (fun h2 hE2 => ?_)
  have Xs_h2 : h2 (D 11) = some (.inr (5, [.ref (D 43), .ref (D 44), .ref (D 45), .int (M.1 32), .int (M.1 33)])) := by rw [hE2, up_n (fun q => by cases hX.2 11 44 (by decide) (by decide) q)]; exact Xs_h1
  have Xr0_h2 : h2 (D 43) = some (.inl (gA (xG X) 0, (49, .inl (upd (M.2.1 43) x (-1))))) := by rw [hE2, up_n (fun q => by cases hX.2 43 44 (by decide) (by decide) q)]; exact Xr0_h1
  have Xr2_h2 : h2 (D 45) = some (.inl (gA (xG X) 0, (16, .inl (M.2.1 45)))) := by rw [hE2, up_n (Ne.symm (fun q => by cases hX.2 44 45 (by decide) (by decide) q))]; exact Xr2_h1
  have Xr1_h2 : h2 (D 44) = some (.inl (gA (xG X) 0, (16, .inl (upd (M.2.1 44) k (-1))))) := by rw [hE2]; exact up_s
  refine ww_aload_n C dX6_take_19 rfl 0 rfl rfl ?_
  refine ww_dup C dX6_take_20 rfl ?_
  refine gf_X6_21_X6 C dX6_take_21 (Or.inl Xs_h2) rfl ?_
  refine ww_iconst C dX6_take_24 cI_1 ?_
  refine ww_isub C dX6_take_25 ?_
  refine pf_X6_21_X6 (fs' := [.ref (D 43), .ref (D 44), .ref (D 45), .int ((M.1 32) - (nI 1)), .int (M.1 33)]) C dX6_take_26 Xs_h2 rfl rfl (Nat.le_of_ble_eq_true rfl) rfl ?_
  refine ww_gen (fun h3 hE3 => ?_)
  have Xr0_h3 : h3 (D 43) = some (.inl (gA (xG X) 0, (49, .inl (upd (M.2.1 43) x (-1))))) := by rw [hE3, up_n (Ne.symm (fun q => by cases hX.2 11 43 (by decide) (by decide) q))]; exact Xr0_h2
  have Xr1_h3 : h3 (D 44) = some (.inl (gA (xG X) 0, (16, .inl (upd (M.2.1 44) k (-1))))) := by rw [hE3, up_n (Ne.symm (fun q => by cases hX.2 11 44 (by decide) (by decide) q))]; exact Xr1_h2
  have Xr2_h3 : h3 (D 45) = some (.inl (gA (xG X) 0, (16, .inl (M.2.1 45)))) := by rw [hE3, up_n (Ne.symm (fun q => by cases hX.2 11 45 (by decide) (by decide) q))]; exact Xr2_h2
  have Xs_h3 : h3 (D 11) = some (.inr (5, [.ref (D 43), .ref (D 44), .ref (D 45), .int ((M.1 32) - (nI 1)), .int (M.1 33)])) := by rw [hE3]; exact up_s
  exact ww_vret C dX6_take_29 ⟨rfl, by rw [hE3, hE2, hE1]; exact ((hX.r (i := 43) (by decide)).r (i := 44) (by decide)).i (j := 32) (Or.inr (by decide)) rfl, by rw [hE3, hE2, hE1]; exact ((FrD.rf.w (i := 43) (by decide)).w (i := 44) (by decide)).w (i := 11) (by decide)⟩
end MO6
