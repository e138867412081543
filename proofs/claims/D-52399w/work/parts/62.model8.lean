section MO8
set_option maxRecDepth 100000
/-- ahead has become now -/
def becS (M : MS) : MS := (upd (upd M.1 32 (M.1 30)) 33 (M.1 31), va_up (va_up (va_up M.2.1 43 (M.2.1 40)) 44 (M.2.1 41)) 45 (M.2.1 42), M.2.2)
set_option maxHeartbeats 2000000 in
theorem ct_X5_copy {l : Launch} {Γ : Gm} (hl : l.flags = flags0) (hΓ : GOK Γ) {z : ZR} {h : AH} {a0 a n : Nat} {f g : Nat → Int32} (H0 : h a0 = some (cI Γ n f)) (H1 : h a = some (cI Γ n g)) (hne : a0 ≠ a) (hn : n < 2 ^ 31) : Ct l Γ yX5_copy cX5_copy 2 none 1 0 0 [.ref a0, .ref a] z h (Rn (fun z' h' => z' = z ∧ h' = up h a (cI Γ n f))) := by
  refine Ct.of hl hΓ (by decide +kernel) (Nat.le_of_ble_eq_true rfl) (fun X e1 e2 C => ?_)
  subst e1; subst e2
  have C : Cx X cX5_copy 2 "RingDominoModel$Told" "copy" none [] 1 := C
  show WW X (Rn (fun z' h' => z' = z ∧ h' = up h a (cI (xG X) n f))) z h 0 0 0 [(0, .ref a0), (1, .ref a)] []
  refine ww_aload_n C dX5_copy_0 rfl 0 rfl rfl ?_
  refine ww_iconst C dX5_copy_1 cI_0 ?_
  refine ww_aload_n C dX5_copy_2 rfl 1 rfl rfl ?_
  refine ww_iconst C dX5_copy_3 cI_0 ?_
  refine ww_aload_n C dX5_copy_4 rfl 1 rfl rfl ?_
  refine ww_alen (t := 0) C dX5_copy_5 (by decide) (Or.inl H1) ?_
  refine ww_copyi (t := 0) (n0 := n) (n1 := n) (sp := 0) (dp := 0) (n := n) C q3064 q429 q428 q126 dX5_copy_6 (by decide) rfl H0 H1 (by omega) (by omega) (by omega) (by omega) (fun _ _ => rfl) (by decide) (Nat.le_of_ble_eq_true rfl) ?_
  refine ww_gen (fun h1 hE1 => ?_)
  have H0_h1 : h1 a0 = some (.inl (gA (xG X) 0, (n, .inl f))) := by rw [hE1, up_n hne]; exact H0
  have H1_h1 : h1 a = some (.inl (gA (xG X) 0, (n, .inl (va_cpy f g 0 0 n)))) := by rw [hE1]; exact up_s
  refine ww_extI (g := f) H1_h1 (fun i hi => by unfold va_cpy; rw [if_pos (by omega)]; simp) ?_
  exact ww_vret C dX5_copy_9 ⟨rfl, by rw [hE1, up_up]; rfl⟩
set_option maxHeartbeats 2000000 in
theorem ct_X6_become {l : Launch} {Γ : Gm} (hl : l.flags = flags0) (hΓ : GOK Γ) {z : ZR} {h : AH} {M : MS} {D : Nat → Nat} (hX : Mx Γ h D M) : Ct l Γ yX6_become cX6_become 2 none 2 0 0 [.ref (D 11), .ref (D 10)] z h (Rn (fun z' h' => z' = z ∧ Mx Γ h' D (becS M) ∧ FrD h h' D)) := by
  refine Ct.of hl hΓ (by decide +kernel) (Nat.le_of_ble_eq_true rfl) (fun X e1 e2 C => ?_)
  subst e1; subst e2
  have C : Cx X cX6_become 2 "RingDominoModel$State" "become" none [] 2 := C
  show WW X (Rn (fun z' h' => z' = z ∧ Mx (xG X) h' D (becS M) ∧ FrD h h' D)) z h 0 0 0 [(0, .ref (D 11)), (1, .ref (D 10))] []
  have Xs10 : h (D 10) = some (cSt (fun i => D (40 + i)) (M.1 30) (M.1 31)) := hX.1 10 (by decide)
  have Xs11 : h (D 11) = some (cSt (fun i => D (43 + i)) (M.1 32) (M.1 33)) := hX.1 11 (by decide)
  have Xr40 : h (D 40) = some (cI (xG X) 49 (M.2.1 40)) := hX.1 40 (by decide)
  have Xr41 : h (D 41) = some (cI (xG X) 16 (M.2.1 41)) := hX.1 41 (by decide)
  have Xr42 : h (D 42) = some (cI (xG X) 16 (M.2.1 42)) := hX.1 42 (by decide)
  have Xr43 : h (D 43) = some (cI (xG X) 49 (M.2.1 43)) := hX.1 43 (by decide)
  have Xr44 : h (D 44) = some (cI (xG X) 16 (M.2.1 44)) := hX.1 44 (by decide)
  have Xr45 : h (D 45) = some (cI (xG X) 16 (M.2.1 45)) := hX.1 45 (by decide)
  refine ww_aload_n C dX6_become_0 rfl 1 rfl rfl ?_
  refine gf_X6_9_X6 C dX6_become_1 (Or.inl Xs10) rfl ?_
  refine ww_aload_n C dX6_become_4 rfl 0 rfl rfl ?_
  refine gf_X6_9_X6 C dX6_become_5 (Or.inl Xs11) rfl ?_
  refine cs_X6_28_q (As := [.ref (D 40), .ref (D 43)]) (rest := []) C dX6_become_8 (ct_X5_copy (Cx.fl C) (Cx.ok C) (n := 49) Xr40 Xr43 (fun q => by cases hX.2 40 43 (by decide) (by decide) q) (by decide)) rfl rfl (Nat.le_of_ble_eq_true rfl) (by decide) (Nat.zero_le _) (Nat.zero_le _) (fun z1 h1 q1 => ?_)
  obtain ⟨hq, hE1⟩ := q1; replace hq := hq.symm; subst hq
  have Xs10_h2 : h1 (D 10) = some (.inr (5, [.ref (D 40), .ref (D 41), .ref (D 42), .int (M.1 30), .int (M.1 31)])) := by rw [hE1, up_n (fun q => by cases hX.2 10 43 (by decide) (by decide) q)]; exact Xs10
  have Xs11_h2 : h1 (D 11) = some (.inr (5, [.ref (D 43), .ref (D 44), .ref (D 45), .int (M.1 32), .int (M.1 33)])) := by rw [hE1, up_n (fun q => by cases hX.2 11 43 (by decide) (by decide) q)]; exact Xs11
  have Xr40_h2 : h1 (D 40) = some (.inl (gA (xG X) 0, (49, .inl (M.2.1 40)))) := by rw [hE1, up_n (fun q => by cases hX.2 40 43 (by decide) (by decide) q)]; exact Xr40
  have Xr41_h2 : h1 (D 41) = some (.inl (gA (xG X) 0, (16, .inl (M.2.1 41)))) := by rw [hE1, up_n (fun q => by cases hX.2 41 43 (by decide) (by decide) q)]; exact Xr41
  have Xr42_h2 : h1 (D 42) = some (.inl (gA (xG X) 0, (16, .inl (M.2.1 42)))) := by rw [hE1, up_n (fun q => by cases hX.2 42 43 (by decide) (by decide) q)]; exact Xr42
  have Xr44_h2 : h1 (D 44) = some (.inl (gA (xG X) 0, (16, .inl (M.2.1 44)))) := by rw [hE1, up_n (Ne.symm (fun q => by cases hX.2 43 44 (by decide) (by decide) q))]; exact Xr44
  have Xr45_h2 : h1 (D 45) = some (.inl (gA (xG X) 0, (16, .inl (M.2.1 45)))) := by rw [hE1, up_n (Ne.symm (fun q => by cases hX.2 43 45 (by decide) (by decide) q))]; exact Xr45
  have Xr43_h2 : h1 (D 43) = some (.inl (gA (xG X) 0, (49, .inl (M.2.1 40)))) := by rw [hE1]; exact up_s
  refine ww_aload_n C dX6_become_11 rfl 1 rfl rfl ?_
  refine gf_X6_15_X6 C dX6_become_12 (Or.inl Xs10_h2) rfl ?_
  refine ww_aload_n C dX6_become_15 rfl 0 rfl rfl ?_
  refine gf_X6_15_X6 C dX6_become_16 (Or.inl Xs11_h2) rfl ?_
  refine cs_X6_28_q (As := [.ref (D 41), .ref (D 44)]) (rest := []) C dX6_become_19 (ct_X5_copy (Cx.fl C) (Cx.ok C) (n := 16) Xr41_h2 Xr44_h2 (fun q => by cases hX.2 41 44 (by decide) (by decide) q) (by decide)) rfl rfl (Nat.le_of_ble_eq_true rfl) (by decide) (Nat.zero_le _) (Nat.zero_le _) (fun z3 h3 q3 => ?_)
  obtain ⟨hq, hE3⟩ := q3; replace hq := hq.symm; subst hq
  have Xs10_h4 : h3 (D 10) = some (.inr (5, [.ref (D 40), .ref (D 41), .ref (D 42), .int (M.1 30), .int (M.1 31)])) := by rw [hE3, up_n (fun q => by cases hX.2 10 44 (by decide) (by decide) q)]; exact Xs10_h2
  have Xs11_h4 : h3 (D 11) = some (.inr (5, [.ref (D 43), .ref (D 44), .ref (D 45), .int (M.1 32), .int (M.1 33)])) := by rw [hE3, up_n (fun q => by cases hX.2 11 44 (by decide) (by decide) q)]; exact Xs11_h2
  have Xr40_h4 : h3 (D 40) = some (.inl (gA (xG X) 0, (49, .inl (M.2.1 40)))) := by rw [hE3, up_n (fun q => by cases hX.2 40 44 (by decide) (by decide) q)]; exact Xr40_h2
  have Xr41_h4 : h3 (D 41) = some (.inl (gA (xG X) 0, (16, .inl (M.2.1 41)))) := by rw [hE3, up_n (fun q => by cases hX.2 41 44 (by decide) (by decide) q)]; exact Xr41_h2
  have Xr42_h4 : h3 (D 42) = some (.inl (gA (xG X) 0, (16, .inl (M.2.1 42)))) := by rw [hE3, up_n (fun q => by cases hX.2 42 44 (by decide) (by decide) q)]; exact Xr42_h2
  have Xr43_h4 : h3 (D 43) = some (.inl (gA (xG X) 0, (49, .inl (M.2.1 40)))) := by rw [hE3, up_n (fun q => by cases hX.2 43 44 (by decide) (by decide) q)]; exact Xr43_h2
  have Xr45_h4 : h3 (D 45) = some (.inl (gA (xG X) 0, (16, .inl (M.2.1 45)))) := by rw [hE3, up_n (Ne.symm (fun q => by cases hX.2 44 45 (by decide) (by decide) q))]; exact Xr45_h2
  have Xr44_h4 : h3 (D 44) = some (.inl (gA (xG X) 0, (16, .inl (M.2.1 41)))) := by rw [hE3]; exact up_s
  refine ww_aload_n C dX6_become_22 rfl 1 rfl rfl ?_
  refine gf_X6_18_X6 C dX6_become_23 (Or.inl Xs10_h4) rfl ?_
  refine ww_aload_n C dX6_become_26 rfl 0 rfl rfl ?_
  refine gf_X6_18_X6 C dX6_become_27 (Or.inl Xs11_h4) rfl ?_
  refine cs_X6_28_q (As := [.ref (D 42), .ref (D 45)]) (rest := []) C dX6_become_30 (ct_X5_copy (Cx.fl C) (Cx.ok C) (n := 16) Xr42_h4 Xr45_h4 (fun q => by cases hX.2 42 45 (by decide) (by decide) q) (by decide)) rfl rfl (Nat.le_of_ble_eq_true rfl) (by decide) (Nat.zero_le _) (Nat.zero_le _) (fun z5 h5 q5 => ?_)
  obtain ⟨hq, hE5⟩ := q5; replace hq := hq.symm; subst hq
  have Xs10_h6 : h5 (D 10) = some (.inr (5, [.ref (D 40), .ref (D 41), .ref (D 42), .int (M.1 30), .int (M.1 31)])) := by rw [hE5, up_n (fun q => by cases hX.2 10 45 (by decide) (by decide) q)]; exact Xs10_h4
  have Xs11_h6 : h5 (D 11) = some (.inr (5, [.ref (D 43), .ref (D 44), .ref (D 45), .int (M.1 32), .int (M.1 33)])) := by rw [hE5, up_n (fun q => by cases hX.2 11 45 (by decide) (by decide) q)]; exact Xs11_h4
  have Xr40_h6 : h5 (D 40) = some (.inl (gA (xG X) 0, (49, .inl (M.2.1 40)))) := by rw [hE5, up_n (fun q => by cases hX.2 40 45 (by decide) (by decide) q)]; exact Xr40_h4
  have Xr41_h6 : h5 (D 41) = some (.inl (gA (xG X) 0, (16, .inl (M.2.1 41)))) := by rw [hE5, up_n (fun q => by cases hX.2 41 45 (by decide) (by decide) q)]; exact Xr41_h4
  have Xr42_h6 : h5 (D 42) = some (.inl (gA (xG X) 0, (16, .inl (M.2.1 42)))) := by rw [hE5, up_n (fun q => by cases hX.2 42 45 (by decide) (by decide) q)]; exact Xr42_h4
  have Xr43_h6 : h5 (D 43) = some (.inl (gA (xG X) 0, (49, .inl (M.2.1 40)))) := by rw [hE5, up_n (fun q => by cases hX.2 43 45 (by decide) (by decide) q)]; exact Xr43_h4
  have Xr44_h6 : h5 (D 44) = some (.inl (gA (xG X) 0, (16, .inl (M.2.1 41)))) := by rw [hE5, up_n (fun q => by cases hX.2 44 45 (by decide) (by decide) q)]; exact Xr44_h4
  have Xr45_h6 : h5 (D 45) = some (.inl (gA (xG X) 0, (16, .inl (M.2.1 42)))) := by rw [hE5]; exact up_s
  refine ww_aload_n C dX6_become_33 rfl 0 rfl rfl ?_
  refine ww_aload_n C dX6_become_34 rfl 1 rfl rfl ?_
  refine gf_X6_21_X6 C dX6_become_35 (Or.inl Xs10_h6) rfl ?_
  refine pf_X6_21_X6 (fs' := [.ref (D 43), .ref (D 44), .ref (D 45), .int (M.1 30), .int (M.1 33)]) C dX6_become_38 Xs11_h6 rfl rfl (Nat.le_of_ble_eq_true rfl) rfl ?_
  refine ww_gen (fun h7 hE7 => ?_)
  have Xs10_h7 : h7 (D 10) = some (.inr (5, [.ref (D 40), .ref (D 41), .ref (D 42), .int (M.1 30), .int (M.1 31)])) := by rw [hE7, up_n (fun q => by cases hX.2 10 11 (by decide) (by decide) q)]; exact Xs10_h6
  have Xr40_h7 : h7 (D 40) = some (.inl (gA (xG X) 0, (49, .inl (M.2.1 40)))) := by rw [hE7, up_n (Ne.symm (fun q => by cases hX.2 11 40 (by decide) (by decide) q))]; exact Xr40_h6
  have Xr41_h7 : h7 (D 41) = some (.inl (gA (xG X) 0, (16, .inl (M.2.1 41)))) := by rw [hE7, up_n (Ne.symm (fun q => by cases hX.2 11 41 (by decide) (by decide) q))]; exact Xr41_h6
  have Xr42_h7 : h7 (D 42) = some (.inl (gA (xG X) 0, (16, .inl (M.2.1 42)))) := by rw [hE7, up_n (Ne.symm (fun q => by cases hX.2 11 42 (by decide) (by decide) q))]; exact Xr42_h6
  have Xr43_h7 : h7 (D 43) = some (.inl (gA (xG X) 0, (49, .inl (M.2.1 40)))) := by rw [hE7, up_n (Ne.symm (fun q => by cases hX.2 11 43 (by decide) (by decide) q))]; exact Xr43_h6
  have Xr44_h7 : h7 (D 44) = some (.inl (gA (xG X) 0, (16, .inl (M.2.1 41)))) := by rw [hE7, up_n (Ne.symm (fun q => by cases hX.2 11 44 (by decide) (by decide) q))]; exact Xr44_h6
  have Xr45_h7 : h7 (D 45) = some (.inl (gA (xG X) 0, (16, .inl (M.2.1 42)))) := by rw [hE7, up_n (Ne.symm (fun q => by cases hX.2 11 45 (by decide) (by decide) q))]; exact Xr45_h6
  have Xs11_h7 : h7 (D 11) = some (.inr (5, [.ref (D 43), .ref (D 44), .ref (D 45), .int (M.1 30), .int (M.1 33)])) := by rw [hE7]; exact up_s
  refine ww_aload_n C dX6_become_41 rfl 0 rfl rfl ?_
  refine ww_aload_n C dX6_become_42 rfl 1 rfl rfl ?_
  refine gf_X6_25_X6 C dX6_become_43 (Or.inl Xs10_h7) rfl ?_
  refine pf_X6_25_X6 (fs' := [.ref (D 43), .ref (D 44), .ref (D 45), .int (M.1 30), .int (M.1 31)]) C dX6_become_46 Xs11_h7 rfl rfl (Nat.le_of_ble_eq_true rfl) rfl ?_
  refine ww_gen (fun h8 hE8 => ?_)
  have Xs10_h8 : h8 (D 10) = some (.inr (5, [.ref (D 40), .ref (D 41), .ref (D 42), .int (M.1 30), .int (M.1 31)])) := by rw [hE8, up_n (fun q => by cases hX.2 10 11 (by decide) (by decide) q)]; exact Xs10_h7
  have Xr40_h8 : h8 (D 40) = some (.inl (gA (xG X) 0, (49, .inl (M.2.1 40)))) := by rw [hE8, up_n (Ne.symm (fun q => by cases hX.2 11 40 (by decide) (by decide) q))]; exact Xr40_h7
  have Xr41_h8 : h8 (D 41) = some (.inl (gA (xG X) 0, (16, .inl (M.2.1 41)))) := by rw [hE8, up_n (Ne.symm (fun q => by cases hX.2 11 41 (by decide) (by decide) q))]; exact Xr41_h7
  have Xr42_h8 : h8 (D 42) = some (.inl (gA (xG X) 0, (16, .inl (M.2.1 42)))) := by rw [hE8, up_n (Ne.symm (fun q => by cases hX.2 11 42 (by decide) (by decide) q))]; exact Xr42_h7
  have Xr43_h8 : h8 (D 43) = some (.inl (gA (xG X) 0, (49, .inl (M.2.1 40)))) := by rw [hE8, up_n (Ne.symm (fun q => by cases hX.2 11 43 (by decide) (by decide) q))]; exact Xr43_h7
  have Xr44_h8 : h8 (D 44) = some (.inl (gA (xG X) 0, (16, .inl (M.2.1 41)))) := by rw [hE8, up_n (Ne.symm (fun q => by cases hX.2 11 44 (by decide) (by decide) q))]; exact Xr44_h7
  have Xr45_h8 : h8 (D 45) = some (.inl (gA (xG X) 0, (16, .inl (M.2.1 42)))) := by rw [hE8, up_n (Ne.symm (fun q => by cases hX.2 11 45 (by decide) (by decide) q))]; exact Xr45_h7
  have Xs11_h8 : h8 (D 11) = some (.inr (5, [.ref (D 43), .ref (D 44), .ref (D 45), .int (M.1 30), .int (M.1 31)])) := by rw [hE8]; exact up_s
  have hfin : becS M = (upd (upd M.1 32 (M.1 30)) 33 (M.1 31), va_up (va_up (va_up M.2.1 43 (M.2.1 40)) 44 (M.2.1 41)) 45 (M.2.1 42), M.2.2) := rfl
  exact ww_vret C dX6_become_49 ⟨rfl, by rw [hE8, hE7, hE5, hE3, hE1, hfin]; exact ((((hX.r (i := 43) (by decide)).r (i := 44) (by decide)).r (i := 45) (by decide)).i (j := 32) (Or.inr (by decide)) rfl).i (j := 33) (Or.inr (by decide)) rfl, by rw [hE8, hE7, hE5, hE3, hE1]; exact ((((FrD.rf.w (i := 43) (by decide)).w (i := 44) (by decide)).w (i := 45) (by decide)).w (i := 11) (by decide)).w (i := 11) (by decide)⟩
end MO8
