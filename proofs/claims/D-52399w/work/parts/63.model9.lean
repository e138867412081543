section MO9
set_option maxRecDepth 100000
/-- told has become fresh -/
def becT (M : MS) : MS := (upd (upd (upd (upd (upd M.1 20 (M.1 25)) 21 (M.1 26)) 22 (M.1 27)) 23 (M.1 28)) 24 (M.1 29), va_up (va_up (va_up (va_up (va_up (va_up (va_up (va_up (va_up (va_up M.2.1 20 (M.2.1 30)) 21 (M.2.1 31)) 22 (M.2.1 32)) 23 (M.2.1 33)) 24 (M.2.1 34)) 25 (M.2.1 35)) 26 (M.2.1 36)) 27 (M.2.1 37)) 28 (M.2.1 38)) 29 (M.2.1 39), M.2.2)
def begT (M : MS) : MS := (upd (upd (upd (upd (upd M.1 25 (nI 5)) 26 (nI 5)) 27 (nI 0)) 28 (nI 0)) 29 (nI 0), M.2)
def begS (M : MS) (f g : Nat → Int32) : MS := (upd (upd M.1 30 (nI 0)) 31 (nI 0), va_up (va_up M.2.1 40 f) 41 g, M.2.2)
set_option maxHeartbeats 2000000 in
theorem ct_X5_become {l : Launch} {Γ : Gm} (hl : l.flags = flags0) (hΓ : GOK Γ) {z : ZR} {h : AH} {M : MS} {D : Nat → Nat} (hX : Mx Γ h D M) : Ct l Γ yX5_become cX5_become 2 none 2 0 0 [.ref (D 7), .ref (D 8)] z h (Rn (fun z' h' => z' = z ∧ Mx Γ h' D (becT M) ∧ FrD h h' D)) := by
  refine Ct.of hl hΓ (by decide +kernel) (Nat.le_of_ble_eq_true rfl) (fun X e1 e2 C => ?_)
  subst e1; subst e2
  have C : Cx X cX5_become 2 "RingDominoModel$Told" "become" none [] 2 := C
  show WW X (Rn (fun z' h' => z' = z ∧ Mx (xG X) h' D (becT M) ∧ FrD h h' D)) z h 0 0 0 [(0, .ref (D 7)), (1, .ref (D 8))] []
  have Xt7 : h (D 7) = some (cTd (M.1 20) (M.1 21) (M.1 22) (M.1 23) (M.1 24) (fun i => D (20 + i))) := hX.1 7 (by decide)
  have Xt8 : h (D 8) = some (cTd (M.1 25) (M.1 26) (M.1 27) (M.1 28) (M.1 29) (fun i => D (30 + i))) := hX.1 8 (by decide)
  have Xr20 : h (D 20) = some (cI (xG X) 51 (M.2.1 20)) := hX.1 20 (by decide)
  have Xr21 : h (D 21) = some (cI (xG X) 17 (M.2.1 21)) := hX.1 21 (by decide)
  have Xr22 : h (D 22) = some (cI (xG X) 17 (M.2.1 22)) := hX.1 22 (by decide)
  have Xr23 : h (D 23) = some (cI (xG X) 17 (M.2.1 23)) := hX.1 23 (by decide)
  have Xr24 : h (D 24) = some (cI (xG X) 17 (M.2.1 24)) := hX.1 24 (by decide)
  have Xr25 : h (D 25) = some (cI (xG X) 51 (M.2.1 25)) := hX.1 25 (by decide)
  have Xr26 : h (D 26) = some (cI (xG X) 17 (M.2.1 26)) := hX.1 26 (by decide)
  have Xr27 : h (D 27) = some (cI (xG X) 800 (M.2.1 27)) := hX.1 27 (by decide)
  have Xr28 : h (D 28) = some (cI (xG X) 800 (M.2.1 28)) := hX.1 28 (by decide)
  have Xr29 : h (D 29) = some (cI (xG X) 800 (M.2.1 29)) := hX.1 29 (by decide)
  have Xr30 : h (D 30) = some (cI (xG X) 51 (M.2.1 30)) := hX.1 30 (by decide)
  have Xr31 : h (D 31) = some (cI (xG X) 17 (M.2.1 31)) := hX.1 31 (by decide)
  have Xr32 : h (D 32) = some (cI (xG X) 17 (M.2.1 32)) := hX.1 32 (by decide)
  have Xr33 : h (D 33) = some (cI (xG X) 17 (M.2.1 33)) := hX.1 33 (by decide)
  have Xr34 : h (D 34) = some (cI (xG X) 17 (M.2.1 34)) := hX.1 34 (by decide)
  have Xr35 : h (D 35) = some (cI (xG X) 51 (M.2.1 35)) := hX.1 35 (by decide)
  have Xr36 : h (D 36) = some (cI (xG X) 17 (M.2.1 36)) := hX.1 36 (by decide)
  have Xr37 : h (D 37) = some (cI (xG X) 800 (M.2.1 37)) := hX.1 37 (by decide)
  have Xr38 : h (D 38) = some (cI (xG X) 800 (M.2.1 38)) := hX.1 38 (by decide)
  have Xr39 : h (D 39) = some (cI (xG X) 800 (M.2.1 39)) := hX.1 39 (by decide)
  refine ww_aload_n C dX5_become_0 rfl 0 rfl rfl ?_
  refine ww_aload_n C dX5_become_1 rfl 1 rfl rfl ?_
  refine gf_X5_9_X5 C dX5_become_2 (Or.inl Xt8) rfl ?_
  refine pf_X5_9_X5 (fs' := [.int (M.1 25), .int (M.1 21), .int (M.1 22), .ref (D 20), .int (M.1 23), .ref (D 21), .ref (D 22), .ref (D 23), .ref (D 24), .ref (D 25), .ref (D 26), .int (M.1 24), .ref (D 27), .ref (D 28), .ref (D 29)]) C dX5_become_5 Xt7 rfl rfl (Nat.le_of_ble_eq_true rfl) rfl ?_
  refine ww_gen (fun h1 hE1 => ?_)
  have Xt8_h1 : h1 (D 8) = some (.inr (4, [.int (M.1 25), .int (M.1 26), .int (M.1 27), .ref (D 30), .int (M.1 28), .ref (D 31), .ref (D 32), .ref (D 33), .ref (D 34), .ref (D 35), .ref (D 36), .int (M.1 29), .ref (D 37), .ref (D 38), .ref (D 39)])) := by rw [hE1, up_n (Ne.symm (fun q => by cases hX.2 7 8 (by decide) (by decide) q))]; exact Xt8
  have Xr20_h1 : h1 (D 20) = some (.inl (gA (xG X) 0, (51, .inl (M.2.1 20)))) := by rw [hE1, up_n (Ne.symm (fun q => by cases hX.2 7 20 (by decide) (by decide) q))]; exact Xr20
  have Xr21_h1 : h1 (D 21) = some (.inl (gA (xG X) 0, (17, .inl (M.2.1 21)))) := by rw [hE1, up_n (Ne.symm (fun q => by cases hX.2 7 21 (by decide) (by decide) q))]; exact Xr21
  have Xr22_h1 : h1 (D 22) = some (.inl (gA (xG X) 0, (17, .inl (M.2.1 22)))) := by rw [hE1, up_n (Ne.symm (fun q => by cases hX.2 7 22 (by decide) (by decide) q))]; exact Xr22
  have Xr23_h1 : h1 (D 23) = some (.inl (gA (xG X) 0, (17, .inl (M.2.1 23)))) := by rw [hE1, up_n (Ne.symm (fun q => by cases hX.2 7 23 (by decide) (by decide) q))]; exact Xr23
  have Xr24_h1 : h1 (D 24) = some (.inl (gA (xG X) 0, (17, .inl (M.2.1 24)))) := by rw [hE1, up_n (Ne.symm (fun q => by cases hX.2 7 24 (by decide) (by decide) q))]; exact Xr24
  have Xr25_h1 : h1 (D 25) = some (.inl (gA (xG X) 0, (51, .inl (M.2.1 25)))) := by rw [hE1, up_n (Ne.symm (fun q => by cases hX.2 7 25 (by decide) (by decide) q))]; exact Xr25
  have Xr26_h1 : h1 (D 26) = some (.inl (gA (xG X) 0, (17, .inl (M.2.1 26)))) := by rw [hE1, up_n (Ne.symm (fun q => by cases hX.2 7 26 (by decide) (by decide) q))]; exact Xr26
  have Xr27_h1 : h1 (D 27) = some (.inl (gA (xG X) 0, (800, .inl (M.2.1 27)))) := by rw [hE1, up_n (Ne.symm (fun q => by cases hX.2 7 27 (by decide) (by decide) q))]; exact Xr27
  have Xr28_h1 : h1 (D 28) = some (.inl (gA (xG X) 0, (800, .inl (M.2.1 28)))) := by rw [hE1, up_n (Ne.symm (fun q => by cases hX.2 7 28 (by decide) (by decide) q))]; exact Xr28
  have Xr29_h1 : h1 (D 29) = some (.inl (gA (xG X) 0, (800, .inl (M.2.1 29)))) := by rw [hE1, up_n (Ne.symm (fun q => by cases hX.2 7 29 (by decide) (by decide) q))]; exact Xr29
  have Xr30_h1 : h1 (D 30) = some (.inl (gA (xG X) 0, (51, .inl (M.2.1 30)))) := by rw [hE1, up_n (Ne.symm (fun q => by cases hX.2 7 30 (by decide) (by decide) q))]; exact Xr30
  have Xr31_h1 : h1 (D 31) = some (.inl (gA (xG X) 0, (17, .inl (M.2.1 31)))) := by rw [hE1, up_n (Ne.symm (fun q => by cases hX.2 7 31 (by decide) (by decide) q))]; exact Xr31
  have Xr32_h1 : h1 (D 32) = some (.inl (gA (xG X) 0, (17, .inl (M.2.1 32)))) := by rw [hE1, up_n (Ne.symm (fun q => by cases hX.2 7 32 (by decide) (by decide) q))]; exact Xr32
  have Xr33_h1 : h1 (D 33) = some (.inl (gA (xG X) 0, (17, .inl (M.2.1 33)))) := by rw [hE1, up_n (Ne.symm (fun q => by cases hX.2 7 33 (by decide) (by decide) q))]; exact Xr33
  have Xr34_h1 : h1 (D 34) = some (.inl (gA (xG X) 0, (17, .inl (M.2.1 34)))) := by rw [hE1, up_n (Ne.symm (fun q => by cases hX.2 7 34 (by decide) (by decide) q))]; exact Xr34
  have Xr35_h1 : h1 (D 35) = some (.inl (gA (xG X) 0, (51, .inl (M.2.1 35)))) := by rw [hE1, up_n (Ne.symm (fun q => by cases hX.2 7 35 (by decide) (by decide) q))]; exact Xr35
  have Xr36_h1 : h1 (D 36) = some (.inl (gA (xG X) 0, (17, .inl (M.2.1 36)))) := by rw [hE1, up_n (Ne.symm (fun q => by cases hX.2 7 36 (by decide) (by decide) q))]; exact Xr36
  have Xr37_h1 : h1 (D 37) = some (.inl (gA (xG X) 0, (800, .inl (M.2.1 37)))) := by rw [hE1, up_n (Ne.symm (fun q => by cases hX.2 7 37 (by decide) (by decide) q))]; exact Xr37
  have Xr38_h1 : h1 (D 38) = some (.inl (gA (xG X) 0, (800, .inl (M.2.1 38)))) := by rw [hE1, up_n (Ne.symm (fun q => by cases hX.2 7 38 (by decide) (by decide) q))]; exact Xr38
  have Xr39_h1 : h1 (D 39) = some (.inl (gA (xG X) 0, (800, .inl (M.2.1 39)))) := by rw [hE1, up_n (Ne.symm (fun q => by cases hX.2 7 39 (by decide) (by decide) q))]; exact Xr39
  have Xt7_h1 : h1 (D 7) = some (.inr (4, [.int (M.1 25), .int (M.1 21), .int (M.1 22), .ref (D 20), .int (M.1 23), .ref (D 21), .ref (D 22), .ref (D 23), .ref (D 24), .ref (D 25), .ref (D 26), .int (M.1 24), .ref (D 27), .ref (D 28), .ref (D 29)])) := by rw [hE1]; exact up_s
  refine ww_aload_n C dX5_become_8 rfl 0 rfl rfl ?_
  refine ww_aload_n C dX5_become_9 rfl 1 rfl rfl ?_
  refine gf_X5_15_X5 C dX5_become_10 (Or.inl Xt8_h1) rfl ?_
  refine pf_X5_15_X5 (fs' := [.int (M.1 25), .int (M.1 26), .int (M.1 22), .ref (D 20), .int (M.1 23), .ref (D 21), .ref (D 22), .ref (D 23), .ref (D 24), .ref (D 25), .ref (D 26), .int (M.1 24), .ref (D 27), .ref (D 28), .ref (D 29)]) C dX5_become_13 Xt7_h1 rfl rfl (Nat.le_of_ble_eq_true rfl) rfl ?_
  refine ww_gen (fun h2 hE2 => ?_)
  have Xt8_h2 : h2 (D 8) = some (.inr (4, [.int (M.1 25), .int (M.1 26), .int (M.1 27), .ref (D 30), .int (M.1 28), .ref (D 31), .ref (D 32), .ref (D 33), .ref (D 34), .ref (D 35), .ref (D 36), .int (M.1 29), .ref (D 37), .ref (D 38), .ref (D 39)])) := by rw [hE2, up_n (Ne.symm (fun q => by cases hX.2 7 8 (by decide) (by decide) q))]; exact Xt8_h1
  have Xr20_h2 : h2 (D 20) = some (.inl (gA (xG X) 0, (51, .inl (M.2.1 20)))) := by rw [hE2, up_n (Ne.symm (fun q => by cases hX.2 7 20 (by decide) (by decide) q))]; exact Xr20_h1
  have Xr21_h2 : h2 (D 21) = some (.inl (gA (xG X) 0, (17, .inl (M.2.1 21)))) := by rw [hE2, up_n (Ne.symm (fun q => by cases hX.2 7 21 (by decide) (by decide) q))]; exact Xr21_h1
  have Xr22_h2 : h2 (D 22) = some (.inl (gA (xG X) 0, (17, .inl (M.2.1 22)))) := by rw [hE2, up_n (Ne.symm (fun q => by cases hX.2 7 22 (by decide) (by decide) q))]; exact Xr22_h1
  have Xr23_h2 : h2 (D 23) = some (.inl (gA (xG X) 0, (17, .inl (M.2.1 23)))) := by rw [hE2, up_n (Ne.symm (fun q => by cases hX.2 7 23 (by decide) (by decide) q))]; exact Xr23_h1
  have Xr24_h2 : h2 (D 24) = some (.inl (gA (xG X) 0, (17, .inl (M.2.1 24)))) := by rw [hE2, up_n (Ne.symm (fun q => by cases hX.2 7 24 (by decide) (by decide) q))]; exact Xr24_h1
  have Xr25_h2 : h2 (D 25) = some (.inl (gA (xG X) 0, (51, .inl (M.2.1 25)))) := by rw [hE2, up_n (Ne.symm (fun q => by cases hX.2 7 25 (by decide) (by decide) q))]; exact Xr25_h1
  have Xr26_h2 : h2 (D 26) = some (.inl (gA (xG X) 0, (17, .inl (M.2.1 26)))) := by rw [hE2, up_n (Ne.symm (fun q => by cases hX.2 7 26 (by decide) (by decide) q))]; exact Xr26_h1
  have Xr27_h2 : h2 (D 27) = some (.inl (gA (xG X) 0, (800, .inl (M.2.1 27)))) := by rw [hE2, up_n (Ne.symm (fun q => by cases hX.2 7 27 (by decide) (by decide) q))]; exact Xr27_h1
  have Xr28_h2 : h2 (D 28) = some (.inl (gA (xG X) 0, (800, .inl (M.2.1 28)))) := by rw [hE2, up_n (Ne.symm (fun q => by cases hX.2 7 28 (by decide) (by decide) q))]; exact Xr28_h1
  have Xr29_h2 : h2 (D 29) = some (.inl (gA (xG X) 0, (800, .inl (M.2.1 29)))) := by rw [hE2, up_n (Ne.symm (fun q => by cases hX.2 7 29 (by decide) (by decide) q))]; exact Xr29_h1
  have Xr30_h2 : h2 (D 30) = some (.inl (gA (xG X) 0, (51, .inl (M.2.1 30)))) := by rw [hE2, up_n (Ne.symm (fun q => by cases hX.2 7 30 (by decide) (by decide) q))]; exact Xr30_h1
  have Xr31_h2 : h2 (D 31) = some (.inl (gA (xG X) 0, (17, .inl (M.2.1 31)))) := by rw [hE2, up_n (Ne.symm (fun q => by cases hX.2 7 31 (by decide) (by decide) q))]; exact Xr31_h1
  have Xr32_h2 : h2 (D 32) = some (.inl (gA (xG X) 0, (17, .inl (M.2.1 32)))) := by rw [hE2, up_n (Ne.symm (fun q => by cases hX.2 7 32 (by decide) (by decide) q))]; exact Xr32_h1
  have Xr33_h2 : h2 (D 33) = some (.inl (gA (xG X) 0, (17, .inl (M.2.1 33)))) := by rw [hE2, up_n (Ne.symm (fun q => by cases hX.2 7 33 (by decide) (by decide) q))]; exact Xr33_h1
  have Xr34_h2 : h2 (D 34) = some (.inl (gA (xG X) 0, (17, .inl (M.2.1 34)))) := by rw [hE2, up_n (Ne.symm (fun q => by cases hX.2 7 34 (by decide) (by decide) q))]; exact Xr34_h1
  have Xr35_h2 : h2 (D 35) = some (.inl (gA (xG X) 0, (51, .inl (M.2.1 35)))) := by rw [hE2, up_n (Ne.symm (fun q => by cases hX.2 7 35 (by decide) (by decide) q))]; exact Xr35_h1
  have Xr36_h2 : h2 (D 36) = some (.inl (gA (xG X) 0, (17, .inl (M.2.1 36)))) := by rw [hE2, up_n (Ne.symm (fun q => by cases hX.2 7 36 (by decide) (by decide) q))]; exact Xr36_h1
  have Xr37_h2 : h2 (D 37) = some (.inl (gA (xG X) 0, (800, .inl (M.2.1 37)))) := by rw [hE2, up_n (Ne.symm (fun q => by cases hX.2 7 37 (by decide) (by decide) q))]; exact Xr37_h1
  have Xr38_h2 : h2 (D 38) = some (.inl (gA (xG X) 0, (800, .inl (M.2.1 38)))) := by rw [hE2, up_n (Ne.symm (fun q => by cases hX.2 7 38 (by decide) (by decide) q))]; exact Xr38_h1
  have Xr39_h2 : h2 (D 39) = some (.inl (gA (xG X) 0, (800, .inl (M.2.1 39)))) := by rw [hE2, up_n (Ne.symm (fun q => by cases hX.2 7 39 (by decide) (by decide) q))]; exact Xr39_h1
  have Xt7_h2 : h2 (D 7) = some (.inr (4, [.int (M.1 25), .int (M.1 26), .int (M.1 22), .ref (D 20), .int (M.1 23), .ref (D 21), .ref (D 22), .ref (D 23), .ref (D 24), .ref (D 25), .ref (D 26), .int (M.1 24), .ref (D 27), .ref (D 28), .ref (D 29)])) := by rw [hE2]; exact up_s
  refine ww_aload_n C dX5_become_16 rfl 0 rfl rfl ?_
  refine ww_aload_n C dX5_become_17 rfl 1 rfl rfl ?_
  refine gf_X5_49_X5 C dX5_become_18 (Or.inl Xt8_h2) rfl ?_
  refine pf_X5_49_X5 (fs' := [.int (M.1 25), .int (M.1 26), .int (M.1 27), .ref (D 20), .int (M.1 23), .ref (D 21), .ref (D 22), .ref (D 23), .ref (D 24), .ref (D 25), .ref (D 26), .int (M.1 24), .ref (D 27), .ref (D 28), .ref (D 29)]) C dX5_become_21 Xt7_h2 rfl rfl (Nat.le_of_ble_eq_true rfl) rfl ?_
  refine ww_gen (fun h3 hE3 => ?_)
  have Xt8_h3 : h3 (D 8) = some (.inr (4, [.int (M.1 25), .int (M.1 26), .int (M.1 27), .ref (D 30), .int (M.1 28), .ref (D 31), .ref (D 32), .ref (D 33), .ref (D 34), .ref (D 35), .ref (D 36), .int (M.1 29), .ref (D 37), .ref (D 38), .ref (D 39)])) := by rw [hE3, up_n (Ne.symm (fun q => by cases hX.2 7 8 (by decide) (by decide) q))]; exact Xt8_h2
  have Xr20_h3 : h3 (D 20) = some (.inl (gA (xG X) 0, (51, .inl (M.2.1 20)))) := by rw [hE3, up_n (Ne.symm (fun q => by cases hX.2 7 20 (by decide) (by decide) q))]; exact Xr20_h2
  have Xr21_h3 : h3 (D 21) = some (.inl (gA (xG X) 0, (17, .inl (M.2.1 21)))) := by rw [hE3, up_n (Ne.symm (fun q => by cases hX.2 7 21 (by decide) (by decide) q))]; exact Xr21_h2
  have Xr22_h3 : h3 (D 22) = some (.inl (gA (xG X) 0, (17, .inl (M.2.1 22)))) := by rw [hE3, up_n (Ne.symm (fun q => by cases hX.2 7 22 (by decide) (by decide) q))]; exact Xr22_h2
  have Xr23_h3 : h3 (D 23) = some (.inl (gA (xG X) 0, (17, .inl (M.2.1 23)))) := by rw [hE3, up_n (Ne.symm (fun q => by cases hX.2 7 23 (by decide) (by decide) q))]; exact Xr23_h2
  have Xr24_h3 : h3 (D 24) = some (.inl (gA (xG X) 0, (17, .inl (M.2.1 24)))) := by rw [hE3, up_n (Ne.symm (fun q => by cases hX.2 7 24 (by decide) (by decide) q))]; exact Xr24_h2
  have Xr25_h3 : h3 (D 25) = some (.inl (gA (xG X) 0, (51, .inl (M.2.1 25)))) := by rw [hE3, up_n (Ne.symm (fun q => by cases hX.2 7 25 (by decide) (by decide) q))]; exact Xr25_h2
  have Xr26_h3 : h3 (D 26) = some (.inl (gA (xG X) 0, (17, .inl (M.2.1 26)))) := by rw [hE3, up_n (Ne.symm (fun q => by cases hX.2 7 26 (by decide) (by decide) q))]; exact Xr26_h2
  have Xr27_h3 : h3 (D 27) = some (.inl (gA (xG X) 0, (800, .inl (M.2.1 27)))) := by rw [hE3, up_n (Ne.symm (fun q => by cases hX.2 7 27 (by decide) (by decide) q))]; exact Xr27_h2
  have Xr28_h3 : h3 (D 28) = some (.inl (gA (xG X) 0, (800, .inl (M.2.1 28)))) := by rw [hE3, up_n (Ne.symm (fun q => by cases hX.2 7 28 (by decide) (by decide) q))]; exact Xr28_h2
  have Xr29_h3 : h3 (D 29) = some (.inl (gA (xG X) 0, (800, .inl (M.2.1 29)))) := by rw [hE3, up_n (Ne.symm (fun q => by cases hX.2 7 29 (by decide) (by decide) q))]; exact Xr29_h2
  have Xr30_h3 : h3 (D 30) = some (.inl (gA (xG X) 0, (51, .inl (M.2.1 30)))) := by rw [hE3, up_n (Ne.symm (fun q => by cases hX.2 7 30 (by decide) (by decide) q))]; exact Xr30_h2
  have Xr31_h3 : h3 (D 31) = some (.inl (gA (xG X) 0, (17, .inl (M.2.1 31)))) := by rw [hE3, up_n (Ne.symm (fun q => by cases hX.2 7 31 (by decide) (by decide) q))]; exact Xr31_h2
  have Xr32_h3 : h3 (D 32) = some (.inl (gA (xG X) 0, (17, .inl (M.2.1 32)))) := by rw [hE3, up_n (Ne.symm (fun q => by cases hX.2 7 32 (by decide) (by decide) q))]; exact Xr32_h2
  have Xr33_h3 : h3 (D 33) = some (.inl (gA (xG X) 0, (17, .inl (M.2.1 33)))) := by rw [hE3, up_n (Ne.symm (fun q => by cases hX.2 7 33 (by decide) (by decide) q))]; exact Xr33_h2
  have Xr34_h3 : h3 (D 34) = some (.inl (gA (xG X) 0, (17, .inl (M.2.1 34)))) := by rw [hE3, up_n (Ne.symm (fun q => by cases hX.2 7 34 (by decide) (by decide) q))]; exact Xr34_h2
  have Xr35_h3 : h3 (D 35) = some (.inl (gA (xG X) 0, (51, .inl (M.2.1 35)))) := by rw [hE3, up_n (Ne.symm (fun q => by cases hX.2 7 35 (by decide) (by decide) q))]; exact Xr35_h2
  have Xr36_h3 : h3 (D 36) = some (.inl (gA (xG X) 0, (17, .inl (M.2.1 36)))) := by rw [hE3, up_n (Ne.symm (fun q => by cases hX.2 7 36 (by decide) (by decide) q))]; exact Xr36_h2
  have Xr37_h3 : h3 (D 37) = some (.inl (gA (xG X) 0, (800, .inl (M.2.1 37)))) := by rw [hE3, up_n (Ne.symm (fun q => by cases hX.2 7 37 (by decide) (by decide) q))]; exact Xr37_h2
  have Xr38_h3 : h3 (D 38) = some (.inl (gA (xG X) 0, (800, .inl (M.2.1 38)))) := by rw [hE3, up_n (Ne.symm (fun q => by cases hX.2 7 38 (by decide) (by decide) q))]; exact Xr38_h2
  have Xr39_h3 : h3 (D 39) = some (.inl (gA (xG X) 0, (800, .inl (M.2.1 39)))) := by rw [hE3, up_n (Ne.symm (fun q => by cases hX.2 7 39 (by decide) (by decide) q))]; exact Xr39_h2
  have Xt7_h3 : h3 (D 7) = some (.inr (4, [.int (M.1 25), .int (M.1 26), .int (M.1 27), .ref (D 20), .int (M.1 23), .ref (D 21), .ref (D 22), .ref (D 23), .ref (D 24), .ref (D 25), .ref (D 26), .int (M.1 24), .ref (D 27), .ref (D 28), .ref (D 29)])) := by rw [hE3]; exact up_s
  refine ww_aload_n C dX5_become_24 rfl 0 rfl rfl ?_
  refine ww_aload_n C dX5_become_25 rfl 1 rfl rfl ?_
  refine gf_X5_52_X5 C dX5_become_26 (Or.inl Xt8_h3) rfl ?_
  refine pf_X5_52_X5 (fs' := [.int (M.1 25), .int (M.1 26), .int (M.1 27), .ref (D 20), .int (M.1 28), .ref (D 21), .ref (D 22), .ref (D 23), .ref (D 24), .ref (D 25), .ref (D 26), .int (M.1 24), .ref (D 27), .ref (D 28), .ref (D 29)]) C dX5_become_29 Xt7_h3 rfl rfl (Nat.le_of_ble_eq_true rfl) rfl ?_
  refine ww_gen (fun h4 hE4 => ?_)
  have Xt8_h4 : h4 (D 8) = some (.inr (4, [.int (M.1 25), .int (M.1 26), .int (M.1 27), .ref (D 30), .int (M.1 28), .ref (D 31), .ref (D 32), .ref (D 33), .ref (D 34), .ref (D 35), .ref (D 36), .int (M.1 29), .ref (D 37), .ref (D 38), .ref (D 39)])) := by rw [hE4, up_n (Ne.symm (fun q => by cases hX.2 7 8 (by decide) (by decide) q))]; exact Xt8_h3
  have Xr20_h4 : h4 (D 20) = some (.inl (gA (xG X) 0, (51, .inl (M.2.1 20)))) := by rw [hE4, up_n (Ne.symm (fun q => by cases hX.2 7 20 (by decide) (by decide) q))]; exact Xr20_h3
  have Xr21_h4 : h4 (D 21) = some (.inl (gA (xG X) 0, (17, .inl (M.2.1 21)))) := by rw [hE4, up_n (Ne.symm (fun q => by cases hX.2 7 21 (by decide) (by decide) q))]; exact Xr21_h3
  have Xr22_h4 : h4 (D 22) = some (.inl (gA (xG X) 0, (17, .inl (M.2.1 22)))) := by rw [hE4, up_n (Ne.symm (fun q => by cases hX.2 7 22 (by decide) (by decide) q))]; exact Xr22_h3
  have Xr23_h4 : h4 (D 23) = some (.inl (gA (xG X) 0, (17, .inl (M.2.1 23)))) := by rw [hE4, up_n (Ne.symm (fun q => by cases hX.2 7 23 (by decide) (by decide) q))]; exact Xr23_h3
  have Xr24_h4 : h4 (D 24) = some (.inl (gA (xG X) 0, (17, .inl (M.2.1 24)))) := by rw [hE4, up_n (Ne.symm (fun q => by cases hX.2 7 24 (by decide) (by decide) q))]; exact Xr24_h3
  have Xr25_h4 : h4 (D 25) = some (.inl (gA (xG X) 0, (51, .inl (M.2.1 25)))) := by rw [hE4, up_n (Ne.symm (fun q => by cases hX.2 7 25 (by decide) (by decide) q))]; exact Xr25_h3
  have Xr26_h4 : h4 (D 26) = some (.inl (gA (xG X) 0, (17, .inl (M.2.1 26)))) := by rw [hE4, up_n (Ne.symm (fun q => by cases hX.2 7 26 (by decide) (by decide) q))]; exact Xr26_h3
  have Xr27_h4 : h4 (D 27) = some (.inl (gA (xG X) 0, (800, .inl (M.2.1 27)))) := by rw [hE4, up_n (Ne.symm (fun q => by cases hX.2 7 27 (by decide) (by decide) q))]; exact Xr27_h3
  have Xr28_h4 : h4 (D 28) = some (.inl (gA (xG X) 0, (800, .inl (M.2.1 28)))) := by rw [hE4, up_n (Ne.symm (fun q => by cases hX.2 7 28 (by decide) (by decide) q))]; exact Xr28_h3
  have Xr29_h4 : h4 (D 29) = some (.inl (gA (xG X) 0, (800, .inl (M.2.1 29)))) := by rw [hE4, up_n (Ne.symm (fun q => by cases hX.2 7 29 (by decide) (by decide) q))]; exact Xr29_h3
  have Xr30_h4 : h4 (D 30) = some (.inl (gA (xG X) 0, (51, .inl (M.2.1 30)))) := by rw [hE4, up_n (Ne.symm (fun q => by cases hX.2 7 30 (by decide) (by decide) q))]; exact Xr30_h3
  have Xr31_h4 : h4 (D 31) = some (.inl (gA (xG X) 0, (17, .inl (M.2.1 31)))) := by rw [hE4, up_n (Ne.symm (fun q => by cases hX.2 7 31 (by decide) (by decide) q))]; exact Xr31_h3
  have Xr32_h4 : h4 (D 32) = some (.inl (gA (xG X) 0, (17, .inl (M.2.1 32)))) := by rw [hE4, up_n (Ne.symm (fun q => by cases hX.2 7 32 (by decide) (by decide) q))]; exact Xr32_h3
  have Xr33_h4 : h4 (D 33) = some (.inl (gA (xG X) 0, (17, .inl (M.2.1 33)))) := by rw [hE4, up_n (Ne.symm (fun q => by cases hX.2 7 33 (by decide) (by decide) q))]; exact Xr33_h3
  have Xr34_h4 : h4 (D 34) = some (.inl (gA (xG X) 0, (17, .inl (M.2.1 34)))) := by rw [hE4, up_n (Ne.symm (fun q => by cases hX.2 7 34 (by decide) (by decide) q))]; exact Xr34_h3
  have Xr35_h4 : h4 (D 35) = some (.inl (gA (xG X) 0, (51, .inl (M.2.1 35)))) := by rw [hE4, up_n (Ne.symm (fun q => by cases hX.2 7 35 (by decide) (by decide) q))]; exact Xr35_h3
  have Xr36_h4 : h4 (D 36) = some (.inl (gA (xG X) 0, (17, .inl (M.2.1 36)))) := by rw [hE4, up_n (Ne.symm (fun q => by cases hX.2 7 36 (by decide) (by decide) q))]; exact Xr36_h3
  have Xr37_h4 : h4 (D 37) = some (.inl (gA (xG X) 0, (800, .inl (M.2.1 37)))) := by rw [hE4, up_n (Ne.symm (fun q => by cases hX.2 7 37 (by decide) (by decide) q))]; exact Xr37_h3
  have Xr38_h4 : h4 (D 38) = some (.inl (gA (xG X) 0, (800, .inl (M.2.1 38)))) := by rw [hE4, up_n (Ne.symm (fun q => by cases hX.2 7 38 (by decide) (by decide) q))]; exact Xr38_h3
  have Xr39_h4 : h4 (D 39) = some (.inl (gA (xG X) 0, (800, .inl (M.2.1 39)))) := by rw [hE4, up_n (Ne.symm (fun q => by cases hX.2 7 39 (by decide) (by decide) q))]; exact Xr39_h3
  have Xt7_h4 : h4 (D 7) = some (.inr (4, [.int (M.1 25), .int (M.1 26), .int (M.1 27), .ref (D 20), .int (M.1 28), .ref (D 21), .ref (D 22), .ref (D 23), .ref (D 24), .ref (D 25), .ref (D 26), .int (M.1 24), .ref (D 27), .ref (D 28), .ref (D 29)])) := by rw [hE4]; exact up_s
  refine ww_aload_n C dX5_become_32 rfl 0 rfl rfl ?_
  refine ww_aload_n C dX5_become_33 rfl 1 rfl rfl ?_
  refine gf_X5_55_X5 C dX5_become_34 (Or.inl Xt8_h4) rfl ?_
  refine pf_X5_55_X5 (fs' := [.int (M.1 25), .int (M.1 26), .int (M.1 27), .ref (D 20), .int (M.1 28), .ref (D 21), .ref (D 22), .ref (D 23), .ref (D 24), .ref (D 25), .ref (D 26), .int (M.1 29), .ref (D 27), .ref (D 28), .ref (D 29)]) C dX5_become_37 Xt7_h4 rfl rfl (Nat.le_of_ble_eq_true rfl) rfl ?_
  refine ww_gen (fun h5 hE5 => ?_)
  have Xt8_h5 : h5 (D 8) = some (.inr (4, [.int (M.1 25), .int (M.1 26), .int (M.1 27), .ref (D 30), .int (M.1 28), .ref (D 31), .ref (D 32), .ref (D 33), .ref (D 34), .ref (D 35), .ref (D 36), .int (M.1 29), .ref (D 37), .ref (D 38), .ref (D 39)])) := by rw [hE5, up_n (Ne.symm (fun q => by cases hX.2 7 8 (by decide) (by decide) q))]; exact Xt8_h4
  have Xr20_h5 : h5 (D 20) = some (.inl (gA (xG X) 0, (51, .inl (M.2.1 20)))) := by rw [hE5, up_n (Ne.symm (fun q => by cases hX.2 7 20 (by decide) (by decide) q))]; exact Xr20_h4
  have Xr21_h5 : h5 (D 21) = some (.inl (gA (xG X) 0, (17, .inl (M.2.1 21)))) := by rw [hE5, up_n (Ne.symm (fun q => by cases hX.2 7 21 (by decide) (by decide) q))]; exact Xr21_h4
  have Xr22_h5 : h5 (D 22) = some (.inl (gA (xG X) 0, (17, .inl (M.2.1 22)))) := by rw [hE5, up_n (Ne.symm (fun q => by cases hX.2 7 22 (by decide) (by decide) q))]; exact Xr22_h4
  have Xr23_h5 : h5 (D 23) = some (.inl (gA (xG X) 0, (17, .inl (M.2.1 23)))) := by rw [hE5, up_n (Ne.symm (fun q => by cases hX.2 7 23 (by decide) (by decide) q))]; exact Xr23_h4
  have Xr24_h5 : h5 (D 24) = some (.inl (gA (xG X) 0, (17, .inl (M.2.1 24)))) := by rw [hE5, up_n (Ne.symm (fun q => by cases hX.2 7 24 (by decide) (by decide) q))]; exact Xr24_h4
  have Xr25_h5 : h5 (D 25) = some (.inl (gA (xG X) 0, (51, .inl (M.2.1 25)))) := by rw [hE5, up_n (Ne.symm (fun q => by cases hX.2 7 25 (by decide) (by decide) q))]; exact Xr25_h4
  have Xr26_h5 : h5 (D 26) = some (.inl (gA (xG X) 0, (17, .inl (M.2.1 26)))) := by rw [hE5, up_n (Ne.symm (fun q => by cases hX.2 7 26 (by decide) (by decide) q))]; exact Xr26_h4
  have Xr27_h5 : h5 (D 27) = some (.inl (gA (xG X) 0, (800, .inl (M.2.1 27)))) := by rw [hE5, up_n (Ne.symm (fun q => by cases hX.2 7 27 (by decide) (by decide) q))]; exact Xr27_h4
  have Xr28_h5 : h5 (D 28) = some (.inl (gA (xG X) 0, (800, .inl (M.2.1 28)))) := by rw [hE5, up_n (Ne.symm (fun q => by cases hX.2 7 28 (by decide) (by decide) q))]; exact Xr28_h4
  have Xr29_h5 : h5 (D 29) = some (.inl (gA (xG X) 0, (800, .inl (M.2.1 29)))) := by rw [hE5, up_n (Ne.symm (fun q => by cases hX.2 7 29 (by decide) (by decide) q))]; exact Xr29_h4
  have Xr30_h5 : h5 (D 30) = some (.inl (gA (xG X) 0, (51, .inl (M.2.1 30)))) := by rw [hE5, up_n (Ne.symm (fun q => by cases hX.2 7 30 (by decide) (by decide) q))]; exact Xr30_h4
  have Xr31_h5 : h5 (D 31) = some (.inl (gA (xG X) 0, (17, .inl (M.2.1 31)))) := by rw [hE5, up_n (Ne.symm (fun q => by cases hX.2 7 31 (by decide) (by decide) q))]; exact Xr31_h4
  have Xr32_h5 : h5 (D 32) = some (.inl (gA (xG X) 0, (17, .inl (M.2.1 32)))) := by rw [hE5, up_n (Ne.symm (fun q => by cases hX.2 7 32 (by decide) (by decide) q))]; exact Xr32_h4
  have Xr33_h5 : h5 (D 33) = some (.inl (gA (xG X) 0, (17, .inl (M.2.1 33)))) := by rw [hE5, up_n (Ne.symm (fun q => by cases hX.2 7 33 (by decide) (by decide) q))]; exact Xr33_h4
  have Xr34_h5 : h5 (D 34) = some (.inl (gA (xG X) 0, (17, .inl (M.2.1 34)))) := by rw [hE5, up_n (Ne.symm (fun q => by cases hX.2 7 34 (by decide) (by decide) q))]; exact Xr34_h4
  have Xr35_h5 : h5 (D 35) = some (.inl (gA (xG X) 0, (51, .inl (M.2.1 35)))) := by rw [hE5, up_n (Ne.symm (fun q => by cases hX.2 7 35 (by decide) (by decide) q))]; exact Xr35_h4
  have Xr36_h5 : h5 (D 36) = some (.inl (gA (xG X) 0, (17, .inl (M.2.1 36)))) := by rw [hE5, up_n (Ne.symm (fun q => by cases hX.2 7 36 (by decide) (by decide) q))]; exact Xr36_h4
  have Xr37_h5 : h5 (D 37) = some (.inl (gA (xG X) 0, (800, .inl (M.2.1 37)))) := by rw [hE5, up_n (Ne.symm (fun q => by cases hX.2 7 37 (by decide) (by decide) q))]; exact Xr37_h4
  have Xr38_h5 : h5 (D 38) = some (.inl (gA (xG X) 0, (800, .inl (M.2.1 38)))) := by rw [hE5, up_n (Ne.symm (fun q => by cases hX.2 7 38 (by decide) (by decide) q))]; exact Xr38_h4
  have Xr39_h5 : h5 (D 39) = some (.inl (gA (xG X) 0, (800, .inl (M.2.1 39)))) := by rw [hE5, up_n (Ne.symm (fun q => by cases hX.2 7 39 (by decide) (by decide) q))]; exact Xr39_h4
  have Xt7_h5 : h5 (D 7) = some (.inr (4, [.int (M.1 25), .int (M.1 26), .int (M.1 27), .ref (D 20), .int (M.1 28), .ref (D 21), .ref (D 22), .ref (D 23), .ref (D 24), .ref (D 25), .ref (D 26), .int (M.1 29), .ref (D 27), .ref (D 28), .ref (D 29)])) := by rw [hE5]; exact up_s
  refine ww_aload_n C dX5_become_40 rfl 1 rfl rfl ?_
  refine gf_X5_18_X5 C dX5_become_41 (Or.inl Xt8_h5) rfl ?_
  refine ww_aload_n C dX5_become_44 rfl 0 rfl rfl ?_
  refine gf_X5_18_X5 C dX5_become_45 (Or.inl Xt7_h5) rfl ?_
  refine cs_X5_64_q (As := [.ref (D 30), .ref (D 20)]) (rest := []) C dX5_become_48 (ct_X5_copy (Cx.fl C) (Cx.ok C) (n := 51) Xr30_h5 Xr20_h5 (Ne.symm (fun q => by cases hX.2 20 30 (by decide) (by decide) q)) (by decide)) rfl rfl (Nat.le_of_ble_eq_true rfl) (by decide) (Nat.zero_le _) (Nat.zero_le _) (fun z6 h6 q6 => ?_)
  obtain ⟨hq, hE6⟩ := q6; replace hq := hq.symm; subst hq
  have Xt7_h7 : h6 (D 7) = some (.inr (4, [.int (M.1 25), .int (M.1 26), .int (M.1 27), .ref (D 20), .int (M.1 28), .ref (D 21), .ref (D 22), .ref (D 23), .ref (D 24), .ref (D 25), .ref (D 26), .int (M.1 29), .ref (D 27), .ref (D 28), .ref (D 29)])) := by rw [hE6, up_n (fun q => by cases hX.2 7 20 (by decide) (by decide) q)]; exact Xt7_h5
  have Xt8_h7 : h6 (D 8) = some (.inr (4, [.int (M.1 25), .int (M.1 26), .int (M.1 27), .ref (D 30), .int (M.1 28), .ref (D 31), .ref (D 32), .ref (D 33), .ref (D 34), .ref (D 35), .ref (D 36), .int (M.1 29), .ref (D 37), .ref (D 38), .ref (D 39)])) := by rw [hE6, up_n (fun q => by cases hX.2 8 20 (by decide) (by decide) q)]; exact Xt8_h5
  have Xr21_h7 : h6 (D 21) = some (.inl (gA (xG X) 0, (17, .inl (M.2.1 21)))) := by rw [hE6, up_n (Ne.symm (fun q => by cases hX.2 20 21 (by decide) (by decide) q))]; exact Xr21_h5
  have Xr22_h7 : h6 (D 22) = some (.inl (gA (xG X) 0, (17, .inl (M.2.1 22)))) := by rw [hE6, up_n (Ne.symm (fun q => by cases hX.2 20 22 (by decide) (by decide) q))]; exact Xr22_h5
  have Xr23_h7 : h6 (D 23) = some (.inl (gA (xG X) 0, (17, .inl (M.2.1 23)))) := by rw [hE6, up_n (Ne.symm (fun q => by cases hX.2 20 23 (by decide) (by decide) q))]; exact Xr23_h5
  have Xr24_h7 : h6 (D 24) = some (.inl (gA (xG X) 0, (17, .inl (M.2.1 24)))) := by rw [hE6, up_n (Ne.symm (fun q => by cases hX.2 20 24 (by decide) (by decide) q))]; exact Xr24_h5
  have Xr25_h7 : h6 (D 25) = some (.inl (gA (xG X) 0, (51, .inl (M.2.1 25)))) := by rw [hE6, up_n (Ne.symm (fun q => by cases hX.2 20 25 (by decide) (by decide) q))]; exact Xr25_h5
  have Xr26_h7 : h6 (D 26) = some (.inl (gA (xG X) 0, (17, .inl (M.2.1 26)))) := by rw [hE6, up_n (Ne.symm (fun q => by cases hX.2 20 26 (by decide) (by decide) q))]; exact Xr26_h5
  have Xr27_h7 : h6 (D 27) = some (.inl (gA (xG X) 0, (800, .inl (M.2.1 27)))) := by rw [hE6, up_n (Ne.symm (fun q => by cases hX.2 20 27 (by decide) (by decide) q))]; exact Xr27_h5
  have Xr28_h7 : h6 (D 28) = some (.inl (gA (xG X) 0, (800, .inl (M.2.1 28)))) := by rw [hE6, up_n (Ne.symm (fun q => by cases hX.2 20 28 (by decide) (by decide) q))]; exact Xr28_h5
  have Xr29_h7 : h6 (D 29) = some (.inl (gA (xG X) 0, (800, .inl (M.2.1 29)))) := by rw [hE6, up_n (Ne.symm (fun q => by cases hX.2 20 29 (by decide) (by decide) q))]; exact Xr29_h5
  have Xr30_h7 : h6 (D 30) = some (.inl (gA (xG X) 0, (51, .inl (M.2.1 30)))) := by rw [hE6, up_n (Ne.symm (fun q => by cases hX.2 20 30 (by decide) (by decide) q))]; exact Xr30_h5
  have Xr31_h7 : h6 (D 31) = some (.inl (gA (xG X) 0, (17, .inl (M.2.1 31)))) := by rw [hE6, up_n (Ne.symm (fun q => by cases hX.2 20 31 (by decide) (by decide) q))]; exact Xr31_h5
  have Xr32_h7 : h6 (D 32) = some (.inl (gA (xG X) 0, (17, .inl (M.2.1 32)))) := by rw [hE6, up_n (Ne.symm (fun q => by cases hX.2 20 32 (by decide) (by decide) q))]; exact Xr32_h5
  have Xr33_h7 : h6 (D 33) = some (.inl (gA (xG X) 0, (17, .inl (M.2.1 33)))) := by rw [hE6, up_n (Ne.symm (fun q => by cases hX.2 20 33 (by decide) (by decide) q))]; exact Xr33_h5
  have Xr34_h7 : h6 (D 34) = some (.inl (gA (xG X) 0, (17, .inl (M.2.1 34)))) := by rw [hE6, up_n (Ne.symm (fun q => by cases hX.2 20 34 (by decide) (by decide) q))]; exact Xr34_h5
  have Xr35_h7 : h6 (D 35) = some (.inl (gA (xG X) 0, (51, .inl (M.2.1 35)))) := by rw [hE6, up_n (Ne.symm (fun q => by cases hX.2 20 35 (by decide) (by decide) q))]; exact Xr35_h5
  have Xr36_h7 : h6 (D 36) = some (.inl (gA (xG X) 0, (17, .inl (M.2.1 36)))) := by rw [hE6, up_n (Ne.symm (fun q => by cases hX.2 20 36 (by decide) (by decide) q))]; exact Xr36_h5
  have Xr37_h7 : h6 (D 37) = some (.inl (gA (xG X) 0, (800, .inl (M.2.1 37)))) := by rw [hE6, up_n (Ne.symm (fun q => by cases hX.2 20 37 (by decide) (by decide) q))]; exact Xr37_h5
  have Xr38_h7 : h6 (D 38) = some (.inl (gA (xG X) 0, (800, .inl (M.2.1 38)))) := by rw [hE6, up_n (Ne.symm (fun q => by cases hX.2 20 38 (by decide) (by decide) q))]; exact Xr38_h5
  have Xr39_h7 : h6 (D 39) = some (.inl (gA (xG X) 0, (800, .inl (M.2.1 39)))) := by rw [hE6, up_n (Ne.symm (fun q => by cases hX.2 20 39 (by decide) (by decide) q))]; exact Xr39_h5
  have Xr20_h7 : h6 (D 20) = some (.inl (gA (xG X) 0, (51, .inl (M.2.1 30)))) := by rw [hE6]; exact up_s
  refine ww_aload_n C dX5_become_51 rfl 1 rfl rfl ?_
  refine gf_X5_22_X5 C dX5_become_52 (Or.inl Xt8_h7) rfl ?_
  refine ww_aload_n C dX5_become_55 rfl 0 rfl rfl ?_
  refine gf_X5_22_X5 C dX5_become_56 (Or.inl Xt7_h7) rfl ?_
  refine cs_X5_64_q (As := [.ref (D 31), .ref (D 21)]) (rest := []) C dX5_become_59 (ct_X5_copy (Cx.fl C) (Cx.ok C) (n := 17) Xr31_h7 Xr21_h7 (Ne.symm (fun q => by cases hX.2 21 31 (by decide) (by decide) q)) (by decide)) rfl rfl (Nat.le_of_ble_eq_true rfl) (by decide) (Nat.zero_le _) (Nat.zero_le _) (fun z8 h8 q8 => ?_)
  obtain ⟨hq, hE8⟩ := q8; replace hq := hq.symm; subst hq
  have Xt7_h9 : h8 (D 7) = some (.inr (4, [.int (M.1 25), .int (M.1 26), .int (M.1 27), .ref (D 20), .int (M.1 28), .ref (D 21), .ref (D 22), .ref (D 23), .ref (D 24), .ref (D 25), .ref (D 26), .int (M.1 29), .ref (D 27), .ref (D 28), .ref (D 29)])) := by rw [hE8, up_n (fun q => by cases hX.2 7 21 (by decide) (by decide) q)]; exact Xt7_h7
  have Xt8_h9 : h8 (D 8) = some (.inr (4, [.int (M.1 25), .int (M.1 26), .int (M.1 27), .ref (D 30), .int (M.1 28), .ref (D 31), .ref (D 32), .ref (D 33), .ref (D 34), .ref (D 35), .ref (D 36), .int (M.1 29), .ref (D 37), .ref (D 38), .ref (D 39)])) := by rw [hE8, up_n (fun q => by cases hX.2 8 21 (by decide) (by decide) q)]; exact Xt8_h7
  have Xr20_h9 : h8 (D 20) = some (.inl (gA (xG X) 0, (51, .inl (M.2.1 30)))) := by rw [hE8, up_n (fun q => by cases hX.2 20 21 (by decide) (by decide) q)]; exact Xr20_h7
  have Xr22_h9 : h8 (D 22) = some (.inl (gA (xG X) 0, (17, .inl (M.2.1 22)))) := by rw [hE8, up_n (Ne.symm (fun q => by cases hX.2 21 22 (by decide) (by decide) q))]; exact Xr22_h7
  have Xr23_h9 : h8 (D 23) = some (.inl (gA (xG X) 0, (17, .inl (M.2.1 23)))) := by rw [hE8, up_n (Ne.symm (fun q => by cases hX.2 21 23 (by decide) (by decide) q))]; exact Xr23_h7
  have Xr24_h9 : h8 (D 24) = some (.inl (gA (xG X) 0, (17, .inl (M.2.1 24)))) := by rw [hE8, up_n (Ne.symm (fun q => by cases hX.2 21 24 (by decide) (by decide) q))]; exact Xr24_h7
  have Xr25_h9 : h8 (D 25) = some (.inl (gA (xG X) 0, (51, .inl (M.2.1 25)))) := by rw [hE8, up_n (Ne.symm (fun q => by cases hX.2 21 25 (by decide) (by decide) q))]; exact Xr25_h7
  have Xr26_h9 : h8 (D 26) = some (.inl (gA (xG X) 0, (17, .inl (M.2.1 26)))) := by rw [hE8, up_n (Ne.symm (fun q => by cases hX.2 21 26 (by decide) (by decide) q))]; exact Xr26_h7
  have Xr27_h9 : h8 (D 27) = some (.inl (gA (xG X) 0, (800, .inl (M.2.1 27)))) := by rw [hE8, up_n (Ne.symm (fun q => by cases hX.2 21 27 (by decide) (by decide) q))]; exact Xr27_h7
  have Xr28_h9 : h8 (D 28) = some (.inl (gA (xG X) 0, (800, .inl (M.2.1 28)))) := by rw [hE8, up_n (Ne.symm (fun q => by cases hX.2 21 28 (by decide) (by decide) q))]; exact Xr28_h7
  have Xr29_h9 : h8 (D 29) = some (.inl (gA (xG X) 0, (800, .inl (M.2.1 29)))) := by rw [hE8, up_n (Ne.symm (fun q => by cases hX.2 21 29 (by decide) (by decide) q))]; exact Xr29_h7
  have Xr30_h9 : h8 (D 30) = some (.inl (gA (xG X) 0, (51, .inl (M.2.1 30)))) := by rw [hE8, up_n (Ne.symm (fun q => by cases hX.2 21 30 (by decide) (by decide) q))]; exact Xr30_h7
  have Xr31_h9 : h8 (D 31) = some (.inl (gA (xG X) 0, (17, .inl (M.2.1 31)))) := by rw [hE8, up_n (Ne.symm (fun q => by cases hX.2 21 31 (by decide) (by decide) q))]; exact Xr31_h7
  have Xr32_h9 : h8 (D 32) = some (.inl (gA (xG X) 0, (17, .inl (M.2.1 32)))) := by rw [hE8, up_n (Ne.symm (fun q => by cases hX.2 21 32 (by decide) (by decide) q))]; exact Xr32_h7
  have Xr33_h9 : h8 (D 33) = some (.inl (gA (xG X) 0, (17, .inl (M.2.1 33)))) := by rw [hE8, up_n (Ne.symm (fun q => by cases hX.2 21 33 (by decide) (by decide) q))]; exact Xr33_h7
  have Xr34_h9 : h8 (D 34) = some (.inl (gA (xG X) 0, (17, .inl (M.2.1 34)))) := by rw [hE8, up_n (Ne.symm (fun q => by cases hX.2 21 34 (by decide) (by decide) q))]; exact Xr34_h7
  have Xr35_h9 : h8 (D 35) = some (.inl (gA (xG X) 0, (51, .inl (M.2.1 35)))) := by rw [hE8, up_n (Ne.symm (fun q => by cases hX.2 21 35 (by decide) (by decide) q))]; exact Xr35_h7
  have Xr36_h9 : h8 (D 36) = some (.inl (gA (xG X) 0, (17, .inl (M.2.1 36)))) := by rw [hE8, up_n (Ne.symm (fun q => by cases hX.2 21 36 (by decide) (by decide) q))]; exact Xr36_h7
  have Xr37_h9 : h8 (D 37) = some (.inl (gA (xG X) 0, (800, .inl (M.2.1 37)))) := by rw [hE8, up_n (Ne.symm (fun q => by cases hX.2 21 37 (by decide) (by decide) q))]; exact Xr37_h7
  have Xr38_h9 : h8 (D 38) = some (.inl (gA (xG X) 0, (800, .inl (M.2.1 38)))) := by rw [hE8, up_n (Ne.symm (fun q => by cases hX.2 21 38 (by decide) (by decide) q))]; exact Xr38_h7
  have Xr39_h9 : h8 (D 39) = some (.inl (gA (xG X) 0, (800, .inl (M.2.1 39)))) := by rw [hE8, up_n (Ne.symm (fun q => by cases hX.2 21 39 (by decide) (by decide) q))]; exact Xr39_h7
  have Xr21_h9 : h8 (D 21) = some (.inl (gA (xG X) 0, (17, .inl (M.2.1 31)))) := by rw [hE8]; exact up_s
  refine ww_aload_n C dX5_become_62 rfl 1 rfl rfl ?_
  refine gf_X5_25_X5 C dX5_become_63 (Or.inl Xt8_h9) rfl ?_
  refine ww_aload_n C dX5_become_66 rfl 0 rfl rfl ?_
  refine gf_X5_25_X5 C dX5_become_67 (Or.inl Xt7_h9) rfl ?_
  refine cs_X5_64_q (As := [.ref (D 32), .ref (D 22)]) (rest := []) C dX5_become_70 (ct_X5_copy (Cx.fl C) (Cx.ok C) (n := 17) Xr32_h9 Xr22_h9 (Ne.symm (fun q => by cases hX.2 22 32 (by decide) (by decide) q)) (by decide)) rfl rfl (Nat.le_of_ble_eq_true rfl) (by decide) (Nat.zero_le _) (Nat.zero_le _) (fun z10 h10 q10 => ?_)
  obtain ⟨hq, hE10⟩ := q10; replace hq := hq.symm; subst hq
  have Xt7_h11 : h10 (D 7) = some (.inr (4, [.int (M.1 25), .int (M.1 26), .int (M.1 27), .ref (D 20), .int (M.1 28), .ref (D 21), .ref (D 22), .ref (D 23), .ref (D 24), .ref (D 25), .ref (D 26), .int (M.1 29), .ref (D 27), .ref (D 28), .ref (D 29)])) := by rw [hE10, up_n (fun q => by cases hX.2 7 22 (by decide) (by decide) q)]; exact Xt7_h9
  have Xt8_h11 : h10 (D 8) = some (.inr (4, [.int (M.1 25), .int (M.1 26), .int (M.1 27), .ref (D 30), .int (M.1 28), .ref (D 31), .ref (D 32), .ref (D 33), .ref (D 34), .ref (D 35), .ref (D 36), .int (M.1 29), .ref (D 37), .ref (D 38), .ref (D 39)])) := by rw [hE10, up_n (fun q => by cases hX.2 8 22 (by decide) (by decide) q)]; exact Xt8_h9
  have Xr20_h11 : h10 (D 20) = some (.inl (gA (xG X) 0, (51, .inl (M.2.1 30)))) := by rw [hE10, up_n (fun q => by cases hX.2 20 22 (by decide) (by decide) q)]; exact Xr20_h9
  have Xr21_h11 : h10 (D 21) = some (.inl (gA (xG X) 0, (17, .inl (M.2.1 31)))) := by rw [hE10, up_n (fun q => by cases hX.2 21 22 (by decide) (by decide) q)]; exact Xr21_h9
  have Xr23_h11 : h10 (D 23) = some (.inl (gA (xG X) 0, (17, .inl (M.2.1 23)))) := by rw [hE10, up_n (Ne.symm (fun q => by cases hX.2 22 23 (by decide) (by decide) q))]; exact Xr23_h9
  have Xr24_h11 : h10 (D 24) = some (.inl (gA (xG X) 0, (17, .inl (M.2.1 24)))) := by rw [hE10, up_n (Ne.symm (fun q => by cases hX.2 22 24 (by decide) (by decide) q))]; exact Xr24_h9
  have Xr25_h11 : h10 (D 25) = some (.inl (gA (xG X) 0, (51, .inl (M.2.1 25)))) := by rw [hE10, up_n (Ne.symm (fun q => by cases hX.2 22 25 (by decide) (by decide) q))]; exact Xr25_h9
  have Xr26_h11 : h10 (D 26) = some (.inl (gA (xG X) 0, (17, .inl (M.2.1 26)))) := by rw [hE10, up_n (Ne.symm (fun q => by cases hX.2 22 26 (by decide) (by decide) q))]; exact Xr26_h9
  have Xr27_h11 : h10 (D 27) = some (.inl (gA (xG X) 0, (800, .inl (M.2.1 27)))) := by rw [hE10, up_n (Ne.symm (fun q => by cases hX.2 22 27 (by decide) (by decide) q))]; exact Xr27_h9
  have Xr28_h11 : h10 (D 28) = some (.inl (gA (xG X) 0, (800, .inl (M.2.1 28)))) := by rw [hE10, up_n (Ne.symm (fun q => by cases hX.2 22 28 (by decide) (by decide) q))]; exact Xr28_h9
  have Xr29_h11 : h10 (D 29) = some (.inl (gA (xG X) 0, (800, .inl (M.2.1 29)))) := by rw [hE10, up_n (Ne.symm (fun q => by cases hX.2 22 29 (by decide) (by decide) q))]; exact Xr29_h9
  have Xr30_h11 : h10 (D 30) = some (.inl (gA (xG X) 0, (51, .inl (M.2.1 30)))) := by rw [hE10, up_n (Ne.symm (fun q => by cases hX.2 22 30 (by decide) (by decide) q))]; exact Xr30_h9
  have Xr31_h11 : h10 (D 31) = some (.inl (gA (xG X) 0, (17, .inl (M.2.1 31)))) := by rw [hE10, up_n (Ne.symm (fun q => by cases hX.2 22 31 (by decide) (by decide) q))]; exact Xr31_h9
  have Xr32_h11 : h10 (D 32) = some (.inl (gA (xG X) 0, (17, .inl (M.2.1 32)))) := by rw [hE10, up_n (Ne.symm (fun q => by cases hX.2 22 32 (by decide) (by decide) q))]; exact Xr32_h9
  have Xr33_h11 : h10 (D 33) = some (.inl (gA (xG X) 0, (17, .inl (M.2.1 33)))) := by rw [hE10, up_n (Ne.symm (fun q => by cases hX.2 22 33 (by decide) (by decide) q))]; exact Xr33_h9
  have Xr34_h11 : h10 (D 34) = some (.inl (gA (xG X) 0, (17, .inl (M.2.1 34)))) := by rw [hE10, up_n (Ne.symm (fun q => by cases hX.2 22 34 (by decide) (by decide) q))]; exact Xr34_h9
  have Xr35_h11 : h10 (D 35) = some (.inl (gA (xG X) 0, (51, .inl (M.2.1 35)))) := by rw [hE10, up_n (Ne.symm (fun q => by cases hX.2 22 35 (by decide) (by decide) q))]; exact Xr35_h9
  have Xr36_h11 : h10 (D 36) = some (.inl (gA (xG X) 0, (17, .inl (M.2.1 36)))) := by rw [hE10, up_n (Ne.symm (fun q => by cases hX.2 22 36 (by decide) (by decide) q))]; exact Xr36_h9
  have Xr37_h11 : h10 (D 37) = some (.inl (gA (xG X) 0, (800, .inl (M.2.1 37)))) := by rw [hE10, up_n (Ne.symm (fun q => by cases hX.2 22 37 (by decide) (by decide) q))]; exact Xr37_h9
  have Xr38_h11 : h10 (D 38) = some (.inl (gA (xG X) 0, (800, .inl (M.2.1 38)))) := by rw [hE10, up_n (Ne.symm (fun q => by cases hX.2 22 38 (by decide) (by decide) q))]; exact Xr38_h9
  have Xr39_h11 : h10 (D 39) = some (.inl (gA (xG X) 0, (800, .inl (M.2.1 39)))) := by rw [hE10, up_n (Ne.symm (fun q => by cases hX.2 22 39 (by decide) (by decide) q))]; exact Xr39_h9
  have Xr22_h11 : h10 (D 22) = some (.inl (gA (xG X) 0, (17, .inl (M.2.1 32)))) := by rw [hE10]; exact up_s
  refine ww_aload_n C dX5_become_73 rfl 1 rfl rfl ?_
  refine gf_X5_28_X5 C dX5_become_74 (Or.inl Xt8_h11) rfl ?_
  refine ww_aload_n C dX5_become_77 rfl 0 rfl rfl ?_
  refine gf_X5_28_X5 C dX5_become_78 (Or.inl Xt7_h11) rfl ?_
  refine cs_X5_64_q (As := [.ref (D 33), .ref (D 23)]) (rest := []) C dX5_become_81 (ct_X5_copy (Cx.fl C) (Cx.ok C) (n := 17) Xr33_h11 Xr23_h11 (Ne.symm (fun q => by cases hX.2 23 33 (by decide) (by decide) q)) (by decide)) rfl rfl (Nat.le_of_ble_eq_true rfl) (by decide) (Nat.zero_le _) (Nat.zero_le _) (fun z12 h12 q12 => ?_)
  obtain ⟨hq, hE12⟩ := q12; replace hq := hq.symm; subst hq
  have Xt7_h13 : h12 (D 7) = some (.inr (4, [.int (M.1 25), .int (M.1 26), .int (M.1 27), .ref (D 20), .int (M.1 28), .ref (D 21), .ref (D 22), .ref (D 23), .ref (D 24), .ref (D 25), .ref (D 26), .int (M.1 29), .ref (D 27), .ref (D 28), .ref (D 29)])) := by rw [hE12, up_n (fun q => by cases hX.2 7 23 (by decide) (by decide) q)]; exact Xt7_h11
  have Xt8_h13 : h12 (D 8) = some (.inr (4, [.int (M.1 25), .int (M.1 26), .int (M.1 27), .ref (D 30), .int (M.1 28), .ref (D 31), .ref (D 32), .ref (D 33), .ref (D 34), .ref (D 35), .ref (D 36), .int (M.1 29), .ref (D 37), .ref (D 38), .ref (D 39)])) := by rw [hE12, up_n (fun q => by cases hX.2 8 23 (by decide) (by decide) q)]; exact Xt8_h11
  have Xr20_h13 : h12 (D 20) = some (.inl (gA (xG X) 0, (51, .inl (M.2.1 30)))) := by rw [hE12, up_n (fun q => by cases hX.2 20 23 (by decide) (by decide) q)]; exact Xr20_h11
  have Xr21_h13 : h12 (D 21) = some (.inl (gA (xG X) 0, (17, .inl (M.2.1 31)))) := by rw [hE12, up_n (fun q => by cases hX.2 21 23 (by decide) (by decide) q)]; exact Xr21_h11
  have Xr22_h13 : h12 (D 22) = some (.inl (gA (xG X) 0, (17, .inl (M.2.1 32)))) := by rw [hE12, up_n (fun q => by cases hX.2 22 23 (by decide) (by decide) q)]; exact Xr22_h11
  have Xr24_h13 : h12 (D 24) = some (.inl (gA (xG X) 0, (17, .inl (M.2.1 24)))) := by rw [hE12, up_n (Ne.symm (fun q => by cases hX.2 23 24 (by decide) (by decide) q))]; exact Xr24_h11
  have Xr25_h13 : h12 (D 25) = some (.inl (gA (xG X) 0, (51, .inl (M.2.1 25)))) := by rw [hE12, up_n (Ne.symm (fun q => by cases hX.2 23 25 (by decide) (by decide) q))]; exact Xr25_h11
  have Xr26_h13 : h12 (D 26) = some (.inl (gA (xG X) 0, (17, .inl (M.2.1 26)))) := by rw [hE12, up_n (Ne.symm (fun q => by cases hX.2 23 26 (by decide) (by decide) q))]; exact Xr26_h11
  have Xr27_h13 : h12 (D 27) = some (.inl (gA (xG X) 0, (800, .inl (M.2.1 27)))) := by rw [hE12, up_n (Ne.symm (fun q => by cases hX.2 23 27 (by decide) (by decide) q))]; exact Xr27_h11
  have Xr28_h13 : h12 (D 28) = some (.inl (gA (xG X) 0, (800, .inl (M.2.1 28)))) := by rw [hE12, up_n (Ne.symm (fun q => by cases hX.2 23 28 (by decide) (by decide) q))]; exact Xr28_h11
  have Xr29_h13 : h12 (D 29) = some (.inl (gA (xG X) 0, (800, .inl (M.2.1 29)))) := by rw [hE12, up_n (Ne.symm (fun q => by cases hX.2 23 29 (by decide) (by decide) q))]; exact Xr29_h11
  have Xr30_h13 : h12 (D 30) = some (.inl (gA (xG X) 0, (51, .inl (M.2.1 30)))) := by rw [hE12, up_n (Ne.symm (fun q => by cases hX.2 23 30 (by decide) (by decide) q))]; exact Xr30_h11
  have Xr31_h13 : h12 (D 31) = some (.inl (gA (xG X) 0, (17, .inl (M.2.1 31)))) := by rw [hE12, up_n (Ne.symm (fun q => by cases hX.2 23 31 (by decide) (by decide) q))]; exact Xr31_h11
  have Xr32_h13 : h12 (D 32) = some (.inl (gA (xG X) 0, (17, .inl (M.2.1 32)))) := by rw [hE12, up_n (Ne.symm (fun q => by cases hX.2 23 32 (by decide) (by decide) q))]; exact Xr32_h11
  have Xr33_h13 : h12 (D 33) = some (.inl (gA (xG X) 0, (17, .inl (M.2.1 33)))) := by rw [hE12, up_n (Ne.symm (fun q => by cases hX.2 23 33 (by decide) (by decide) q))]; exact Xr33_h11
  have Xr34_h13 : h12 (D 34) = some (.inl (gA (xG X) 0, (17, .inl (M.2.1 34)))) := by rw [hE12, up_n (Ne.symm (fun q => by cases hX.2 23 34 (by decide) (by decide) q))]; exact Xr34_h11
  have Xr35_h13 : h12 (D 35) = some (.inl (gA (xG X) 0, (51, .inl (M.2.1 35)))) := by rw [hE12, up_n (Ne.symm (fun q => by cases hX.2 23 35 (by decide) (by decide) q))]; exact Xr35_h11
  have Xr36_h13 : h12 (D 36) = some (.inl (gA (xG X) 0, (17, .inl (M.2.1 36)))) := by rw [hE12, up_n (Ne.symm (fun q => by cases hX.2 23 36 (by decide) (by decide) q))]; exact Xr36_h11
  have Xr37_h13 : h12 (D 37) = some (.inl (gA (xG X) 0, (800, .inl (M.2.1 37)))) := by rw [hE12, up_n (Ne.symm (fun q => by cases hX.2 23 37 (by decide) (by decide) q))]; exact Xr37_h11
  have Xr38_h13 : h12 (D 38) = some (.inl (gA (xG X) 0, (800, .inl (M.2.1 38)))) := by rw [hE12, up_n (Ne.symm (fun q => by cases hX.2 23 38 (by decide) (by decide) q))]; exact Xr38_h11
  have Xr39_h13 : h12 (D 39) = some (.inl (gA (xG X) 0, (800, .inl (M.2.1 39)))) := by rw [hE12, up_n (Ne.symm (fun q => by cases hX.2 23 39 (by decide) (by decide) q))]; exact Xr39_h11
  have Xr23_h13 : h12 (D 23) = some (.inl (gA (xG X) 0, (17, .inl (M.2.1 33)))) := by rw [hE12]; exact up_s
  refine ww_aload_n C dX5_become_84 rfl 1 rfl rfl ?_
  refine gf_X5_31_X5 C dX5_become_85 (Or.inl Xt8_h13) rfl ?_
  refine ww_aload_n C dX5_become_88 rfl 0 rfl rfl ?_
  refine gf_X5_31_X5 C dX5_become_89 (Or.inl Xt7_h13) rfl ?_
  refine cs_X5_64_q (As := [.ref (D 34), .ref (D 24)]) (rest := []) C dX5_become_92 (ct_X5_copy (Cx.fl C) (Cx.ok C) (n := 17) Xr34_h13 Xr24_h13 (Ne.symm (fun q => by cases hX.2 24 34 (by decide) (by decide) q)) (by decide)) rfl rfl (Nat.le_of_ble_eq_true rfl) (by decide) (Nat.zero_le _) (Nat.zero_le _) (fun z14 h14 q14 => ?_)
  obtain ⟨hq, hE14⟩ := q14; replace hq := hq.symm; subst hq
  have Xt7_h15 : h14 (D 7) = some (.inr (4, [.int (M.1 25), .int (M.1 26), .int (M.1 27), .ref (D 20), .int (M.1 28), .ref (D 21), .ref (D 22), .ref (D 23), .ref (D 24), .ref (D 25), .ref (D 26), .int (M.1 29), .ref (D 27), .ref (D 28), .ref (D 29)])) := by rw [hE14, up_n (fun q => by cases hX.2 7 24 (by decide) (by decide) q)]; exact Xt7_h13
  have Xt8_h15 : h14 (D 8) = some (.inr (4, [.int (M.1 25), .int (M.1 26), .int (M.1 27), .ref (D 30), .int (M.1 28), .ref (D 31), .ref (D 32), .ref (D 33), .ref (D 34), .ref (D 35), .ref (D 36), .int (M.1 29), .ref (D 37), .ref (D 38), .ref (D 39)])) := by rw [hE14, up_n (fun q => by cases hX.2 8 24 (by decide) (by decide) q)]; exact Xt8_h13
  have Xr20_h15 : h14 (D 20) = some (.inl (gA (xG X) 0, (51, .inl (M.2.1 30)))) := by rw [hE14, up_n (fun q => by cases hX.2 20 24 (by decide) (by decide) q)]; exact Xr20_h13
  have Xr21_h15 : h14 (D 21) = some (.inl (gA (xG X) 0, (17, .inl (M.2.1 31)))) := by rw [hE14, up_n (fun q => by cases hX.2 21 24 (by decide) (by decide) q)]; exact Xr21_h13
  have Xr22_h15 : h14 (D 22) = some (.inl (gA (xG X) 0, (17, .inl (M.2.1 32)))) := by rw [hE14, up_n (fun q => by cases hX.2 22 24 (by decide) (by decide) q)]; exact Xr22_h13
  have Xr23_h15 : h14 (D 23) = some (.inl (gA (xG X) 0, (17, .inl (M.2.1 33)))) := by rw [hE14, up_n (fun q => by cases hX.2 23 24 (by decide) (by decide) q)]; exact Xr23_h13
  have Xr25_h15 : h14 (D 25) = some (.inl (gA (xG X) 0, (51, .inl (M.2.1 25)))) := by rw [hE14, up_n (Ne.symm (fun q => by cases hX.2 24 25 (by decide) (by decide) q))]; exact Xr25_h13
  have Xr26_h15 : h14 (D 26) = some (.inl (gA (xG X) 0, (17, .inl (M.2.1 26)))) := by rw [hE14, up_n (Ne.symm (fun q => by cases hX.2 24 26 (by decide) (by decide) q))]; exact Xr26_h13
  have Xr27_h15 : h14 (D 27) = some (.inl (gA (xG X) 0, (800, .inl (M.2.1 27)))) := by rw [hE14, up_n (Ne.symm (fun q => by cases hX.2 24 27 (by decide) (by decide) q))]; exact Xr27_h13
  have Xr28_h15 : h14 (D 28) = some (.inl (gA (xG X) 0, (800, .inl (M.2.1 28)))) := by rw [hE14, up_n (Ne.symm (fun q => by cases hX.2 24 28 (by decide) (by decide) q))]; exact Xr28_h13
  have Xr29_h15 : h14 (D 29) = some (.inl (gA (xG X) 0, (800, .inl (M.2.1 29)))) := by rw [hE14, up_n (Ne.symm (fun q => by cases hX.2 24 29 (by decide) (by decide) q))]; exact Xr29_h13
  have Xr30_h15 : h14 (D 30) = some (.inl (gA (xG X) 0, (51, .inl (M.2.1 30)))) := by rw [hE14, up_n (Ne.symm (fun q => by cases hX.2 24 30 (by decide) (by decide) q))]; exact Xr30_h13
  have Xr31_h15 : h14 (D 31) = some (.inl (gA (xG X) 0, (17, .inl (M.2.1 31)))) := by rw [hE14, up_n (Ne.symm (fun q => by cases hX.2 24 31 (by decide) (by decide) q))]; exact Xr31_h13
  have Xr32_h15 : h14 (D 32) = some (.inl (gA (xG X) 0, (17, .inl (M.2.1 32)))) := by rw [hE14, up_n (Ne.symm (fun q => by cases hX.2 24 32 (by decide) (by decide) q))]; exact Xr32_h13
  have Xr33_h15 : h14 (D 33) = some (.inl (gA (xG X) 0, (17, .inl (M.2.1 33)))) := by rw [hE14, up_n (Ne.symm (fun q => by cases hX.2 24 33 (by decide) (by decide) q))]; exact Xr33_h13
  have Xr34_h15 : h14 (D 34) = some (.inl (gA (xG X) 0, (17, .inl (M.2.1 34)))) := by rw [hE14, up_n (Ne.symm (fun q => by cases hX.2 24 34 (by decide) (by decide) q))]; exact Xr34_h13
  have Xr35_h15 : h14 (D 35) = some (.inl (gA (xG X) 0, (51, .inl (M.2.1 35)))) := by rw [hE14, up_n (Ne.symm (fun q => by cases hX.2 24 35 (by decide) (by decide) q))]; exact Xr35_h13
  have Xr36_h15 : h14 (D 36) = some (.inl (gA (xG X) 0, (17, .inl (M.2.1 36)))) := by rw [hE14, up_n (Ne.symm (fun q => by cases hX.2 24 36 (by decide) (by decide) q))]; exact Xr36_h13
  have Xr37_h15 : h14 (D 37) = some (.inl (gA (xG X) 0, (800, .inl (M.2.1 37)))) := by rw [hE14, up_n (Ne.symm (fun q => by cases hX.2 24 37 (by decide) (by decide) q))]; exact Xr37_h13
  have Xr38_h15 : h14 (D 38) = some (.inl (gA (xG X) 0, (800, .inl (M.2.1 38)))) := by rw [hE14, up_n (Ne.symm (fun q => by cases hX.2 24 38 (by decide) (by decide) q))]; exact Xr38_h13
  have Xr39_h15 : h14 (D 39) = some (.inl (gA (xG X) 0, (800, .inl (M.2.1 39)))) := by rw [hE14, up_n (Ne.symm (fun q => by cases hX.2 24 39 (by decide) (by decide) q))]; exact Xr39_h13
  have Xr24_h15 : h14 (D 24) = some (.inl (gA (xG X) 0, (17, .inl (M.2.1 34)))) := by rw [hE14]; exact up_s
  refine ww_aload_n C dX5_become_95 rfl 1 rfl rfl ?_
  refine gf_X5_34_X5 C dX5_become_96 (Or.inl Xt8_h15) rfl ?_
  refine ww_aload_n C dX5_become_99 rfl 0 rfl rfl ?_
  refine gf_X5_34_X5 C dX5_become_100 (Or.inl Xt7_h15) rfl ?_
  refine cs_X5_64_q (As := [.ref (D 35), .ref (D 25)]) (rest := []) C dX5_become_103 (ct_X5_copy (Cx.fl C) (Cx.ok C) (n := 51) Xr35_h15 Xr25_h15 (Ne.symm (fun q => by cases hX.2 25 35 (by decide) (by decide) q)) (by decide)) rfl rfl (Nat.le_of_ble_eq_true rfl) (by decide) (Nat.zero_le _) (Nat.zero_le _) (fun z16 h16 q16 => ?_)
  obtain ⟨hq, hE16⟩ := q16; replace hq := hq.symm; subst hq
  have Xt7_h17 : h16 (D 7) = some (.inr (4, [.int (M.1 25), .int (M.1 26), .int (M.1 27), .ref (D 20), .int (M.1 28), .ref (D 21), .ref (D 22), .ref (D 23), .ref (D 24), .ref (D 25), .ref (D 26), .int (M.1 29), .ref (D 27), .ref (D 28), .ref (D 29)])) := by rw [hE16, up_n (fun q => by cases hX.2 7 25 (by decide) (by decide) q)]; exact Xt7_h15
  have Xt8_h17 : h16 (D 8) = some (.inr (4, [.int (M.1 25), .int (M.1 26), .int (M.1 27), .ref (D 30), .int (M.1 28), .ref (D 31), .ref (D 32), .ref (D 33), .ref (D 34), .ref (D 35), .ref (D 36), .int (M.1 29), .ref (D 37), .ref (D 38), .ref (D 39)])) := by rw [hE16, up_n (fun q => by cases hX.2 8 25 (by decide) (by decide) q)]; exact Xt8_h15
  have Xr20_h17 : h16 (D 20) = some (.inl (gA (xG X) 0, (51, .inl (M.2.1 30)))) := by rw [hE16, up_n (fun q => by cases hX.2 20 25 (by decide) (by decide) q)]; exact Xr20_h15
  have Xr21_h17 : h16 (D 21) = some (.inl (gA (xG X) 0, (17, .inl (M.2.1 31)))) := by rw [hE16, up_n (fun q => by cases hX.2 21 25 (by decide) (by decide) q)]; exact Xr21_h15
  have Xr22_h17 : h16 (D 22) = some (.inl (gA (xG X) 0, (17, .inl (M.2.1 32)))) := by rw [hE16, up_n (fun q => by cases hX.2 22 25 (by decide) (by decide) q)]; exact Xr22_h15
  have Xr23_h17 : h16 (D 23) = some (.inl (gA (xG X) 0, (17, .inl (M.2.1 33)))) := by rw [hE16, up_n (fun q => by cases hX.2 23 25 (by decide) (by decide) q)]; exact Xr23_h15
  have Xr24_h17 : h16 (D 24) = some (.inl (gA (xG X) 0, (17, .inl (M.2.1 34)))) := by rw [hE16, up_n (fun q => by cases hX.2 24 25 (by decide) (by decide) q)]; exact Xr24_h15
  have Xr26_h17 : h16 (D 26) = some (.inl (gA (xG X) 0, (17, .inl (M.2.1 26)))) := by rw [hE16, up_n (Ne.symm (fun q => by cases hX.2 25 26 (by decide) (by decide) q))]; exact Xr26_h15
  have Xr27_h17 : h16 (D 27) = some (.inl (gA (xG X) 0, (800, .inl (M.2.1 27)))) := by rw [hE16, up_n (Ne.symm (fun q => by cases hX.2 25 27 (by decide) (by decide) q))]; exact Xr27_h15
  have Xr28_h17 : h16 (D 28) = some (.inl (gA (xG X) 0, (800, .inl (M.2.1 28)))) := by rw [hE16, up_n (Ne.symm (fun q => by cases hX.2 25 28 (by decide) (by decide) q))]; exact Xr28_h15
  have Xr29_h17 : h16 (D 29) = some (.inl (gA (xG X) 0, (800, .inl (M.2.1 29)))) := by rw [hE16, up_n (Ne.symm (fun q => by cases hX.2 25 29 (by decide) (by decide) q))]; exact Xr29_h15
  have Xr30_h17 : h16 (D 30) = some (.inl (gA (xG X) 0, (51, .inl (M.2.1 30)))) := by rw [hE16, up_n (Ne.symm (fun q => by cases hX.2 25 30 (by decide) (by decide) q))]; exact Xr30_h15
  have Xr31_h17 : h16 (D 31) = some (.inl (gA (xG X) 0, (17, .inl (M.2.1 31)))) := by rw [hE16, up_n (Ne.symm (fun q => by cases hX.2 25 31 (by decide) (by decide) q))]; exact Xr31_h15
  have Xr32_h17 : h16 (D 32) = some (.inl (gA (xG X) 0, (17, .inl (M.2.1 32)))) := by rw [hE16, up_n (Ne.symm (fun q => by cases hX.2 25 32 (by decide) (by decide) q))]; exact Xr32_h15
  have Xr33_h17 : h16 (D 33) = some (.inl (gA (xG X) 0, (17, .inl (M.2.1 33)))) := by rw [hE16, up_n (Ne.symm (fun q => by cases hX.2 25 33 (by decide) (by decide) q))]; exact Xr33_h15
  have Xr34_h17 : h16 (D 34) = some (.inl (gA (xG X) 0, (17, .inl (M.2.1 34)))) := by rw [hE16, up_n (Ne.symm (fun q => by cases hX.2 25 34 (by decide) (by decide) q))]; exact Xr34_h15
  have Xr35_h17 : h16 (D 35) = some (.inl (gA (xG X) 0, (51, .inl (M.2.1 35)))) := by rw [hE16, up_n (Ne.symm (fun q => by cases hX.2 25 35 (by decide) (by decide) q))]; exact Xr35_h15
  have Xr36_h17 : h16 (D 36) = some (.inl (gA (xG X) 0, (17, .inl (M.2.1 36)))) := by rw [hE16, up_n (Ne.symm (fun q => by cases hX.2 25 36 (by decide) (by decide) q))]; exact Xr36_h15
  have Xr37_h17 : h16 (D 37) = some (.inl (gA (xG X) 0, (800, .inl (M.2.1 37)))) := by rw [hE16, up_n (Ne.symm (fun q => by cases hX.2 25 37 (by decide) (by decide) q))]; exact Xr37_h15
  have Xr38_h17 : h16 (D 38) = some (.inl (gA (xG X) 0, (800, .inl (M.2.1 38)))) := by rw [hE16, up_n (Ne.symm (fun q => by cases hX.2 25 38 (by decide) (by decide) q))]; exact Xr38_h15
  have Xr39_h17 : h16 (D 39) = some (.inl (gA (xG X) 0, (800, .inl (M.2.1 39)))) := by rw [hE16, up_n (Ne.symm (fun q => by cases hX.2 25 39 (by decide) (by decide) q))]; exact Xr39_h15
  have Xr25_h17 : h16 (D 25) = some (.inl (gA (xG X) 0, (51, .inl (M.2.1 35)))) := by rw [hE16]; exact up_s
  refine ww_aload_n C dX5_become_106 rfl 1 rfl rfl ?_
  refine gf_X5_37_X5 C dX5_become_107 (Or.inl Xt8_h17) rfl ?_
  refine ww_aload_n C dX5_become_110 rfl 0 rfl rfl ?_
  refine gf_X5_37_X5 C dX5_become_111 (Or.inl Xt7_h17) rfl ?_
  refine cs_X5_64_q (As := [.ref (D 36), .ref (D 26)]) (rest := []) C dX5_become_114 (ct_X5_copy (Cx.fl C) (Cx.ok C) (n := 17) Xr36_h17 Xr26_h17 (Ne.symm (fun q => by cases hX.2 26 36 (by decide) (by decide) q)) (by decide)) rfl rfl (Nat.le_of_ble_eq_true rfl) (by decide) (Nat.zero_le _) (Nat.zero_le _) (fun z18 h18 q18 => ?_)
  obtain ⟨hq, hE18⟩ := q18; replace hq := hq.symm; subst hq
  have Xt7_h19 : h18 (D 7) = some (.inr (4, [.int (M.1 25), .int (M.1 26), .int (M.1 27), .ref (D 20), .int (M.1 28), .ref (D 21), .ref (D 22), .ref (D 23), .ref (D 24), .ref (D 25), .ref (D 26), .int (M.1 29), .ref (D 27), .ref (D 28), .ref (D 29)])) := by rw [hE18, up_n (fun q => by cases hX.2 7 26 (by decide) (by decide) q)]; exact Xt7_h17
  have Xt8_h19 : h18 (D 8) = some (.inr (4, [.int (M.1 25), .int (M.1 26), .int (M.1 27), .ref (D 30), .int (M.1 28), .ref (D 31), .ref (D 32), .ref (D 33), .ref (D 34), .ref (D 35), .ref (D 36), .int (M.1 29), .ref (D 37), .ref (D 38), .ref (D 39)])) := by rw [hE18, up_n (fun q => by cases hX.2 8 26 (by decide) (by decide) q)]; exact Xt8_h17
  have Xr20_h19 : h18 (D 20) = some (.inl (gA (xG X) 0, (51, .inl (M.2.1 30)))) := by rw [hE18, up_n (fun q => by cases hX.2 20 26 (by decide) (by decide) q)]; exact Xr20_h17
  have Xr21_h19 : h18 (D 21) = some (.inl (gA (xG X) 0, (17, .inl (M.2.1 31)))) := by rw [hE18, up_n (fun q => by cases hX.2 21 26 (by decide) (by decide) q)]; exact Xr21_h17
  have Xr22_h19 : h18 (D 22) = some (.inl (gA (xG X) 0, (17, .inl (M.2.1 32)))) := by rw [hE18, up_n (fun q => by cases hX.2 22 26 (by decide) (by decide) q)]; exact Xr22_h17
  have Xr23_h19 : h18 (D 23) = some (.inl (gA (xG X) 0, (17, .inl (M.2.1 33)))) := by rw [hE18, up_n (fun q => by cases hX.2 23 26 (by decide) (by decide) q)]; exact Xr23_h17
  have Xr24_h19 : h18 (D 24) = some (.inl (gA (xG X) 0, (17, .inl (M.2.1 34)))) := by rw [hE18, up_n (fun q => by cases hX.2 24 26 (by decide) (by decide) q)]; exact Xr24_h17
  have Xr25_h19 : h18 (D 25) = some (.inl (gA (xG X) 0, (51, .inl (M.2.1 35)))) := by rw [hE18, up_n (fun q => by cases hX.2 25 26 (by decide) (by decide) q)]; exact Xr25_h17
  have Xr27_h19 : h18 (D 27) = some (.inl (gA (xG X) 0, (800, .inl (M.2.1 27)))) := by rw [hE18, up_n (Ne.symm (fun q => by cases hX.2 26 27 (by decide) (by decide) q))]; exact Xr27_h17
  have Xr28_h19 : h18 (D 28) = some (.inl (gA (xG X) 0, (800, .inl (M.2.1 28)))) := by rw [hE18, up_n (Ne.symm (fun q => by cases hX.2 26 28 (by decide) (by decide) q))]; exact Xr28_h17
  have Xr29_h19 : h18 (D 29) = some (.inl (gA (xG X) 0, (800, .inl (M.2.1 29)))) := by rw [hE18, up_n (Ne.symm (fun q => by cases hX.2 26 29 (by decide) (by decide) q))]; exact Xr29_h17
  have Xr30_h19 : h18 (D 30) = some (.inl (gA (xG X) 0, (51, .inl (M.2.1 30)))) := by rw [hE18, up_n (Ne.symm (fun q => by cases hX.2 26 30 (by decide) (by decide) q))]; exact Xr30_h17
  have Xr31_h19 : h18 (D 31) = some (.inl (gA (xG X) 0, (17, .inl (M.2.1 31)))) := by rw [hE18, up_n (Ne.symm (fun q => by cases hX.2 26 31 (by decide) (by decide) q))]; exact Xr31_h17
  have Xr32_h19 : h18 (D 32) = some (.inl (gA (xG X) 0, (17, .inl (M.2.1 32)))) := by rw [hE18, up_n (Ne.symm (fun q => by cases hX.2 26 32 (by decide) (by decide) q))]; exact Xr32_h17
  have Xr33_h19 : h18 (D 33) = some (.inl (gA (xG X) 0, (17, .inl (M.2.1 33)))) := by rw [hE18, up_n (Ne.symm (fun q => by cases hX.2 26 33 (by decide) (by decide) q))]; exact Xr33_h17
  have Xr34_h19 : h18 (D 34) = some (.inl (gA (xG X) 0, (17, .inl (M.2.1 34)))) := by rw [hE18, up_n (Ne.symm (fun q => by cases hX.2 26 34 (by decide) (by decide) q))]; exact Xr34_h17
  have Xr35_h19 : h18 (D 35) = some (.inl (gA (xG X) 0, (51, .inl (M.2.1 35)))) := by rw [hE18, up_n (Ne.symm (fun q => by cases hX.2 26 35 (by decide) (by decide) q))]; exact Xr35_h17
  have Xr36_h19 : h18 (D 36) = some (.inl (gA (xG X) 0, (17, .inl (M.2.1 36)))) := by rw [hE18, up_n (Ne.symm (fun q => by cases hX.2 26 36 (by decide) (by decide) q))]; exact Xr36_h17
  have Xr37_h19 : h18 (D 37) = some (.inl (gA (xG X) 0, (800, .inl (M.2.1 37)))) := by rw [hE18, up_n (Ne.symm (fun q => by cases hX.2 26 37 (by decide) (by decide) q))]; exact Xr37_h17
  have Xr38_h19 : h18 (D 38) = some (.inl (gA (xG X) 0, (800, .inl (M.2.1 38)))) := by rw [hE18, up_n (Ne.symm (fun q => by cases hX.2 26 38 (by decide) (by decide) q))]; exact Xr38_h17
  have Xr39_h19 : h18 (D 39) = some (.inl (gA (xG X) 0, (800, .inl (M.2.1 39)))) := by rw [hE18, up_n (Ne.symm (fun q => by cases hX.2 26 39 (by decide) (by decide) q))]; exact Xr39_h17
  have Xr26_h19 : h18 (D 26) = some (.inl (gA (xG X) 0, (17, .inl (M.2.1 36)))) := by rw [hE18]; exact up_s
  refine ww_aload_n C dX5_become_117 rfl 1 rfl rfl ?_
  refine gf_X5_40_X5 C dX5_become_118 (Or.inl Xt8_h19) rfl ?_
  refine ww_aload_n C dX5_become_121 rfl 0 rfl rfl ?_
  refine gf_X5_40_X5 C dX5_become_122 (Or.inl Xt7_h19) rfl ?_
  refine cs_X5_64_q (As := [.ref (D 37), .ref (D 27)]) (rest := []) C dX5_become_125 (ct_X5_copy (Cx.fl C) (Cx.ok C) (n := 800) Xr37_h19 Xr27_h19 (Ne.symm (fun q => by cases hX.2 27 37 (by decide) (by decide) q)) (by decide)) rfl rfl (Nat.le_of_ble_eq_true rfl) (by decide) (Nat.zero_le _) (Nat.zero_le _) (fun z20 h20 q20 => ?_)
  obtain ⟨hq, hE20⟩ := q20; replace hq := hq.symm; subst hq
  have Xt7_h21 : h20 (D 7) = some (.inr (4, [.int (M.1 25), .int (M.1 26), .int (M.1 27), .ref (D 20), .int (M.1 28), .ref (D 21), .ref (D 22), .ref (D 23), .ref (D 24), .ref (D 25), .ref (D 26), .int (M.1 29), .ref (D 27), .ref (D 28), .ref (D 29)])) := by rw [hE20, up_n (fun q => by cases hX.2 7 27 (by decide) (by decide) q)]; exact Xt7_h19
  have Xt8_h21 : h20 (D 8) = some (.inr (4, [.int (M.1 25), .int (M.1 26), .int (M.1 27), .ref (D 30), .int (M.1 28), .ref (D 31), .ref (D 32), .ref (D 33), .ref (D 34), .ref (D 35), .ref (D 36), .int (M.1 29), .ref (D 37), .ref (D 38), .ref (D 39)])) := by rw [hE20, up_n (fun q => by cases hX.2 8 27 (by decide) (by decide) q)]; exact Xt8_h19
  have Xr20_h21 : h20 (D 20) = some (.inl (gA (xG X) 0, (51, .inl (M.2.1 30)))) := by rw [hE20, up_n (fun q => by cases hX.2 20 27 (by decide) (by decide) q)]; exact Xr20_h19
  have Xr21_h21 : h20 (D 21) = some (.inl (gA (xG X) 0, (17, .inl (M.2.1 31)))) := by rw [hE20, up_n (fun q => by cases hX.2 21 27 (by decide) (by decide) q)]; exact Xr21_h19
  have Xr22_h21 : h20 (D 22) = some (.inl (gA (xG X) 0, (17, .inl (M.2.1 32)))) := by rw [hE20, up_n (fun q => by cases hX.2 22 27 (by decide) (by decide) q)]; exact Xr22_h19
  have Xr23_h21 : h20 (D 23) = some (.inl (gA (xG X) 0, (17, .inl (M.2.1 33)))) := by rw [hE20, up_n (fun q => by cases hX.2 23 27 (by decide) (by decide) q)]; exact Xr23_h19
  have Xr24_h21 : h20 (D 24) = some (.inl (gA (xG X) 0, (17, .inl (M.2.1 34)))) := by rw [hE20, up_n (fun q => by cases hX.2 24 27 (by decide) (by decide) q)]; exact Xr24_h19
  have Xr25_h21 : h20 (D 25) = some (.inl (gA (xG X) 0, (51, .inl (M.2.1 35)))) := by rw [hE20, up_n (fun q => by cases hX.2 25 27 (by decide) (by decide) q)]; exact Xr25_h19
  have Xr26_h21 : h20 (D 26) = some (.inl (gA (xG X) 0, (17, .inl (M.2.1 36)))) := by rw [hE20, up_n (fun q => by cases hX.2 26 27 (by decide) (by decide) q)]; exact Xr26_h19
  have Xr28_h21 : h20 (D 28) = some (.inl (gA (xG X) 0, (800, .inl (M.2.1 28)))) := by rw [hE20, up_n (Ne.symm (fun q => by cases hX.2 27 28 (by decide) (by decide) q))]; exact Xr28_h19
  have Xr29_h21 : h20 (D 29) = some (.inl (gA (xG X) 0, (800, .inl (M.2.1 29)))) := by rw [hE20, up_n (Ne.symm (fun q => by cases hX.2 27 29 (by decide) (by decide) q))]; exact Xr29_h19
  have Xr30_h21 : h20 (D 30) = some (.inl (gA (xG X) 0, (51, .inl (M.2.1 30)))) := by rw [hE20, up_n (Ne.symm (fun q => by cases hX.2 27 30 (by decide) (by decide) q))]; exact Xr30_h19
  have Xr31_h21 : h20 (D 31) = some (.inl (gA (xG X) 0, (17, .inl (M.2.1 31)))) := by rw [hE20, up_n (Ne.symm (fun q => by cases hX.2 27 31 (by decide) (by decide) q))]; exact Xr31_h19
  have Xr32_h21 : h20 (D 32) = some (.inl (gA (xG X) 0, (17, .inl (M.2.1 32)))) := by rw [hE20, up_n (Ne.symm (fun q => by cases hX.2 27 32 (by decide) (by decide) q))]; exact Xr32_h19
  have Xr33_h21 : h20 (D 33) = some (.inl (gA (xG X) 0, (17, .inl (M.2.1 33)))) := by rw [hE20, up_n (Ne.symm (fun q => by cases hX.2 27 33 (by decide) (by decide) q))]; exact Xr33_h19
  have Xr34_h21 : h20 (D 34) = some (.inl (gA (xG X) 0, (17, .inl (M.2.1 34)))) := by rw [hE20, up_n (Ne.symm (fun q => by cases hX.2 27 34 (by decide) (by decide) q))]; exact Xr34_h19
  have Xr35_h21 : h20 (D 35) = some (.inl (gA (xG X) 0, (51, .inl (M.2.1 35)))) := by rw [hE20, up_n (Ne.symm (fun q => by cases hX.2 27 35 (by decide) (by decide) q))]; exact Xr35_h19
  have Xr36_h21 : h20 (D 36) = some (.inl (gA (xG X) 0, (17, .inl (M.2.1 36)))) := by rw [hE20, up_n (Ne.symm (fun q => by cases hX.2 27 36 (by decide) (by decide) q))]; exact Xr36_h19
  have Xr37_h21 : h20 (D 37) = some (.inl (gA (xG X) 0, (800, .inl (M.2.1 37)))) := by rw [hE20, up_n (Ne.symm (fun q => by cases hX.2 27 37 (by decide) (by decide) q))]; exact Xr37_h19
  have Xr38_h21 : h20 (D 38) = some (.inl (gA (xG X) 0, (800, .inl (M.2.1 38)))) := by rw [hE20, up_n (Ne.symm (fun q => by cases hX.2 27 38 (by decide) (by decide) q))]; exact Xr38_h19
  have Xr39_h21 : h20 (D 39) = some (.inl (gA (xG X) 0, (800, .inl (M.2.1 39)))) := by rw [hE20, up_n (Ne.symm (fun q => by cases hX.2 27 39 (by decide) (by decide) q))]; exact Xr39_h19
  have Xr27_h21 : h20 (D 27) = some (.inl (gA (xG X) 0, (800, .inl (M.2.1 37)))) := by rw [hE20]; exact up_s
  refine ww_aload_n C dX5_become_128 rfl 1 rfl rfl ?_
  refine gf_X5_43_X5 C dX5_become_129 (Or.inl Xt8_h21) rfl ?_
  refine ww_aload_n C dX5_become_132 rfl 0 rfl rfl ?_
  refine gf_X5_43_X5 C dX5_become_133 (Or.inl Xt7_h21) rfl ?_
  refine cs_X5_64_q (As := [.ref (D 38), .ref (D 28)]) (rest := []) C dX5_become_136 (ct_X5_copy (Cx.fl C) (Cx.ok C) (n := 800) Xr38_h21 Xr28_h21 (Ne.symm (fun q => by cases hX.2 28 38 (by decide) (by decide) q)) (by decide)) rfl rfl (Nat.le_of_ble_eq_true rfl) (by decide) (Nat.zero_le _) (Nat.zero_le _) (fun z22 h22 q22 => ?_)
  obtain ⟨hq, hE22⟩ := q22; replace hq := hq.symm; subst hq
  have Xt7_h23 : h22 (D 7) = some (.inr (4, [.int (M.1 25), .int (M.1 26), .int (M.1 27), .ref (D 20), .int (M.1 28), .ref (D 21), .ref (D 22), .ref (D 23), .ref (D 24), .ref (D 25), .ref (D 26), .int (M.1 29), .ref (D 27), .ref (D 28), .ref (D 29)])) := by rw [hE22, up_n (fun q => by cases hX.2 7 28 (by decide) (by decide) q)]; exact Xt7_h21
  have Xt8_h23 : h22 (D 8) = some (.inr (4, [.int (M.1 25), .int (M.1 26), .int (M.1 27), .ref (D 30), .int (M.1 28), .ref (D 31), .ref (D 32), .ref (D 33), .ref (D 34), .ref (D 35), .ref (D 36), .int (M.1 29), .ref (D 37), .ref (D 38), .ref (D 39)])) := by rw [hE22, up_n (fun q => by cases hX.2 8 28 (by decide) (by decide) q)]; exact Xt8_h21
  have Xr20_h23 : h22 (D 20) = some (.inl (gA (xG X) 0, (51, .inl (M.2.1 30)))) := by rw [hE22, up_n (fun q => by cases hX.2 20 28 (by decide) (by decide) q)]; exact Xr20_h21
  have Xr21_h23 : h22 (D 21) = some (.inl (gA (xG X) 0, (17, .inl (M.2.1 31)))) := by rw [hE22, up_n (fun q => by cases hX.2 21 28 (by decide) (by decide) q)]; exact Xr21_h21
  have Xr22_h23 : h22 (D 22) = some (.inl (gA (xG X) 0, (17, .inl (M.2.1 32)))) := by rw [hE22, up_n (fun q => by cases hX.2 22 28 (by decide) (by decide) q)]; exact Xr22_h21
  have Xr23_h23 : h22 (D 23) = some (.inl (gA (xG X) 0, (17, .inl (M.2.1 33)))) := by rw [hE22, up_n (fun q => by cases hX.2 23 28 (by decide) (by decide) q)]; exact Xr23_h21
  have Xr24_h23 : h22 (D 24) = some (.inl (gA (xG X) 0, (17, .inl (M.2.1 34)))) := by rw [hE22, up_n (fun q => by cases hX.2 24 28 (by decide) (by decide) q)]; exact Xr24_h21
  have Xr25_h23 : h22 (D 25) = some (.inl (gA (xG X) 0, (51, .inl (M.2.1 35)))) := by rw [hE22, up_n (fun q => by cases hX.2 25 28 (by decide) (by decide) q)]; exact Xr25_h21
  have Xr26_h23 : h22 (D 26) = some (.inl (gA (xG X) 0, (17, .inl (M.2.1 36)))) := by rw [hE22, up_n (fun q => by cases hX.2 26 28 (by decide) (by decide) q)]; exact Xr26_h21
  have Xr27_h23 : h22 (D 27) = some (.inl (gA (xG X) 0, (800, .inl (M.2.1 37)))) := by rw [hE22, up_n (fun q => by cases hX.2 27 28 (by decide) (by decide) q)]; exact Xr27_h21
  have Xr29_h23 : h22 (D 29) = some (.inl (gA (xG X) 0, (800, .inl (M.2.1 29)))) := by rw [hE22, up_n (Ne.symm (fun q => by cases hX.2 28 29 (by decide) (by decide) q))]; exact Xr29_h21
  have Xr30_h23 : h22 (D 30) = some (.inl (gA (xG X) 0, (51, .inl (M.2.1 30)))) := by rw [hE22, up_n (Ne.symm (fun q => by cases hX.2 28 30 (by decide) (by decide) q))]; exact Xr30_h21
  have Xr31_h23 : h22 (D 31) = some (.inl (gA (xG X) 0, (17, .inl (M.2.1 31)))) := by rw [hE22, up_n (Ne.symm (fun q => by cases hX.2 28 31 (by decide) (by decide) q))]; exact Xr31_h21
  have Xr32_h23 : h22 (D 32) = some (.inl (gA (xG X) 0, (17, .inl (M.2.1 32)))) := by rw [hE22, up_n (Ne.symm (fun q => by cases hX.2 28 32 (by decide) (by decide) q))]; exact Xr32_h21
  have Xr33_h23 : h22 (D 33) = some (.inl (gA (xG X) 0, (17, .inl (M.2.1 33)))) := by rw [hE22, up_n (Ne.symm (fun q => by cases hX.2 28 33 (by decide) (by decide) q))]; exact Xr33_h21
  have Xr34_h23 : h22 (D 34) = some (.inl (gA (xG X) 0, (17, .inl (M.2.1 34)))) := by rw [hE22, up_n (Ne.symm (fun q => by cases hX.2 28 34 (by decide) (by decide) q))]; exact Xr34_h21
  have Xr35_h23 : h22 (D 35) = some (.inl (gA (xG X) 0, (51, .inl (M.2.1 35)))) := by rw [hE22, up_n (Ne.symm (fun q => by cases hX.2 28 35 (by decide) (by decide) q))]; exact Xr35_h21
  have Xr36_h23 : h22 (D 36) = some (.inl (gA (xG X) 0, (17, .inl (M.2.1 36)))) := by rw [hE22, up_n (Ne.symm (fun q => by cases hX.2 28 36 (by decide) (by decide) q))]; exact Xr36_h21
  have Xr37_h23 : h22 (D 37) = some (.inl (gA (xG X) 0, (800, .inl (M.2.1 37)))) := by rw [hE22, up_n (Ne.symm (fun q => by cases hX.2 28 37 (by decide) (by decide) q))]; exact Xr37_h21
  have Xr38_h23 : h22 (D 38) = some (.inl (gA (xG X) 0, (800, .inl (M.2.1 38)))) := by rw [hE22, up_n (Ne.symm (fun q => by cases hX.2 28 38 (by decide) (by decide) q))]; exact Xr38_h21
  have Xr39_h23 : h22 (D 39) = some (.inl (gA (xG X) 0, (800, .inl (M.2.1 39)))) := by rw [hE22, up_n (Ne.symm (fun q => by cases hX.2 28 39 (by decide) (by decide) q))]; exact Xr39_h21
  have Xr28_h23 : h22 (D 28) = some (.inl (gA (xG X) 0, (800, .inl (M.2.1 38)))) := by rw [hE22]; exact up_s
  refine ww_aload_n C dX5_become_139 rfl 1 rfl rfl ?_
  refine gf_X5_46_X5 C dX5_become_140 (Or.inl Xt8_h23) rfl ?_
  refine ww_aload_n C dX5_become_143 rfl 0 rfl rfl ?_
  refine gf_X5_46_X5 C dX5_become_144 (Or.inl Xt7_h23) rfl ?_
  refine cs_X5_64_q (As := [.ref (D 39), .ref (D 29)]) (rest := []) C dX5_become_147 (ct_X5_copy (Cx.fl C) (Cx.ok C) (n := 800) Xr39_h23 Xr29_h23 (Ne.symm (fun q => by cases hX.2 29 39 (by decide) (by decide) q)) (by decide)) rfl rfl (Nat.le_of_ble_eq_true rfl) (by decide) (Nat.zero_le _) (Nat.zero_le _) (fun z24 h24 q24 => ?_)
  obtain ⟨hq, hE24⟩ := q24; replace hq := hq.symm; subst hq
  have Xt7_h25 : h24 (D 7) = some (.inr (4, [.int (M.1 25), .int (M.1 26), .int (M.1 27), .ref (D 20), .int (M.1 28), .ref (D 21), .ref (D 22), .ref (D 23), .ref (D 24), .ref (D 25), .ref (D 26), .int (M.1 29), .ref (D 27), .ref (D 28), .ref (D 29)])) := by rw [hE24, up_n (fun q => by cases hX.2 7 29 (by decide) (by decide) q)]; exact Xt7_h23
  have Xt8_h25 : h24 (D 8) = some (.inr (4, [.int (M.1 25), .int (M.1 26), .int (M.1 27), .ref (D 30), .int (M.1 28), .ref (D 31), .ref (D 32), .ref (D 33), .ref (D 34), .ref (D 35), .ref (D 36), .int (M.1 29), .ref (D 37), .ref (D 38), .ref (D 39)])) := by rw [hE24, up_n (fun q => by cases hX.2 8 29 (by decide) (by decide) q)]; exact Xt8_h23
  have Xr20_h25 : h24 (D 20) = some (.inl (gA (xG X) 0, (51, .inl (M.2.1 30)))) := by rw [hE24, up_n (fun q => by cases hX.2 20 29 (by decide) (by decide) q)]; exact Xr20_h23
  have Xr21_h25 : h24 (D 21) = some (.inl (gA (xG X) 0, (17, .inl (M.2.1 31)))) := by rw [hE24, up_n (fun q => by cases hX.2 21 29 (by decide) (by decide) q)]; exact Xr21_h23
  have Xr22_h25 : h24 (D 22) = some (.inl (gA (xG X) 0, (17, .inl (M.2.1 32)))) := by rw [hE24, up_n (fun q => by cases hX.2 22 29 (by decide) (by decide) q)]; exact Xr22_h23
  have Xr23_h25 : h24 (D 23) = some (.inl (gA (xG X) 0, (17, .inl (M.2.1 33)))) := by rw [hE24, up_n (fun q => by cases hX.2 23 29 (by decide) (by decide) q)]; exact Xr23_h23
  have Xr24_h25 : h24 (D 24) = some (.inl (gA (xG X) 0, (17, .inl (M.2.1 34)))) := by rw [hE24, up_n (fun q => by cases hX.2 24 29 (by decide) (by decide) q)]; exact Xr24_h23
  have Xr25_h25 : h24 (D 25) = some (.inl (gA (xG X) 0, (51, .inl (M.2.1 35)))) := by rw [hE24, up_n (fun q => by cases hX.2 25 29 (by decide) (by decide) q)]; exact Xr25_h23
  have Xr26_h25 : h24 (D 26) = some (.inl (gA (xG X) 0, (17, .inl (M.2.1 36)))) := by rw [hE24, up_n (fun q => by cases hX.2 26 29 (by decide) (by decide) q)]; exact Xr26_h23
  have Xr27_h25 : h24 (D 27) = some (.inl (gA (xG X) 0, (800, .inl (M.2.1 37)))) := by rw [hE24, up_n (fun q => by cases hX.2 27 29 (by decide) (by decide) q)]; exact Xr27_h23
  have Xr28_h25 : h24 (D 28) = some (.inl (gA (xG X) 0, (800, .inl (M.2.1 38)))) := by rw [hE24, up_n (fun q => by cases hX.2 28 29 (by decide) (by decide) q)]; exact Xr28_h23
  have Xr30_h25 : h24 (D 30) = some (.inl (gA (xG X) 0, (51, .inl (M.2.1 30)))) := by rw [hE24, up_n (Ne.symm (fun q => by cases hX.2 29 30 (by decide) (by decide) q))]; exact Xr30_h23
  have Xr31_h25 : h24 (D 31) = some (.inl (gA (xG X) 0, (17, .inl (M.2.1 31)))) := by rw [hE24, up_n (Ne.symm (fun q => by cases hX.2 29 31 (by decide) (by decide) q))]; exact Xr31_h23
  have Xr32_h25 : h24 (D 32) = some (.inl (gA (xG X) 0, (17, .inl (M.2.1 32)))) := by rw [hE24, up_n (Ne.symm (fun q => by cases hX.2 29 32 (by decide) (by decide) q))]; exact Xr32_h23
  have Xr33_h25 : h24 (D 33) = some (.inl (gA (xG X) 0, (17, .inl (M.2.1 33)))) := by rw [hE24, up_n (Ne.symm (fun q => by cases hX.2 29 33 (by decide) (by decide) q))]; exact Xr33_h23
  have Xr34_h25 : h24 (D 34) = some (.inl (gA (xG X) 0, (17, .inl (M.2.1 34)))) := by rw [hE24, up_n (Ne.symm (fun q => by cases hX.2 29 34 (by decide) (by decide) q))]; exact Xr34_h23
  have Xr35_h25 : h24 (D 35) = some (.inl (gA (xG X) 0, (51, .inl (M.2.1 35)))) := by rw [hE24, up_n (Ne.symm (fun q => by cases hX.2 29 35 (by decide) (by decide) q))]; exact Xr35_h23
  have Xr36_h25 : h24 (D 36) = some (.inl (gA (xG X) 0, (17, .inl (M.2.1 36)))) := by rw [hE24, up_n (Ne.symm (fun q => by cases hX.2 29 36 (by decide) (by decide) q))]; exact Xr36_h23
  have Xr37_h25 : h24 (D 37) = some (.inl (gA (xG X) 0, (800, .inl (M.2.1 37)))) := by rw [hE24, up_n (Ne.symm (fun q => by cases hX.2 29 37 (by decide) (by decide) q))]; exact Xr37_h23
  have Xr38_h25 : h24 (D 38) = some (.inl (gA (xG X) 0, (800, .inl (M.2.1 38)))) := by rw [hE24, up_n (Ne.symm (fun q => by cases hX.2 29 38 (by decide) (by decide) q))]; exact Xr38_h23
  have Xr39_h25 : h24 (D 39) = some (.inl (gA (xG X) 0, (800, .inl (M.2.1 39)))) := by rw [hE24, up_n (Ne.symm (fun q => by cases hX.2 29 39 (by decide) (by decide) q))]; exact Xr39_h23
  have Xr29_h25 : h24 (D 29) = some (.inl (gA (xG X) 0, (800, .inl (M.2.1 39)))) := by rw [hE24]; exact up_s
  have hfin : becT M = _ := rfl
  exact ww_vret C dX5_become_150 ⟨rfl, by rw [hE24, hE22, hE20, hE18, hE16, hE14, hE12, hE10, hE8, hE6, hE5, hE4, hE3, hE2, hE1]; exact (Mx.r (Mx.r (Mx.r (Mx.r (Mx.r (Mx.r (Mx.r (Mx.r (Mx.r (Mx.r (Mx.i (Mx.i (Mx.i (Mx.i (Mx.i hX (j := 20) (Or.inr (by decide)) rfl) (j := 21) (Or.inr (by decide)) rfl) (j := 22) (Or.inr (by decide)) rfl) (j := 23) (Or.inr (by decide)) rfl) (j := 24) (Or.inr (by decide)) rfl) (i := 20) (by decide)) (i := 21) (by decide)) (i := 22) (by decide)) (i := 23) (by decide)) (i := 24) (by decide)) (i := 25) (by decide)) (i := 26) (by decide)) (i := 27) (by decide)) (i := 28) (by decide)) (i := 29) (by decide)), by rw [hE24, hE22, hE20, hE18, hE16, hE14, hE12, hE10, hE8, hE6, hE5, hE4, hE3, hE2, hE1]; exact (FrD.w (FrD.w (FrD.w (FrD.w (FrD.w (FrD.w (FrD.w (FrD.w (FrD.w (FrD.w (FrD.w (FrD.w (FrD.w (FrD.w (FrD.w FrD.rf (i := 7) (by decide)) (i := 7) (by decide)) (i := 7) (by decide)) (i := 7) (by decide)) (i := 7) (by decide)) (i := 20) (by decide)) (i := 21) (by decide)) (i := 22) (by decide)) (i := 23) (by decide)) (i := 24) (by decide)) (i := 25) (by decide)) (i := 26) (by decide)) (i := 27) (by decide)) (i := 28) (by decide)) (i := 29) (by decide))⟩
set_option maxHeartbeats 2000000 in
theorem ct_X5_begin {l : Launch} {Γ : Gm} (hl : l.flags = flags0) (hΓ : GOK Γ) {z : ZR} {h : AH} {M : MS} {D : Nat → Nat} (hX : Mx Γ h D M) : Ct l Γ yX5_begin cX5_begin 1 none 1 0 0 [.ref (D 8)] z h (Rn (fun z' h' => z' = z ∧ Mx Γ h' D (begT M) ∧ FrD h h' D)) := by
  refine Ct.of hl hΓ (by decide +kernel) (Nat.le_of_ble_eq_true rfl) (fun X e1 e2 C => ?_)
  subst e1; subst e2
  have C : Cx X cX5_begin 1 "RingDominoModel$Told" "begin" none [] 1 := C
  show WW X (Rn (fun z' h' => z' = z ∧ Mx (xG X) h' D (begT M) ∧ FrD h h' D)) z h 0 0 0 [(0, .ref (D 8))] []
  have Xt8 : h (D 8) = some (cTd (M.1 25) (M.1 26) (M.1 27) (M.1 28) (M.1 29) (fun i => D (30 + i))) := hX.1 8 (by decide)
  refine ww_aload_n C dX5_begin_0 rfl 0 rfl rfl ?_
  refine ww_iconst C dX5_begin_1 cI_5 ?_
  refine pf_X5_9_X5 (fs' := [.int (nI 5), .int (M.1 26), .int (M.1 27), .ref (D 30), .int (M.1 28), .ref (D 31), .ref (D 32), .ref (D 33), .ref (D 34), .ref (D 35), .ref (D 36), .int (M.1 29), .ref (D 37), .ref (D 38), .ref (D 39)]) C dX5_begin_2 Xt8 rfl rfl (Nat.le_of_ble_eq_true rfl) rfl ?_
  refine ww_gen (fun h1 hE1 => ?_)
  have Xt8_h1 : h1 (D 8) = some (.inr (4, [.int (nI 5), .int (M.1 26), .int (M.1 27), .ref (D 30), .int (M.1 28), .ref (D 31), .ref (D 32), .ref (D 33), .ref (D 34), .ref (D 35), .ref (D 36), .int (M.1 29), .ref (D 37), .ref (D 38), .ref (D 39)])) := by rw [hE1]; exact up_s
  refine ww_aload_n C dX5_begin_5 rfl 0 rfl rfl ?_
  refine ww_iconst C dX5_begin_6 cI_5 ?_
  refine pf_X5_15_X5 (fs' := [.int (nI 5), .int (nI 5), .int (M.1 27), .ref (D 30), .int (M.1 28), .ref (D 31), .ref (D 32), .ref (D 33), .ref (D 34), .ref (D 35), .ref (D 36), .int (M.1 29), .ref (D 37), .ref (D 38), .ref (D 39)]) C dX5_begin_7 Xt8_h1 rfl rfl (Nat.le_of_ble_eq_true rfl) rfl ?_
  refine ww_gen (fun h2 hE2 => ?_)
  have Xt8_h2 : h2 (D 8) = some (.inr (4, [.int (nI 5), .int (nI 5), .int (M.1 27), .ref (D 30), .int (M.1 28), .ref (D 31), .ref (D 32), .ref (D 33), .ref (D 34), .ref (D 35), .ref (D 36), .int (M.1 29), .ref (D 37), .ref (D 38), .ref (D 39)])) := by rw [hE2]; exact up_s
  refine ww_aload_n C dX5_begin_10 rfl 0 rfl rfl ?_
  refine ww_iconst C dX5_begin_11 cI_0 ?_
  refine pf_X5_49_X5 (fs' := [.int (nI 5), .int (nI 5), .int (nI 0), .ref (D 30), .int (M.1 28), .ref (D 31), .ref (D 32), .ref (D 33), .ref (D 34), .ref (D 35), .ref (D 36), .int (M.1 29), .ref (D 37), .ref (D 38), .ref (D 39)]) C dX5_begin_12 Xt8_h2 rfl rfl (Nat.le_of_ble_eq_true rfl) rfl ?_
  refine ww_gen (fun h3 hE3 => ?_)
  have Xt8_h3 : h3 (D 8) = some (.inr (4, [.int (nI 5), .int (nI 5), .int (nI 0), .ref (D 30), .int (M.1 28), .ref (D 31), .ref (D 32), .ref (D 33), .ref (D 34), .ref (D 35), .ref (D 36), .int (M.1 29), .ref (D 37), .ref (D 38), .ref (D 39)])) := by rw [hE3]; exact up_s
  refine ww_aload_n C dX5_begin_15 rfl 0 rfl rfl ?_
  refine ww_iconst C dX5_begin_16 cI_0 ?_
  refine pf_X5_52_X5 (fs' := [.int (nI 5), .int (nI 5), .int (nI 0), .ref (D 30), .int (nI 0), .ref (D 31), .ref (D 32), .ref (D 33), .ref (D 34), .ref (D 35), .ref (D 36), .int (M.1 29), .ref (D 37), .ref (D 38), .ref (D 39)]) C dX5_begin_17 Xt8_h3 rfl rfl (Nat.le_of_ble_eq_true rfl) rfl ?_
  refine ww_gen (fun h4 hE4 => ?_)
  have Xt8_h4 : h4 (D 8) = some (.inr (4, [.int (nI 5), .int (nI 5), .int (nI 0), .ref (D 30), .int (nI 0), .ref (D 31), .ref (D 32), .ref (D 33), .ref (D 34), .ref (D 35), .ref (D 36), .int (M.1 29), .ref (D 37), .ref (D 38), .ref (D 39)])) := by rw [hE4]; exact up_s
  refine ww_aload_n C dX5_begin_20 rfl 0 rfl rfl ?_
  refine ww_iconst C dX5_begin_21 cI_0 ?_
  refine pf_X5_55_X5 (fs' := [.int (nI 5), .int (nI 5), .int (nI 0), .ref (D 30), .int (nI 0), .ref (D 31), .ref (D 32), .ref (D 33), .ref (D 34), .ref (D 35), .ref (D 36), .int (nI 0), .ref (D 37), .ref (D 38), .ref (D 39)]) C dX5_begin_22 Xt8_h4 rfl rfl (Nat.le_of_ble_eq_true rfl) rfl ?_
  refine ww_gen (fun h5 hE5 => ?_)
  have Xt8_h5 : h5 (D 8) = some (.inr (4, [.int (nI 5), .int (nI 5), .int (nI 0), .ref (D 30), .int (nI 0), .ref (D 31), .ref (D 32), .ref (D 33), .ref (D 34), .ref (D 35), .ref (D 36), .int (nI 0), .ref (D 37), .ref (D 38), .ref (D 39)])) := by rw [hE5]; exact up_s
  exact ww_vret C dX5_begin_25 ⟨rfl, by rw [hE5, hE4, hE3, hE2, hE1]; exact (Mx.i (Mx.i (Mx.i (Mx.i (Mx.i hX (j := 25) (Or.inr (by decide)) rfl) (j := 26) (Or.inr (by decide)) rfl) (j := 27) (Or.inr (by decide)) rfl) (j := 28) (Or.inr (by decide)) rfl) (j := 29) (Or.inr (by decide)) rfl), by rw [hE5, hE4, hE3, hE2, hE1]; exact (FrD.w (FrD.w (FrD.w (FrD.w (FrD.w FrD.rf (i := 8) (by decide)) (i := 8) (by decide)) (i := 8) (by decide)) (i := 8) (by decide)) (i := 8) (by decide))⟩
set_option maxHeartbeats 2000000 in
theorem ct_X6_begin {l : Launch} {Γ : Gm} (hl : l.flags = flags0) (hΓ : GOK Γ) {z : ZR} {h : AH} {M : MS} {D : Nat → Nat} (hX : Mx Γ h D M) : Ct l Γ yX6_begin cX6_begin 2 none 1 0 0 [.ref (D 10)] z h (Rn (fun z' h' => z' = z ∧ ∃ f g, (∀ i, i < 49 → f i = -1) ∧ (∀ i, i < 16 → g i = -1) ∧ Mx Γ h' D (begS M f g) ∧ FrD h h' D)) := by
  refine Ct.of hl hΓ (by decide +kernel) (Nat.le_of_ble_eq_true rfl) (fun X e1 e2 C => ?_)
  subst e1; subst e2
  have C : Cx X cX6_begin 2 "RingDominoModel$State" "begin" none [] 1 := C
  show WW X (Rn (fun z' h' => z' = z ∧ ∃ f g, (∀ i, i < 49 → f i = -1) ∧ (∀ i, i < 16 → g i = -1) ∧ Mx (xG X) h' D (begS M f g) ∧ FrD h h' D)) z h 0 0 0 [(0, .ref (D 10))] []
  refine ww_iconst C dX6_begin_0 cI_0 ?_
  refine ww_istore_n (lv' := [(1, .int (nI 0)), (0, .ref (D 10))]) C dX6_begin_1 rfl (by decide) rfl ?_
  refine ww_h (h' := up h (D 40) (cI (xG X) 49 (M.2.1 40))) (up_id (hX.1 40 (by decide))).symm ?_
  refine loop_up (N := 49) (M := fun j => ∀ (f : Nat → Int32), (∀ i, i < j → f i = -1) → WW X (Rn (fun z' h' => z' = z ∧ ∃ f g, (∀ i, i < 49 → f i = -1) ∧ (∀ i, i < 16 → g i = -1) ∧ Mx (xG X) h' D (begS M f g) ∧ FrD h h' D)) z (up h (D 40) (cI (xG X) 49 f)) 0 0 2 [(1, .int (nI j)), (0, .ref (D 10))] []) ?_ ?_ 0 (Nat.zero_le _) (M.2.1 40) (fun i hi => absurd hi (Nat.not_lt_zero i))
  · intro f hv
    show WW X (Rn (fun z' h' => z' = z ∧ ∃ f g, (∀ i, i < 49 → f i = -1) ∧ (∀ i, i < 16 → g i = -1) ∧ Mx (xG X) h' D (begS M f g) ∧ FrD h h' D)) z (up h (D 40) (cI (xG X) 49 f)) 0 0 2 [(1, .int (nI 49)), (0, .ref (D 10))] []
    have hX1 : Mx (xG X) (up h (D 40) (cI (xG X) 49 f)) D (M.1, va_up M.2.1 40 f, M.2.2) := hX.r (i := 40) (by decide)
    have Xs : (up h (D 40) (cI (xG X) 49 f)) (D 10) = some (cSt (fun i => D (40 + i)) (M.1 30) (M.1 31)) := hX1.1 10 (by decide)
    have X40 : (up h (D 40) (cI (xG X) 49 f)) (D 40) = some (cI (xG X) 49 f) := hX1.1 40 (by decide)
    have X41 : (up h (D 40) (cI (xG X) 49 f)) (D 41) = some (cI (xG X) 16 (M.2.1 41)) := hX1.1 41 (by decide)
    refine ww_iload_n C dX6_begin_2 rfl 0 rfl ?_
    refine ww_bipush C dX6_begin_3 cB_49 ?_
    refine ww_icmp_ge_t (tgt := 21) C dX6_begin_5 (by decide) (nI_le (Nat.le_refl _) (by decide)) ?_
    refine ww_iconst C dX6_begin_21 cI_0 ?_
    refine ww_istore_n (lv' := [(1, .int (nI 0)), (0, .ref (D 10))]) C dX6_begin_22 rfl (by decide) rfl ?_
    refine ww_h (h' := up (up h (D 40) (cI (xG X) 49 f)) (D 41) (cI (xG X) 16 (M.2.1 41))) (up_id X41).symm ?_
    refine loop_up (N := 16) (M := fun j => ∀ (g : Nat → Int32), (∀ i, i < j → g i = -1) → WW X (Rn (fun z' h' => z' = z ∧ ∃ f g, (∀ i, i < 49 → f i = -1) ∧ (∀ i, i < 16 → g i = -1) ∧ Mx (xG X) h' D (begS M f g) ∧ FrD h h' D)) z (up (up h (D 40) (cI (xG X) 49 f)) (D 41) (cI (xG X) 16 g)) 0 0 23 [(1, .int (nI j)), (0, .ref (D 10))] []) ?_ ?_ 0 (Nat.zero_le _) (M.2.1 41) (fun i hi => absurd hi (Nat.not_lt_zero i))
    · intro g hw
      show WW X (Rn (fun z' h' => z' = z ∧ ∃ f g, (∀ i, i < 49 → f i = -1) ∧ (∀ i, i < 16 → g i = -1) ∧ Mx (xG X) h' D (begS M f g) ∧ FrD h h' D)) z (up (up h (D 40) (cI (xG X) 49 f)) (D 41) (cI (xG X) 16 g)) 0 0 23 [(1, .int (nI 16)), (0, .ref (D 10))] []
      have hX2 : Mx (xG X) (up (up h (D 40) (cI (xG X) 49 f)) (D 41) (cI (xG X) 16 g)) D (M.1, va_up (va_up M.2.1 40 f) 41 g, M.2.2) := hX1.r (i := 41) (by decide)
      have Xs : (up (up h (D 40) (cI (xG X) 49 f)) (D 41) (cI (xG X) 16 g)) (D 10) = some (cSt (fun i => D (40 + i)) (M.1 30) (M.1 31)) := hX2.1 10 (by decide)
      have X40 : (up (up h (D 40) (cI (xG X) 49 f)) (D 41) (cI (xG X) 16 g)) (D 40) = some (cI (xG X) 49 f) := hX2.1 40 (by decide)
      have X41 : (up (up h (D 40) (cI (xG X) 49 f)) (D 41) (cI (xG X) 16 g)) (D 41) = some (cI (xG X) 16 g) := hX2.1 41 (by decide)
      refine ww_iload_n C dX6_begin_23 rfl 0 rfl ?_
      refine ww_bipush C dX6_begin_24 cB_16 ?_
      refine ww_icmp_ge_t (tgt := 42) C dX6_begin_26 (by decide) (nI_le (Nat.le_refl _) (by decide)) ?_
      refine ww_aload_n C dX6_begin_42 rfl 1 rfl rfl ?_
      refine ww_iconst C dX6_begin_43 cI_0 ?_
      refine pf_X6_21_X6 (fs' := [.ref (D 40), .ref (D 41), .ref (D 42), .int (nI 0), .int (M.1 31)]) C dX6_begin_44 Xs rfl rfl (Nat.le_of_ble_eq_true rfl) rfl ?_
      refine ww_gen (fun h1 hE1 => ?_)
      have X40_h1 : h1 (D 40) = some (.inl (gA (xG X) 0, (49, .inl f))) := by rw [hE1, up_n (Ne.symm (fun q => by cases hX.2 10 40 (by decide) (by decide) q))]; exact X40
      have X41_h1 : h1 (D 41) = some (.inl (gA (xG X) 0, (16, .inl g))) := by rw [hE1, up_n (Ne.symm (fun q => by cases hX.2 10 41 (by decide) (by decide) q))]; exact X41
      have Xs_h1 : h1 (D 10) = some (.inr (5, [.ref (D 40), .ref (D 41), .ref (D 42), .int (nI 0), .int (M.1 31)])) := by rw [hE1]; exact up_s
      refine ww_aload_n C dX6_begin_47 rfl 1 rfl rfl ?_
      refine ww_iconst C dX6_begin_48 cI_0 ?_
      refine pf_X6_25_X6 (fs' := [.ref (D 40), .ref (D 41), .ref (D 42), .int (nI 0), .int (nI 0)]) C dX6_begin_49 Xs_h1 rfl rfl (Nat.le_of_ble_eq_true rfl) rfl ?_
      refine ww_gen (fun h2 hE2 => ?_)
      have X40_h2 : h2 (D 40) = some (.inl (gA (xG X) 0, (49, .inl f))) := by rw [hE2, up_n (Ne.symm (fun q => by cases hX.2 10 40 (by decide) (by decide) q))]; exact X40_h1
      have X41_h2 : h2 (D 41) = some (.inl (gA (xG X) 0, (16, .inl g))) := by rw [hE2, up_n (Ne.symm (fun q => by cases hX.2 10 41 (by decide) (by decide) q))]; exact X41_h1
      have Xs_h2 : h2 (D 10) = some (.inr (5, [.ref (D 40), .ref (D 41), .ref (D 42), .int (nI 0), .int (nI 0)])) := by rw [hE2]; exact up_s
      exact ww_vret C dX6_begin_52 ⟨rfl, f, g, hv, hw, by rw [hE2, hE1]; exact Mx.i (Mx.i hX2 (j := 30) (Or.inr (by decide)) rfl) (j := 31) (Or.inr (by decide)) rfl, by rw [hE2, hE1]; exact FrD.w (FrD.w (FrD.w (FrD.w FrD.rf (i := 40) (by decide)) (i := 41) (by decide)) (i := 10) (by decide)) (i := 10) (by decide)⟩
    · intro j hi ih g hw
      show WW X (Rn (fun z' h' => z' = z ∧ ∃ f g, (∀ i, i < 49 → f i = -1) ∧ (∀ i, i < 16 → g i = -1) ∧ Mx (xG X) h' D (begS M f g) ∧ FrD h h' D)) z (up (up h (D 40) (cI (xG X) 49 f)) (D 41) (cI (xG X) 16 g)) 0 0 23 [(1, .int (nI j)), (0, .ref (D 10))] []
      have hX2 : Mx (xG X) (up (up h (D 40) (cI (xG X) 49 f)) (D 41) (cI (xG X) 16 g)) D (M.1, va_up (va_up M.2.1 40 f) 41 g, M.2.2) := hX1.r (i := 41) (by decide)
      have Xs : (up (up h (D 40) (cI (xG X) 49 f)) (D 41) (cI (xG X) 16 g)) (D 10) = some (cSt (fun i => D (40 + i)) (M.1 30) (M.1 31)) := hX2.1 10 (by decide)
      have X40 : (up (up h (D 40) (cI (xG X) 49 f)) (D 41) (cI (xG X) 16 g)) (D 40) = some (cI (xG X) 49 f) := hX2.1 40 (by decide)
      have X41 : (up (up h (D 40) (cI (xG X) 49 f)) (D 41) (cI (xG X) 16 g)) (D 41) = some (cI (xG X) 16 g) := hX2.1 41 (by decide)
      refine ww_iload_n C dX6_begin_23 rfl 0 rfl ?_
      refine ww_bipush C dX6_begin_24 cB_16 ?_
      refine ww_icmp_ge_f (tgt := 42) C dX6_begin_26 (by decide) (nI_ge hi (by decide)) ?_
      refine ww_aload_n C dX6_begin_29 rfl 1 rfl rfl ?_
      refine gf_X6_15_X6 C dX6_begin_30 (Or.inl Xs) rfl ?_
      refine ww_iload_n C dX6_begin_33 rfl 0 rfl ?_
      refine ww_iconst C dX6_begin_34 cI_m1 ?_
      refine ww_iast C dX6_begin_35 X41 (by omega) (by decide) ?_
      refine ww_gen (fun h3 hE3 => ?_)
      have Xs_h3 : h3 (D 10) = some (.inr (5, [.ref (D 40), .ref (D 41), .ref (D 42), .int (M.1 30), .int (M.1 31)])) := by rw [hE3, up_n (fun q => by cases hX.2 10 41 (by decide) (by decide) q)]; exact Xs
      have X40_h3 : h3 (D 40) = some (.inl (gA (xG X) 0, (49, .inl f))) := by rw [hE3, up_n (fun q => by cases hX.2 40 41 (by decide) (by decide) q)]; exact X40
      have X41_h3 : h3 (D 41) = some (.inl (gA (xG X) 0, (16, .inl (upd g j (-1))))) := by rw [hE3]; exact up_s
      refine ww_iinc (lv' := [(1, .int (nI (j + 1))), (0, .ref (D 10))]) C dX6_begin_36 0 rfl (inc_n _) (by decide) rfl ?_
      refine ww_goto (tgt := 23) C dX6_begin_39 (by decide) ?_
      refine ww_h (h' := up (up h (D 40) (cI (xG X) 49 f)) (D 41) (cI (xG X) 16 (upd g j (-1)))) (by rw [hE3, up_up]; rfl) ?_
      exact ih (upd g j (-1)) (fun i hi2 => by unfold upd; by_cases q : i = j; { rw [if_pos q] }; { rw [if_neg q]; exact hw i (by omega) })
  · intro j hi ih f hv
    show WW X (Rn (fun z' h' => z' = z ∧ ∃ f g, (∀ i, i < 49 → f i = -1) ∧ (∀ i, i < 16 → g i = -1) ∧ Mx (xG X) h' D (begS M f g) ∧ FrD h h' D)) z (up h (D 40) (cI (xG X) 49 f)) 0 0 2 [(1, .int (nI j)), (0, .ref (D 10))] []
    have hX1 : Mx (xG X) (up h (D 40) (cI (xG X) 49 f)) D (M.1, va_up M.2.1 40 f, M.2.2) := hX.r (i := 40) (by decide)
    have Xs : (up h (D 40) (cI (xG X) 49 f)) (D 10) = some (cSt (fun i => D (40 + i)) (M.1 30) (M.1 31)) := hX1.1 10 (by decide)
    have X40 : (up h (D 40) (cI (xG X) 49 f)) (D 40) = some (cI (xG X) 49 f) := hX1.1 40 (by decide)
    have X41 : (up h (D 40) (cI (xG X) 49 f)) (D 41) = some (cI (xG X) 16 (M.2.1 41)) := hX1.1 41 (by decide)
    refine ww_iload_n C dX6_begin_2 rfl 0 rfl ?_
    refine ww_bipush C dX6_begin_3 cB_49 ?_
    refine ww_icmp_ge_f (tgt := 21) C dX6_begin_5 (by decide) (nI_ge hi (by decide)) ?_
    refine ww_aload_n C dX6_begin_8 rfl 1 rfl rfl ?_
    refine gf_X6_9_X6 C dX6_begin_9 (Or.inl Xs) rfl ?_
    refine ww_iload_n C dX6_begin_12 rfl 0 rfl ?_
    refine ww_iconst C dX6_begin_13 cI_m1 ?_
    refine ww_iast C dX6_begin_14 X40 (by omega) (by decide) ?_
    refine ww_gen (fun h4 hE4 => ?_)
    have Xs_h4 : h4 (D 10) = some (.inr (5, [.ref (D 40), .ref (D 41), .ref (D 42), .int (M.1 30), .int (M.1 31)])) := by rw [hE4, up_n (fun q => by cases hX.2 10 40 (by decide) (by decide) q)]; exact Xs
    have X41_h4 : h4 (D 41) = some (.inl (gA (xG X) 0, (16, .inl (M.2.1 41)))) := by rw [hE4, up_n (Ne.symm (fun q => by cases hX.2 40 41 (by decide) (by decide) q))]; exact X41
    have X40_h4 : h4 (D 40) = some (.inl (gA (xG X) 0, (49, .inl (upd f j (-1))))) := by rw [hE4]; exact up_s
    refine ww_iinc (lv' := [(1, .int (nI (j + 1))), (0, .ref (D 10))]) C dX6_begin_15 0 rfl (inc_n _) (by decide) rfl ?_
    refine ww_goto (tgt := 2) C dX6_begin_18 (by decide) ?_
    refine ww_h (h' := up h (D 40) (cI (xG X) 49 (upd f j (-1)))) (by rw [hE4, up_up]; rfl) ?_
    exact ih (upd f j (-1)) (fun i hi2 => by unfold upd; by_cases q : i = j; { rw [if_pos q] }; { rw [if_neg q]; exact hv i (by omega) })
end MO9
