section INIT
set_option maxRecDepth 100000
def ixD : List Nat := [0, 38, 37, 36, 35, 34, 33, 22, 11, 10, 6, 2, 1, 0, 0, 0, 0, 0, 0, 0, 32, 31, 30, 29, 28, 27, 26, 25, 24, 23, 21, 20, 19, 18, 17, 16, 15, 14, 13, 12, 9, 8, 7, 5, 4, 3]
theorem mi_c {i : Nat} (h : mi i = true) : i = 0 ∨ i = 1 ∨ i = 2 ∨ i = 3 ∨ i = 4 ∨ i = 5 ∨ i = 6 ∨ i = 7 ∨ i = 8 ∨ i = 9 ∨ i = 10 ∨ i = 11 ∨ i = 12 ∨ i = 13 ∨ i = 20 ∨ i = 21 ∨ i = 22 ∨ i = 23 ∨ i = 24 ∨ i = 25 ∨ i = 26 ∨ i = 27 ∨ i = 28 ∨ i = 29 ∨ i = 30 ∨ i = 31 ∨ i = 32 ∨ i = 33 ∨ i = 34 ∨ i = 35 ∨ i = 36 ∨ i = 37 ∨ i = 38 ∨ i = 39 ∨ i = 40 ∨ i = 41 ∨ i = 42 ∨ i = 43 ∨ i = 44 ∨ i = 45 := by
  unfold mi at h
  simp only [Bool.or_eq_true, Bool.and_eq_true, decide_eq_true_eq] at h
  omega
theorem ixD_i0 : ((List.range 46).all (fun i => (List.range 46).all (fun j => !(mi i && mi j && i != 0 && j != 0 && ixD.getD i 0 == ixD.getD j 0) || i == j))) = true := by decide +kernel
theorem ixD_i (i j : Nat) (hi : mi i = true) (hj : mi j = true) (i0 : i ≠ 0) (j0 : j ≠ 0) (h : ixD.getD i 0 = ixD.getD j 0) : i = j := by
  have a : i < 46 := by have := mi_c hi; omega
  have b : j < 46 := by have := mi_c hj; omega
  have k := List.all_eq_true.mp (List.all_eq_true.mp ixD_i0 i (List.mem_range.mpr a)) j (List.mem_range.mpr b)
  have e : (mi i && mi j && i != 0 && j != 0 && ixD.getD i 0 == ixD.getD j 0) = true := by
    rw [hi, hj, h]
    simp [i0, j0]
  rw [e] at k
  simpa using k
/-- nothing told -/
def td0 : TD := ((0, 0), fun _ _ => 0, fun _ => none)
def ms0 : MS := (fun j => if j = 2 then -1 else if j = 20 ∨ j = 21 ∨ j = 25 ∨ j = 26 then nI 5 else nI 0, fun _ _ => 0, fun _ => false)
theorem ms0_t {f g p q : Nat → Int32} : TdP ((begS ms0 f g).1, va_up (va_up (begS ms0 f g).2.1 40 p) 41 q, (begS ms0 f g).2.2) td0 := ⟨rfl, fun i k _ h => absurd h (Nat.not_lt_zero k), fun k p h => absurd h (Nat.not_lt_zero k), fun k h => absurd h (Nat.not_lt_zero k), fun i k _ h => absurd h (Nat.not_lt_zero k)⟩
theorem plN_0 : plN bd0 = 0 := by decide
theorem ms0_b {f g : Nat → Int32} : MBd ((begS ms0 f g).1, va_up (va_up (begS ms0 f g).2.1 40 (fun _ => -1)) 41 (fun _ => -1), (begS ms0 f g).2.2) 30 40 bd0 := by
  refine ⟨rfl, rfl, rfl, fun k p h => absurd h (Nat.not_lt_zero k), ?_, ?_, ?_, fun k x q => by cases q⟩
  · rw [plN_0]; rfl
  · funext x; rfl
  · funext x; rfl
set_option maxHeartbeats 2000000 in
theorem ct_X6_init {l : Launch} {Γ : Gm} (hl : l.flags = flags0) (hΓ : GOK Γ) {z : ZR} {h : AH} {m : Nat} (Hm : h m = some (.inr (5, [.null, .null, .null, .int (nI 0), .int (nI 0)]))) : Ct l Γ yX6_init cX6_init 1 none 2 3 81 [.ref m] z h (Rn (fun z' h' => z' = z ∧ ∃ b0 b1 b2 H, CH h ([(b2, .inl (gA Γ 0, (16, .inl (fun _ => 0)))), (b1, .inl (gA Γ 0, (16, .inl (fun _ => 0)))), (b0, .inl (gA Γ 0, (49, .inl (fun _ => 0))))] : List (Nat × va_E)) H ∧ h' = up H m (.inr (5, [.ref b0, .ref b1, .ref b2, .int (nI 0), .int (nI 0)])))) := by
  refine Ct.of hl hΓ (by decide +kernel) (Nat.le_of_ble_eq_true rfl) (fun X e1 e2 C => ?_)
  subst e1; subst e2
  have C : Cx X cX6_init 1 "RingDominoModel$State" "<init>" none [] 2 := C
  show WW X (Rn (fun z' h' => z' = z ∧ ∃ b0 b1 b2 H, CH h ([(b2, .inl (gA (xG X) 0, (16, .inl (fun _ => 0)))), (b1, .inl (gA (xG X) 0, (16, .inl (fun _ => 0)))), (b0, .inl (gA (xG X) 0, (49, .inl (fun _ => 0))))] : List (Nat × va_E)) H ∧ h' = up H m (.inr (5, [.ref b0, .ref b1, .ref b2, .int (nI 0), .int (nI 0)])))) z h 3 81 0 [(0, .ref m)] []
  obtain ⟨H0, hC0, hE0⟩ : ∃ H0, CH h [] H0 ∧ h = up H0 m (.inr (5, [.null, .null, .null, .int (nI 0), .int (nI 0)])) := ⟨h, rfl, (up_id Hm).symm⟩
  have hm0 : h m = some (.inr (5, [.null, .null, .null, .int (nI 0), .int (nI 0)])) := by rw [hE0]; exact up_s
  refine ww_aload_n C dX6_init_0 rfl 0 rfl rfl ?_
  refine ww_objInit C q2796 q172 q173 dX6_init_1 (by decide) (Nat.le_of_ble_eq_true rfl) ?_
  refine ww_aload_n C dX6_init_4 rfl 0 rfl rfl ?_
  refine ww_bipush C dX6_init_5 cB_49 ?_
  refine ww_newa (t := 0) (n := 49) (a0 := (49, .inl (fun _ => 0))) C dX6_init_7 (by decide) rfl q267 (fun cA => vp_cell_el cA _) (by decide) (by decide) (by decide) (fun b0 b0_n b0_z b0_g => ?_)
  refine ww_gen (fun h1 hE1 => ?_)
  have hm0_h1 : h1 m = some (.inr (5, [.null, .null, .null, .int (nI 0), .int (nI 0)])) := by rw [hE1, up_n (ne_nw hm0 b0_n)]; exact hm0
  have N1_h1 : h1 b0 = some (.inl (gA (xG X) 0, (49, .inl (fun _ => 0)))) := by rw [hE1]; exact up_s
  rw [hE0] at b0_n
  obtain ⟨H1, hC1, hD1⟩ := CH.ar (eb := .inl (gA (xG X) 0, (49, .inl (fun _ => 0)))) hC0 b0_n
  have hEn1 : h1 = up H1 m (.inr (5, [.null, .null, .null, .int (nI 0), .int (nI 0)])) := by rw [hE1, hE0]; exact hD1
  have hm1 : h1 m = some (.inr (5, [.null, .null, .null, .int (nI 0), .int (nI 0)])) := by rw [hEn1]; exact up_s
  refine pf_X6_9_X6 (fs' := [.ref b0, .null, .null, .int (nI 0), .int (nI 0)]) C dX6_init_9 hm1 rfl rfl (Nat.le_of_ble_eq_true rfl) rfl ?_
  refine ww_gen (fun h2 hE2 => ?_)
  have hm1_h2 : h2 m = some (.inr (5, [.ref b0, .null, .null, .int (nI 0), .int (nI 0)])) := by rw [hE2]; exact up_s
  have hEn2 : h2 = up H1 m (.inr (5, [.ref b0, .null, .null, .int (nI 0), .int (nI 0)])) := by rw [hE2, hEn1, up_up]
  have hm2 : h2 m = some (.inr (5, [.ref b0, .null, .null, .int (nI 0), .int (nI 0)])) := by rw [hEn2]; exact up_s
  refine ww_aload_n C dX6_init_12 rfl 0 rfl rfl ?_
  refine ww_bipush C dX6_init_13 cB_16 ?_
  refine ww_newa (t := 0) (n := 16) (a0 := (16, .inl (fun _ => 0))) C dX6_init_15 (by decide) rfl q267 (fun cA => vp_cell_el cA _) (by decide) (by decide) (by decide) (fun b1 b1_n b1_z b1_g => ?_)
  refine ww_gen (fun h3 hE3 => ?_)
  have hm2_h3 : h3 m = some (.inr (5, [.ref b0, .null, .null, .int (nI 0), .int (nI 0)])) := by rw [hE3, up_n (ne_nw hm2 b1_n)]; exact hm2
  have N3_h3 : h3 b1 = some (.inl (gA (xG X) 0, (16, .inl (fun _ => 0)))) := by rw [hE3]; exact up_s
  rw [hEn2] at b1_n
  obtain ⟨H3, hC3, hD3⟩ := CH.ar (eb := .inl (gA (xG X) 0, (16, .inl (fun _ => 0)))) hC1 b1_n
  have hEn3 : h3 = up H3 m (.inr (5, [.ref b0, .null, .null, .int (nI 0), .int (nI 0)])) := by rw [hE3, hEn2]; exact hD3
  have hm3 : h3 m = some (.inr (5, [.ref b0, .null, .null, .int (nI 0), .int (nI 0)])) := by rw [hEn3]; exact up_s
  refine pf_X6_15_X6 (fs' := [.ref b0, .ref b1, .null, .int (nI 0), .int (nI 0)]) C dX6_init_17 hm3 rfl rfl (Nat.le_of_ble_eq_true rfl) rfl ?_
  refine ww_gen (fun h4 hE4 => ?_)
  have hm3_h4 : h4 m = some (.inr (5, [.ref b0, .ref b1, .null, .int (nI 0), .int (nI 0)])) := by rw [hE4]; exact up_s
  have hEn4 : h4 = up H3 m (.inr (5, [.ref b0, .ref b1, .null, .int (nI 0), .int (nI 0)])) := by rw [hE4, hEn3, up_up]
  have hm4 : h4 m = some (.inr (5, [.ref b0, .ref b1, .null, .int (nI 0), .int (nI 0)])) := by rw [hEn4]; exact up_s
  refine ww_aload_n C dX6_init_20 rfl 0 rfl rfl ?_
  refine ww_bipush C dX6_init_21 cB_16 ?_
  refine ww_newa (t := 0) (n := 16) (a0 := (16, .inl (fun _ => 0))) C dX6_init_23 (by decide) rfl q267 (fun cA => vp_cell_el cA _) (by decide) (by decide) (by decide) (fun b2 b2_n b2_z b2_g => ?_)
  refine ww_gen (fun h5 hE5 => ?_)
  have hm4_h5 : h5 m = some (.inr (5, [.ref b0, .ref b1, .null, .int (nI 0), .int (nI 0)])) := by rw [hE5, up_n (ne_nw hm4 b2_n)]; exact hm4
  have N5_h5 : h5 b2 = some (.inl (gA (xG X) 0, (16, .inl (fun _ => 0)))) := by rw [hE5]; exact up_s
  rw [hEn4] at b2_n
  obtain ⟨H5, hC5, hD5⟩ := CH.ar (eb := .inl (gA (xG X) 0, (16, .inl (fun _ => 0)))) hC3 b2_n
  have hEn5 : h5 = up H5 m (.inr (5, [.ref b0, .ref b1, .null, .int (nI 0), .int (nI 0)])) := by rw [hE5, hEn4]; exact hD5
  have hm5 : h5 m = some (.inr (5, [.ref b0, .ref b1, .null, .int (nI 0), .int (nI 0)])) := by rw [hEn5]; exact up_s
  refine pf_X6_18_X6 (fs' := [.ref b0, .ref b1, .ref b2, .int (nI 0), .int (nI 0)]) C dX6_init_25 hm5 rfl rfl (Nat.le_of_ble_eq_true rfl) rfl ?_
  refine ww_gen (fun h6 hE6 => ?_)
  have hm5_h6 : h6 m = some (.inr (5, [.ref b0, .ref b1, .ref b2, .int (nI 0), .int (nI 0)])) := by rw [hE6]; exact up_s
  have hEn6 : h6 = up H5 m (.inr (5, [.ref b0, .ref b1, .ref b2, .int (nI 0), .int (nI 0)])) := by rw [hE6, hEn5, up_up]
  have hm6 : h6 m = some (.inr (5, [.ref b0, .ref b1, .ref b2, .int (nI 0), .int (nI 0)])) := by rw [hEn6]; exact up_s
  exact ww_vret C dX6_init_28 ⟨rfl, b0, b1, b2, H5, hC5, hEn6⟩
set_option maxHeartbeats 2000000 in
theorem ct_X5_init {l : Launch} {Γ : Gm} (hl : l.flags = flags0) (hΓ : GOK Γ) {z : ZR} {h : AH} {m : Nat} (Hm : h m = some (.inr (4, [.int (nI 0), .int (nI 0), .int (nI 0), .null, .int (nI 0), .null, .null, .null, .null, .null, .null, .int (nI 0), .null, .null, .null]))) : Ct l Γ yX5_init cX5_init 1 none 2 10 2587 [.ref m] z h (Rn (fun z' h' => z' = z ∧ ∃ b0 b1 b2 b3 b4 b5 b6 b7 b8 b9 H, CH h ([(b9, .inl (gA Γ 0, (800, .inl (fun _ => 0)))), (b8, .inl (gA Γ 0, (800, .inl (fun _ => 0)))), (b7, .inl (gA Γ 0, (800, .inl (fun _ => 0)))), (b6, .inl (gA Γ 0, (17, .inl (fun _ => 0)))), (b5, .inl (gA Γ 0, (51, .inl (fun _ => 0)))), (b4, .inl (gA Γ 0, (17, .inl (fun _ => 0)))), (b3, .inl (gA Γ 0, (17, .inl (fun _ => 0)))), (b2, .inl (gA Γ 0, (17, .inl (fun _ => 0)))), (b1, .inl (gA Γ 0, (17, .inl (fun _ => 0)))), (b0, .inl (gA Γ 0, (51, .inl (fun _ => 0))))] : List (Nat × va_E)) H ∧ h' = up H m (.inr (4, [.int (nI 5), .int (nI 5), .int (nI 0), .ref b0, .int (nI 0), .ref b1, .ref b2, .ref b3, .ref b4, .ref b5, .ref b6, .int (nI 0), .ref b7, .ref b8, .ref b9])))) := by
  refine Ct.of hl hΓ (by decide +kernel) (Nat.le_of_ble_eq_true rfl) (fun X e1 e2 C => ?_)
  subst e1; subst e2
  have C : Cx X cX5_init 1 "RingDominoModel$Told" "<init>" none [] 2 := C
  show WW X (Rn (fun z' h' => z' = z ∧ ∃ b0 b1 b2 b3 b4 b5 b6 b7 b8 b9 H, CH h ([(b9, .inl (gA (xG X) 0, (800, .inl (fun _ => 0)))), (b8, .inl (gA (xG X) 0, (800, .inl (fun _ => 0)))), (b7, .inl (gA (xG X) 0, (800, .inl (fun _ => 0)))), (b6, .inl (gA (xG X) 0, (17, .inl (fun _ => 0)))), (b5, .inl (gA (xG X) 0, (51, .inl (fun _ => 0)))), (b4, .inl (gA (xG X) 0, (17, .inl (fun _ => 0)))), (b3, .inl (gA (xG X) 0, (17, .inl (fun _ => 0)))), (b2, .inl (gA (xG X) 0, (17, .inl (fun _ => 0)))), (b1, .inl (gA (xG X) 0, (17, .inl (fun _ => 0)))), (b0, .inl (gA (xG X) 0, (51, .inl (fun _ => 0))))] : List (Nat × va_E)) H ∧ h' = up H m (.inr (4, [.int (nI 5), .int (nI 5), .int (nI 0), .ref b0, .int (nI 0), .ref b1, .ref b2, .ref b3, .ref b4, .ref b5, .ref b6, .int (nI 0), .ref b7, .ref b8, .ref b9])))) z h 10 2587 0 [(0, .ref m)] []
  obtain ⟨H0, hC0, hE0⟩ : ∃ H0, CH h [] H0 ∧ h = up H0 m (.inr (4, [.int (nI 0), .int (nI 0), .int (nI 0), .null, .int (nI 0), .null, .null, .null, .null, .null, .null, .int (nI 0), .null, .null, .null])) := ⟨h, rfl, (up_id Hm).symm⟩
  have hm0 : h m = some (.inr (4, [.int (nI 0), .int (nI 0), .int (nI 0), .null, .int (nI 0), .null, .null, .null, .null, .null, .null, .int (nI 0), .null, .null, .null])) := by rw [hE0]; exact up_s
  refine ww_aload_n C dX5_init_0 rfl 0 rfl rfl ?_
  refine ww_objInit C q2729 q172 q173 dX5_init_1 (by decide) (Nat.le_of_ble_eq_true rfl) ?_
  refine ww_aload_n C dX5_init_4 rfl 0 rfl rfl ?_
  refine ww_iconst C dX5_init_5 cI_5 ?_
  refine pf_X5_9_X5 (fs' := [.int (nI 5), .int (nI 0), .int (nI 0), .null, .int (nI 0), .null, .null, .null, .null, .null, .null, .int (nI 0), .null, .null, .null]) C dX5_init_6 hm0 rfl rfl (Nat.le_of_ble_eq_true rfl) rfl ?_
  refine ww_gen (fun h1 hE1 => ?_)
  have hm0_h1 : h1 m = some (.inr (4, [.int (nI 5), .int (nI 0), .int (nI 0), .null, .int (nI 0), .null, .null, .null, .null, .null, .null, .int (nI 0), .null, .null, .null])) := by rw [hE1]; exact up_s
  have hEn1 : h1 = up H0 m (.inr (4, [.int (nI 5), .int (nI 0), .int (nI 0), .null, .int (nI 0), .null, .null, .null, .null, .null, .null, .int (nI 0), .null, .null, .null])) := by rw [hE1, hE0, up_up]
  have hm1 : h1 m = some (.inr (4, [.int (nI 5), .int (nI 0), .int (nI 0), .null, .int (nI 0), .null, .null, .null, .null, .null, .null, .int (nI 0), .null, .null, .null])) := by rw [hEn1]; exact up_s
  refine ww_aload_n C dX5_init_9 rfl 0 rfl rfl ?_
  refine ww_iconst C dX5_init_10 cI_5 ?_
  refine pf_X5_15_X5 (fs' := [.int (nI 5), .int (nI 5), .int (nI 0), .null, .int (nI 0), .null, .null, .null, .null, .null, .null, .int (nI 0), .null, .null, .null]) C dX5_init_11 hm1 rfl rfl (Nat.le_of_ble_eq_true rfl) rfl ?_
  refine ww_gen (fun h2 hE2 => ?_)
  have hm1_h2 : h2 m = some (.inr (4, [.int (nI 5), .int (nI 5), .int (nI 0), .null, .int (nI 0), .null, .null, .null, .null, .null, .null, .int (nI 0), .null, .null, .null])) := by rw [hE2]; exact up_s
  have hEn2 : h2 = up H0 m (.inr (4, [.int (nI 5), .int (nI 5), .int (nI 0), .null, .int (nI 0), .null, .null, .null, .null, .null, .null, .int (nI 0), .null, .null, .null])) := by rw [hE2, hEn1, up_up]
  have hm2 : h2 m = some (.inr (4, [.int (nI 5), .int (nI 5), .int (nI 0), .null, .int (nI 0), .null, .null, .null, .null, .null, .null, .int (nI 0), .null, .null, .null])) := by rw [hEn2]; exact up_s
  refine ww_aload_n C dX5_init_14 rfl 0 rfl rfl ?_
  refine ww_bipush C dX5_init_15 cB_51 ?_
  refine ww_newa (t := 0) (n := 51) (a0 := (51, .inl (fun _ => 0))) C dX5_init_17 (by decide) rfl q267 (fun cA => vp_cell_el cA _) (by decide) (by decide) (by decide) (fun b0 b0_n b0_z b0_g => ?_)
  refine ww_gen (fun h3 hE3 => ?_)
  have hm2_h3 : h3 m = some (.inr (4, [.int (nI 5), .int (nI 5), .int (nI 0), .null, .int (nI 0), .null, .null, .null, .null, .null, .null, .int (nI 0), .null, .null, .null])) := by rw [hE3, up_n (ne_nw hm2 b0_n)]; exact hm2
  have N3_h3 : h3 b0 = some (.inl (gA (xG X) 0, (51, .inl (fun _ => 0)))) := by rw [hE3]; exact up_s
  rw [hEn2] at b0_n
  obtain ⟨H3, hC3, hD3⟩ := CH.ar (eb := .inl (gA (xG X) 0, (51, .inl (fun _ => 0)))) hC0 b0_n
  have hEn3 : h3 = up H3 m (.inr (4, [.int (nI 5), .int (nI 5), .int (nI 0), .null, .int (nI 0), .null, .null, .null, .null, .null, .null, .int (nI 0), .null, .null, .null])) := by rw [hE3, hEn2]; exact hD3
  have hm3 : h3 m = some (.inr (4, [.int (nI 5), .int (nI 5), .int (nI 0), .null, .int (nI 0), .null, .null, .null, .null, .null, .null, .int (nI 0), .null, .null, .null])) := by rw [hEn3]; exact up_s
  refine pf_X5_18_X5 (fs' := [.int (nI 5), .int (nI 5), .int (nI 0), .ref b0, .int (nI 0), .null, .null, .null, .null, .null, .null, .int (nI 0), .null, .null, .null]) C dX5_init_19 hm3 rfl rfl (Nat.le_of_ble_eq_true rfl) rfl ?_
  refine ww_gen (fun h4 hE4 => ?_)
  have hm3_h4 : h4 m = some (.inr (4, [.int (nI 5), .int (nI 5), .int (nI 0), .ref b0, .int (nI 0), .null, .null, .null, .null, .null, .null, .int (nI 0), .null, .null, .null])) := by rw [hE4]; exact up_s
  have hEn4 : h4 = up H3 m (.inr (4, [.int (nI 5), .int (nI 5), .int (nI 0), .ref b0, .int (nI 0), .null, .null, .null, .null, .null, .null, .int (nI 0), .null, .null, .null])) := by rw [hE4, hEn3, up_up]
  have hm4 : h4 m = some (.inr (4, [.int (nI 5), .int (nI 5), .int (nI 0), .ref b0, .int (nI 0), .null, .null, .null, .null, .null, .null, .int (nI 0), .null, .null, .null])) := by rw [hEn4]; exact up_s
  refine ww_aload_n C dX5_init_22 rfl 0 rfl rfl ?_
  refine ww_bipush C dX5_init_23 cB_17 ?_
  refine ww_newa (t := 0) (n := 17) (a0 := (17, .inl (fun _ => 0))) C dX5_init_25 (by decide) rfl q267 (fun cA => vp_cell_el cA _) (by decide) (by decide) (by decide) (fun b1 b1_n b1_z b1_g => ?_)
  refine ww_gen (fun h5 hE5 => ?_)
  have hm4_h5 : h5 m = some (.inr (4, [.int (nI 5), .int (nI 5), .int (nI 0), .ref b0, .int (nI 0), .null, .null, .null, .null, .null, .null, .int (nI 0), .null, .null, .null])) := by rw [hE5, up_n (ne_nw hm4 b1_n)]; exact hm4
  have N5_h5 : h5 b1 = some (.inl (gA (xG X) 0, (17, .inl (fun _ => 0)))) := by rw [hE5]; exact up_s
  rw [hEn4] at b1_n
  obtain ⟨H5, hC5, hD5⟩ := CH.ar (eb := .inl (gA (xG X) 0, (17, .inl (fun _ => 0)))) hC3 b1_n
  have hEn5 : h5 = up H5 m (.inr (4, [.int (nI 5), .int (nI 5), .int (nI 0), .ref b0, .int (nI 0), .null, .null, .null, .null, .null, .null, .int (nI 0), .null, .null, .null])) := by rw [hE5, hEn4]; exact hD5
  have hm5 : h5 m = some (.inr (4, [.int (nI 5), .int (nI 5), .int (nI 0), .ref b0, .int (nI 0), .null, .null, .null, .null, .null, .null, .int (nI 0), .null, .null, .null])) := by rw [hEn5]; exact up_s
  refine pf_X5_22_X5 (fs' := [.int (nI 5), .int (nI 5), .int (nI 0), .ref b0, .int (nI 0), .ref b1, .null, .null, .null, .null, .null, .int (nI 0), .null, .null, .null]) C dX5_init_27 hm5 rfl rfl (Nat.le_of_ble_eq_true rfl) rfl ?_
  refine ww_gen (fun h6 hE6 => ?_)
  have hm5_h6 : h6 m = some (.inr (4, [.int (nI 5), .int (nI 5), .int (nI 0), .ref b0, .int (nI 0), .ref b1, .null, .null, .null, .null, .null, .int (nI 0), .null, .null, .null])) := by rw [hE6]; exact up_s
  have hEn6 : h6 = up H5 m (.inr (4, [.int (nI 5), .int (nI 5), .int (nI 0), .ref b0, .int (nI 0), .ref b1, .null, .null, .null, .null, .null, .int (nI 0), .null, .null, .null])) := by rw [hE6, hEn5, up_up]
  have hm6 : h6 m = some (.inr (4, [.int (nI 5), .int (nI 5), .int (nI 0), .ref b0, .int (nI 0), .ref b1, .null, .null, .null, .null, .null, .int (nI 0), .null, .null, .null])) := by rw [hEn6]; exact up_s
  refine ww_aload_n C dX5_init_30 rfl 0 rfl rfl ?_
  refine ww_bipush C dX5_init_31 cB_17 ?_
  refine ww_newa (t := 0) (n := 17) (a0 := (17, .inl (fun _ => 0))) C dX5_init_33 (by decide) rfl q267 (fun cA => vp_cell_el cA _) (by decide) (by decide) (by decide) (fun b2 b2_n b2_z b2_g => ?_)
  refine ww_gen (fun h7 hE7 => ?_)
  have hm6_h7 : h7 m = some (.inr (4, [.int (nI 5), .int (nI 5), .int (nI 0), .ref b0, .int (nI 0), .ref b1, .null, .null, .null, .null, .null, .int (nI 0), .null, .null, .null])) := by rw [hE7, up_n (ne_nw hm6 b2_n)]; exact hm6
  have N7_h7 : h7 b2 = some (.inl (gA (xG X) 0, (17, .inl (fun _ => 0)))) := by rw [hE7]; exact up_s
  rw [hEn6] at b2_n
  obtain ⟨H7, hC7, hD7⟩ := CH.ar (eb := .inl (gA (xG X) 0, (17, .inl (fun _ => 0)))) hC5 b2_n
  have hEn7 : h7 = up H7 m (.inr (4, [.int (nI 5), .int (nI 5), .int (nI 0), .ref b0, .int (nI 0), .ref b1, .null, .null, .null, .null, .null, .int (nI 0), .null, .null, .null])) := by rw [hE7, hEn6]; exact hD7
  have hm7 : h7 m = some (.inr (4, [.int (nI 5), .int (nI 5), .int (nI 0), .ref b0, .int (nI 0), .ref b1, .null, .null, .null, .null, .null, .int (nI 0), .null, .null, .null])) := by rw [hEn7]; exact up_s
  refine pf_X5_25_X5 (fs' := [.int (nI 5), .int (nI 5), .int (nI 0), .ref b0, .int (nI 0), .ref b1, .ref b2, .null, .null, .null, .null, .int (nI 0), .null, .null, .null]) C dX5_init_35 hm7 rfl rfl (Nat.le_of_ble_eq_true rfl) rfl ?_
  refine ww_gen (fun h8 hE8 => ?_)
  have hm7_h8 : h8 m = some (.inr (4, [.int (nI 5), .int (nI 5), .int (nI 0), .ref b0, .int (nI 0), .ref b1, .ref b2, .null, .null, .null, .null, .int (nI 0), .null, .null, .null])) := by rw [hE8]; exact up_s
  have hEn8 : h8 = up H7 m (.inr (4, [.int (nI 5), .int (nI 5), .int (nI 0), .ref b0, .int (nI 0), .ref b1, .ref b2, .null, .null, .null, .null, .int (nI 0), .null, .null, .null])) := by rw [hE8, hEn7, up_up]
  have hm8 : h8 m = some (.inr (4, [.int (nI 5), .int (nI 5), .int (nI 0), .ref b0, .int (nI 0), .ref b1, .ref b2, .null, .null, .null, .null, .int (nI 0), .null, .null, .null])) := by rw [hEn8]; exact up_s
  refine ww_aload_n C dX5_init_38 rfl 0 rfl rfl ?_
  refine ww_bipush C dX5_init_39 cB_17 ?_
  refine ww_newa (t := 0) (n := 17) (a0 := (17, .inl (fun _ => 0))) C dX5_init_41 (by decide) rfl q267 (fun cA => vp_cell_el cA _) (by decide) (by decide) (by decide) (fun b3 b3_n b3_z b3_g => ?_)
  refine ww_gen (fun h9 hE9 => ?_)
  have hm8_h9 : h9 m = some (.inr (4, [.int (nI 5), .int (nI 5), .int (nI 0), .ref b0, .int (nI 0), .ref b1, .ref b2, .null, .null, .null, .null, .int (nI 0), .null, .null, .null])) := by rw [hE9, up_n (ne_nw hm8 b3_n)]; exact hm8
  have N9_h9 : h9 b3 = some (.inl (gA (xG X) 0, (17, .inl (fun _ => 0)))) := by rw [hE9]; exact up_s
  rw [hEn8] at b3_n
  obtain ⟨H9, hC9, hD9⟩ := CH.ar (eb := .inl (gA (xG X) 0, (17, .inl (fun _ => 0)))) hC7 b3_n
  have hEn9 : h9 = up H9 m (.inr (4, [.int (nI 5), .int (nI 5), .int (nI 0), .ref b0, .int (nI 0), .ref b1, .ref b2, .null, .null, .null, .null, .int (nI 0), .null, .null, .null])) := by rw [hE9, hEn8]; exact hD9
  have hm9 : h9 m = some (.inr (4, [.int (nI 5), .int (nI 5), .int (nI 0), .ref b0, .int (nI 0), .ref b1, .ref b2, .null, .null, .null, .null, .int (nI 0), .null, .null, .null])) := by rw [hEn9]; exact up_s
  refine pf_X5_28_X5 (fs' := [.int (nI 5), .int (nI 5), .int (nI 0), .ref b0, .int (nI 0), .ref b1, .ref b2, .ref b3, .null, .null, .null, .int (nI 0), .null, .null, .null]) C dX5_init_43 hm9 rfl rfl (Nat.le_of_ble_eq_true rfl) rfl ?_
  refine ww_gen (fun h10 hE10 => ?_)
  have hm9_h10 : h10 m = some (.inr (4, [.int (nI 5), .int (nI 5), .int (nI 0), .ref b0, .int (nI 0), .ref b1, .ref b2, .ref b3, .null, .null, .null, .int (nI 0), .null, .null, .null])) := by rw [hE10]; exact up_s
  have hEn10 : h10 = up H9 m (.inr (4, [.int (nI 5), .int (nI 5), .int (nI 0), .ref b0, .int (nI 0), .ref b1, .ref b2, .ref b3, .null, .null, .null, .int (nI 0), .null, .null, .null])) := by rw [hE10, hEn9, up_up]
  have hm10 : h10 m = some (.inr (4, [.int (nI 5), .int (nI 5), .int (nI 0), .ref b0, .int (nI 0), .ref b1, .ref b2, .ref b3, .null, .null, .null, .int (nI 0), .null, .null, .null])) := by rw [hEn10]; exact up_s
  refine ww_aload_n C dX5_init_46 rfl 0 rfl rfl ?_
  refine ww_bipush C dX5_init_47 cB_17 ?_
  refine ww_newa (t := 0) (n := 17) (a0 := (17, .inl (fun _ => 0))) C dX5_init_49 (by decide) rfl q267 (fun cA => vp_cell_el cA _) (by decide) (by decide) (by decide) (fun b4 b4_n b4_z b4_g => ?_)
  refine ww_gen (fun h11 hE11 => ?_)
  have hm10_h11 : h11 m = some (.inr (4, [.int (nI 5), .int (nI 5), .int (nI 0), .ref b0, .int (nI 0), .ref b1, .ref b2, .ref b3, .null, .null, .null, .int (nI 0), .null, .null, .null])) := by rw [hE11, up_n (ne_nw hm10 b4_n)]; exact hm10
  have N11_h11 : h11 b4 = some (.inl (gA (xG X) 0, (17, .inl (fun _ => 0)))) := by rw [hE11]; exact up_s
  rw [hEn10] at b4_n
  obtain ⟨H11, hC11, hD11⟩ := CH.ar (eb := .inl (gA (xG X) 0, (17, .inl (fun _ => 0)))) hC9 b4_n
  have hEn11 : h11 = up H11 m (.inr (4, [.int (nI 5), .int (nI 5), .int (nI 0), .ref b0, .int (nI 0), .ref b1, .ref b2, .ref b3, .null, .null, .null, .int (nI 0), .null, .null, .null])) := by rw [hE11, hEn10]; exact hD11
  have hm11 : h11 m = some (.inr (4, [.int (nI 5), .int (nI 5), .int (nI 0), .ref b0, .int (nI 0), .ref b1, .ref b2, .ref b3, .null, .null, .null, .int (nI 0), .null, .null, .null])) := by rw [hEn11]; exact up_s
  refine pf_X5_31_X5 (fs' := [.int (nI 5), .int (nI 5), .int (nI 0), .ref b0, .int (nI 0), .ref b1, .ref b2, .ref b3, .ref b4, .null, .null, .int (nI 0), .null, .null, .null]) C dX5_init_51 hm11 rfl rfl (Nat.le_of_ble_eq_true rfl) rfl ?_
  refine ww_gen (fun h12 hE12 => ?_)
  have hm11_h12 : h12 m = some (.inr (4, [.int (nI 5), .int (nI 5), .int (nI 0), .ref b0, .int (nI 0), .ref b1, .ref b2, .ref b3, .ref b4, .null, .null, .int (nI 0), .null, .null, .null])) := by rw [hE12]; exact up_s
  have hEn12 : h12 = up H11 m (.inr (4, [.int (nI 5), .int (nI 5), .int (nI 0), .ref b0, .int (nI 0), .ref b1, .ref b2, .ref b3, .ref b4, .null, .null, .int (nI 0), .null, .null, .null])) := by rw [hE12, hEn11, up_up]
  have hm12 : h12 m = some (.inr (4, [.int (nI 5), .int (nI 5), .int (nI 0), .ref b0, .int (nI 0), .ref b1, .ref b2, .ref b3, .ref b4, .null, .null, .int (nI 0), .null, .null, .null])) := by rw [hEn12]; exact up_s
  refine ww_aload_n C dX5_init_54 rfl 0 rfl rfl ?_
  refine ww_bipush C dX5_init_55 cB_51 ?_
  refine ww_newa (t := 0) (n := 51) (a0 := (51, .inl (fun _ => 0))) C dX5_init_57 (by decide) rfl q267 (fun cA => vp_cell_el cA _) (by decide) (by decide) (by decide) (fun b5 b5_n b5_z b5_g => ?_)
  refine ww_gen (fun h13 hE13 => ?_)
  have hm12_h13 : h13 m = some (.inr (4, [.int (nI 5), .int (nI 5), .int (nI 0), .ref b0, .int (nI 0), .ref b1, .ref b2, .ref b3, .ref b4, .null, .null, .int (nI 0), .null, .null, .null])) := by rw [hE13, up_n (ne_nw hm12 b5_n)]; exact hm12
  have N13_h13 : h13 b5 = some (.inl (gA (xG X) 0, (51, .inl (fun _ => 0)))) := by rw [hE13]; exact up_s
  rw [hEn12] at b5_n
  obtain ⟨H13, hC13, hD13⟩ := CH.ar (eb := .inl (gA (xG X) 0, (51, .inl (fun _ => 0)))) hC11 b5_n
  have hEn13 : h13 = up H13 m (.inr (4, [.int (nI 5), .int (nI 5), .int (nI 0), .ref b0, .int (nI 0), .ref b1, .ref b2, .ref b3, .ref b4, .null, .null, .int (nI 0), .null, .null, .null])) := by rw [hE13, hEn12]; exact hD13
  have hm13 : h13 m = some (.inr (4, [.int (nI 5), .int (nI 5), .int (nI 0), .ref b0, .int (nI 0), .ref b1, .ref b2, .ref b3, .ref b4, .null, .null, .int (nI 0), .null, .null, .null])) := by rw [hEn13]; exact up_s
  refine pf_X5_34_X5 (fs' := [.int (nI 5), .int (nI 5), .int (nI 0), .ref b0, .int (nI 0), .ref b1, .ref b2, .ref b3, .ref b4, .ref b5, .null, .int (nI 0), .null, .null, .null]) C dX5_init_59 hm13 rfl rfl (Nat.le_of_ble_eq_true rfl) rfl ?_
  refine ww_gen (fun h14 hE14 => ?_)
  have hm13_h14 : h14 m = some (.inr (4, [.int (nI 5), .int (nI 5), .int (nI 0), .ref b0, .int (nI 0), .ref b1, .ref b2, .ref b3, .ref b4, .ref b5, .null, .int (nI 0), .null, .null, .null])) := by rw [hE14]; exact up_s
  have hEn14 : h14 = up H13 m (.inr (4, [.int (nI 5), .int (nI 5), .int (nI 0), .ref b0, .int (nI 0), .ref b1, .ref b2, .ref b3, .ref b4, .ref b5, .null, .int (nI 0), .null, .null, .null])) := by rw [hE14, hEn13, up_up]
  have hm14 : h14 m = some (.inr (4, [.int (nI 5), .int (nI 5), .int (nI 0), .ref b0, .int (nI 0), .ref b1, .ref b2, .ref b3, .ref b4, .ref b5, .null, .int (nI 0), .null, .null, .null])) := by rw [hEn14]; exact up_s
  refine ww_aload_n C dX5_init_62 rfl 0 rfl rfl ?_
  refine ww_bipush C dX5_init_63 cB_17 ?_
  refine ww_newa (t := 0) (n := 17) (a0 := (17, .inl (fun _ => 0))) C dX5_init_65 (by decide) rfl q267 (fun cA => vp_cell_el cA _) (by decide) (by decide) (by decide) (fun b6 b6_n b6_z b6_g => ?_)
  refine ww_gen (fun h15 hE15 => ?_)
  have hm14_h15 : h15 m = some (.inr (4, [.int (nI 5), .int (nI 5), .int (nI 0), .ref b0, .int (nI 0), .ref b1, .ref b2, .ref b3, .ref b4, .ref b5, .null, .int (nI 0), .null, .null, .null])) := by rw [hE15, up_n (ne_nw hm14 b6_n)]; exact hm14
  have N15_h15 : h15 b6 = some (.inl (gA (xG X) 0, (17, .inl (fun _ => 0)))) := by rw [hE15]; exact up_s
  rw [hEn14] at b6_n
  obtain ⟨H15, hC15, hD15⟩ := CH.ar (eb := .inl (gA (xG X) 0, (17, .inl (fun _ => 0)))) hC13 b6_n
  have hEn15 : h15 = up H15 m (.inr (4, [.int (nI 5), .int (nI 5), .int (nI 0), .ref b0, .int (nI 0), .ref b1, .ref b2, .ref b3, .ref b4, .ref b5, .null, .int (nI 0), .null, .null, .null])) := by rw [hE15, hEn14]; exact hD15
  have hm15 : h15 m = some (.inr (4, [.int (nI 5), .int (nI 5), .int (nI 0), .ref b0, .int (nI 0), .ref b1, .ref b2, .ref b3, .ref b4, .ref b5, .null, .int (nI 0), .null, .null, .null])) := by rw [hEn15]; exact up_s
  refine pf_X5_37_X5 (fs' := [.int (nI 5), .int (nI 5), .int (nI 0), .ref b0, .int (nI 0), .ref b1, .ref b2, .ref b3, .ref b4, .ref b5, .ref b6, .int (nI 0), .null, .null, .null]) C dX5_init_67 hm15 rfl rfl (Nat.le_of_ble_eq_true rfl) rfl ?_
  refine ww_gen (fun h16 hE16 => ?_)
  have hm15_h16 : h16 m = some (.inr (4, [.int (nI 5), .int (nI 5), .int (nI 0), .ref b0, .int (nI 0), .ref b1, .ref b2, .ref b3, .ref b4, .ref b5, .ref b6, .int (nI 0), .null, .null, .null])) := by rw [hE16]; exact up_s
  have hEn16 : h16 = up H15 m (.inr (4, [.int (nI 5), .int (nI 5), .int (nI 0), .ref b0, .int (nI 0), .ref b1, .ref b2, .ref b3, .ref b4, .ref b5, .ref b6, .int (nI 0), .null, .null, .null])) := by rw [hE16, hEn15, up_up]
  have hm16 : h16 m = some (.inr (4, [.int (nI 5), .int (nI 5), .int (nI 0), .ref b0, .int (nI 0), .ref b1, .ref b2, .ref b3, .ref b4, .ref b5, .ref b6, .int (nI 0), .null, .null, .null])) := by rw [hEn16]; exact up_s
  refine ww_aload_n C dX5_init_70 rfl 0 rfl rfl ?_
  refine ww_sipush C dX5_init_71 cS_800 ?_
  refine ww_newa (t := 0) (n := 800) (a0 := (800, .inl (fun _ => 0))) C dX5_init_74 (by decide) rfl q267 (fun cA => vp_cell_el cA _) (by decide) (by decide) (by decide) (fun b7 b7_n b7_z b7_g => ?_)
  refine ww_gen (fun h17 hE17 => ?_)
  have hm16_h17 : h17 m = some (.inr (4, [.int (nI 5), .int (nI 5), .int (nI 0), .ref b0, .int (nI 0), .ref b1, .ref b2, .ref b3, .ref b4, .ref b5, .ref b6, .int (nI 0), .null, .null, .null])) := by rw [hE17, up_n (ne_nw hm16 b7_n)]; exact hm16
  have N17_h17 : h17 b7 = some (.inl (gA (xG X) 0, (800, .inl (fun _ => 0)))) := by rw [hE17]; exact up_s
  rw [hEn16] at b7_n
  obtain ⟨H17, hC17, hD17⟩ := CH.ar (eb := .inl (gA (xG X) 0, (800, .inl (fun _ => 0)))) hC15 b7_n
  have hEn17 : h17 = up H17 m (.inr (4, [.int (nI 5), .int (nI 5), .int (nI 0), .ref b0, .int (nI 0), .ref b1, .ref b2, .ref b3, .ref b4, .ref b5, .ref b6, .int (nI 0), .null, .null, .null])) := by rw [hE17, hEn16]; exact hD17
  have hm17 : h17 m = some (.inr (4, [.int (nI 5), .int (nI 5), .int (nI 0), .ref b0, .int (nI 0), .ref b1, .ref b2, .ref b3, .ref b4, .ref b5, .ref b6, .int (nI 0), .null, .null, .null])) := by rw [hEn17]; exact up_s
  refine pf_X5_40_X5 (fs' := [.int (nI 5), .int (nI 5), .int (nI 0), .ref b0, .int (nI 0), .ref b1, .ref b2, .ref b3, .ref b4, .ref b5, .ref b6, .int (nI 0), .ref b7, .null, .null]) C dX5_init_76 hm17 rfl rfl (Nat.le_of_ble_eq_true rfl) rfl ?_
  refine ww_gen (fun h18 hE18 => ?_)
  have hm17_h18 : h18 m = some (.inr (4, [.int (nI 5), .int (nI 5), .int (nI 0), .ref b0, .int (nI 0), .ref b1, .ref b2, .ref b3, .ref b4, .ref b5, .ref b6, .int (nI 0), .ref b7, .null, .null])) := by rw [hE18]; exact up_s
  have hEn18 : h18 = up H17 m (.inr (4, [.int (nI 5), .int (nI 5), .int (nI 0), .ref b0, .int (nI 0), .ref b1, .ref b2, .ref b3, .ref b4, .ref b5, .ref b6, .int (nI 0), .ref b7, .null, .null])) := by rw [hE18, hEn17, up_up]
  have hm18 : h18 m = some (.inr (4, [.int (nI 5), .int (nI 5), .int (nI 0), .ref b0, .int (nI 0), .ref b1, .ref b2, .ref b3, .ref b4, .ref b5, .ref b6, .int (nI 0), .ref b7, .null, .null])) := by rw [hEn18]; exact up_s
  refine ww_aload_n C dX5_init_79 rfl 0 rfl rfl ?_
  refine ww_sipush C dX5_init_80 cS_800 ?_
  refine ww_newa (t := 0) (n := 800) (a0 := (800, .inl (fun _ => 0))) C dX5_init_83 (by decide) rfl q267 (fun cA => vp_cell_el cA _) (by decide) (by decide) (by decide) (fun b8 b8_n b8_z b8_g => ?_)
  refine ww_gen (fun h19 hE19 => ?_)
  have hm18_h19 : h19 m = some (.inr (4, [.int (nI 5), .int (nI 5), .int (nI 0), .ref b0, .int (nI 0), .ref b1, .ref b2, .ref b3, .ref b4, .ref b5, .ref b6, .int (nI 0), .ref b7, .null, .null])) := by rw [hE19, up_n (ne_nw hm18 b8_n)]; exact hm18
  have N19_h19 : h19 b8 = some (.inl (gA (xG X) 0, (800, .inl (fun _ => 0)))) := by rw [hE19]; exact up_s
  rw [hEn18] at b8_n
  obtain ⟨H19, hC19, hD19⟩ := CH.ar (eb := .inl (gA (xG X) 0, (800, .inl (fun _ => 0)))) hC17 b8_n
  have hEn19 : h19 = up H19 m (.inr (4, [.int (nI 5), .int (nI 5), .int (nI 0), .ref b0, .int (nI 0), .ref b1, .ref b2, .ref b3, .ref b4, .ref b5, .ref b6, .int (nI 0), .ref b7, .null, .null])) := by rw [hE19, hEn18]; exact hD19
  have hm19 : h19 m = some (.inr (4, [.int (nI 5), .int (nI 5), .int (nI 0), .ref b0, .int (nI 0), .ref b1, .ref b2, .ref b3, .ref b4, .ref b5, .ref b6, .int (nI 0), .ref b7, .null, .null])) := by rw [hEn19]; exact up_s
  refine pf_X5_43_X5 (fs' := [.int (nI 5), .int (nI 5), .int (nI 0), .ref b0, .int (nI 0), .ref b1, .ref b2, .ref b3, .ref b4, .ref b5, .ref b6, .int (nI 0), .ref b7, .ref b8, .null]) C dX5_init_85 hm19 rfl rfl (Nat.le_of_ble_eq_true rfl) rfl ?_
  refine ww_gen (fun h20 hE20 => ?_)
  have hm19_h20 : h20 m = some (.inr (4, [.int (nI 5), .int (nI 5), .int (nI 0), .ref b0, .int (nI 0), .ref b1, .ref b2, .ref b3, .ref b4, .ref b5, .ref b6, .int (nI 0), .ref b7, .ref b8, .null])) := by rw [hE20]; exact up_s
  have hEn20 : h20 = up H19 m (.inr (4, [.int (nI 5), .int (nI 5), .int (nI 0), .ref b0, .int (nI 0), .ref b1, .ref b2, .ref b3, .ref b4, .ref b5, .ref b6, .int (nI 0), .ref b7, .ref b8, .null])) := by rw [hE20, hEn19, up_up]
  have hm20 : h20 m = some (.inr (4, [.int (nI 5), .int (nI 5), .int (nI 0), .ref b0, .int (nI 0), .ref b1, .ref b2, .ref b3, .ref b4, .ref b5, .ref b6, .int (nI 0), .ref b7, .ref b8, .null])) := by rw [hEn20]; exact up_s
  refine ww_aload_n C dX5_init_88 rfl 0 rfl rfl ?_
  refine ww_sipush C dX5_init_89 cS_800 ?_
  refine ww_newa (t := 0) (n := 800) (a0 := (800, .inl (fun _ => 0))) C dX5_init_92 (by decide) rfl q267 (fun cA => vp_cell_el cA _) (by decide) (by decide) (by decide) (fun b9 b9_n b9_z b9_g => ?_)
  refine ww_gen (fun h21 hE21 => ?_)
  have hm20_h21 : h21 m = some (.inr (4, [.int (nI 5), .int (nI 5), .int (nI 0), .ref b0, .int (nI 0), .ref b1, .ref b2, .ref b3, .ref b4, .ref b5, .ref b6, .int (nI 0), .ref b7, .ref b8, .null])) := by rw [hE21, up_n (ne_nw hm20 b9_n)]; exact hm20
  have N21_h21 : h21 b9 = some (.inl (gA (xG X) 0, (800, .inl (fun _ => 0)))) := by rw [hE21]; exact up_s
  rw [hEn20] at b9_n
  obtain ⟨H21, hC21, hD21⟩ := CH.ar (eb := .inl (gA (xG X) 0, (800, .inl (fun _ => 0)))) hC19 b9_n
  have hEn21 : h21 = up H21 m (.inr (4, [.int (nI 5), .int (nI 5), .int (nI 0), .ref b0, .int (nI 0), .ref b1, .ref b2, .ref b3, .ref b4, .ref b5, .ref b6, .int (nI 0), .ref b7, .ref b8, .null])) := by rw [hE21, hEn20]; exact hD21
  have hm21 : h21 m = some (.inr (4, [.int (nI 5), .int (nI 5), .int (nI 0), .ref b0, .int (nI 0), .ref b1, .ref b2, .ref b3, .ref b4, .ref b5, .ref b6, .int (nI 0), .ref b7, .ref b8, .null])) := by rw [hEn21]; exact up_s
  refine pf_X5_46_X5 (fs' := [.int (nI 5), .int (nI 5), .int (nI 0), .ref b0, .int (nI 0), .ref b1, .ref b2, .ref b3, .ref b4, .ref b5, .ref b6, .int (nI 0), .ref b7, .ref b8, .ref b9]) C dX5_init_94 hm21 rfl rfl (Nat.le_of_ble_eq_true rfl) rfl ?_
  refine ww_gen (fun h22 hE22 => ?_)
  have hm21_h22 : h22 m = some (.inr (4, [.int (nI 5), .int (nI 5), .int (nI 0), .ref b0, .int (nI 0), .ref b1, .ref b2, .ref b3, .ref b4, .ref b5, .ref b6, .int (nI 0), .ref b7, .ref b8, .ref b9])) := by rw [hE22]; exact up_s
  have hEn22 : h22 = up H21 m (.inr (4, [.int (nI 5), .int (nI 5), .int (nI 0), .ref b0, .int (nI 0), .ref b1, .ref b2, .ref b3, .ref b4, .ref b5, .ref b6, .int (nI 0), .ref b7, .ref b8, .ref b9])) := by rw [hE22, hEn21, up_up]
  have hm22 : h22 m = some (.inr (4, [.int (nI 5), .int (nI 5), .int (nI 0), .ref b0, .int (nI 0), .ref b1, .ref b2, .ref b3, .ref b4, .ref b5, .ref b6, .int (nI 0), .ref b7, .ref b8, .ref b9])) := by rw [hEn22]; exact up_s
  exact ww_vret C dX5_init_97 ⟨rfl, b0, b1, b2, b3, b4, b5, b6, b7, b8, b9, H21, hC21, hEn22⟩
set_option maxHeartbeats 2000000 in
theorem ct_X4_init {l : Launch} {Γ : Gm} (hl : l.flags = flags0) (hΓ : GOK Γ) {z : ZR} {h : AH} {m : Nat} (hz : zle (cst Γ) z) (Hm : h m = some (.inr (3, [.int (nI 0), .null, .int (nI 0), .int (nI 0), .null, .null, .null, .null, .int (nI 0), .int (nI 0), .int (nI 0), .int (nI 0), .int (nI 0), .null, .null, .null, .null, .null, .null, .null, .null, .int (nI 0), .int (nI 0), .int (nI 0)]))) : Ct l Γ yX4_init cX4_init 1 none 5 40 20000 [.ref m] z h (Rn (fun z' h' => z' = z ∧ ∃ D M, D 0 = m ∧ Mx Γ h' D M ∧ MBd M 30 40 bd0 ∧ TdP M td0 ∧ M.1 31 = nI 0 ∧ M.1 1 = nI 0 ∧ M.1 2 = -1 ∧ (∀ i, mi i = true → D i = m ∨ h (D i) = none) ∧ ∀ q e, h q = some e → q ≠ m → h' q = some e)) := by
  refine Ct.of hl hΓ (by decide +kernel) (Nat.le_of_ble_eq_true rfl) (fun X e1 e2 C => ?_)
  subst e1; subst e2
  have C : Cx X cX4_init 1 "RingDominoModel" "<init>" none [] 5 := C
  show WW X (Rn (fun z' h' => z' = z ∧ ∃ D M, D 0 = m ∧ Mx (xG X) h' D M ∧ MBd M 30 40 bd0 ∧ TdP M td0 ∧ M.1 31 = nI 0 ∧ M.1 1 = nI 0 ∧ M.1 2 = -1 ∧ (∀ i, mi i = true → D i = m ∨ h (D i) = none) ∧ ∀ q e, h q = some e → q ≠ m → h' q = some e)) z h 40 20000 0 [(0, .ref m)] []
  obtain ⟨H0, hC0, hE0⟩ : ∃ H0, CH h [] H0 ∧ h = up H0 m (.inr (3, [.int (nI 0), .null, .int (nI 0), .int (nI 0), .null, .null, .null, .null, .int (nI 0), .int (nI 0), .int (nI 0), .int (nI 0), .int (nI 0), .null, .null, .null, .null, .null, .null, .null, .null, .int (nI 0), .int (nI 0), .int (nI 0)])) := ⟨h, rfl, (up_id Hm).symm⟩
  have hm0 : h m = some (.inr (3, [.int (nI 0), .null, .int (nI 0), .int (nI 0), .null, .null, .null, .null, .int (nI 0), .int (nI 0), .int (nI 0), .int (nI 0), .int (nI 0), .null, .null, .null, .null, .null, .null, .null, .null, .int (nI 0), .int (nI 0), .int (nI 0)])) := by rw [hE0]; exact up_s
  refine ww_aload_n C dX4_init_0 rfl 0 rfl rfl ?_
  refine ww_objInit C q2723 q172 q173 dX4_init_1 (by decide) (Nat.le_of_ble_eq_true rfl) ?_
  refine ww_aload_n C dX4_init_4 rfl 0 rfl rfl ?_
  refine ww_sipush C dX4_init_5 cS_2000 ?_
  refine ww_newa (t := 0) (n := 2000) (a0 := (2000, .inl (fun _ => 0))) C dX4_init_8 (by decide) rfl q267 (fun cA => vp_cell_el cA _) (by decide) (by decide) (by decide) (fun d1 d1_n d1_z d1_g => ?_)
  refine ww_gen (fun h1 hE1 => ?_)
  have hm0_h1 : h1 m = some (.inr (3, [.int (nI 0), .null, .int (nI 0), .int (nI 0), .null, .null, .null, .null, .int (nI 0), .int (nI 0), .int (nI 0), .int (nI 0), .int (nI 0), .null, .null, .null, .null, .null, .null, .null, .null, .int (nI 0), .int (nI 0), .int (nI 0)])) := by rw [hE1, up_n (ne_nw hm0 d1_n)]; exact hm0
  have N1_h1 : h1 d1 = some (.inl (gA (xG X) 0, (2000, .inl (fun _ => 0)))) := by rw [hE1]; exact up_s
  rw [hE0] at d1_n
  obtain ⟨H1, hC1, hD1⟩ := CH.ar (eb := .inl (gA (xG X) 0, (2000, .inl (fun _ => 0)))) hC0 d1_n
  have hEn1 : h1 = up H1 m (.inr (3, [.int (nI 0), .null, .int (nI 0), .int (nI 0), .null, .null, .null, .null, .int (nI 0), .int (nI 0), .int (nI 0), .int (nI 0), .int (nI 0), .null, .null, .null, .null, .null, .null, .null, .null, .int (nI 0), .int (nI 0), .int (nI 0)])) := by rw [hE1, hE0]; exact hD1
  have hm1 : h1 m = some (.inr (3, [.int (nI 0), .null, .int (nI 0), .int (nI 0), .null, .null, .null, .null, .int (nI 0), .int (nI 0), .int (nI 0), .int (nI 0), .int (nI 0), .null, .null, .null, .null, .null, .null, .null, .null, .int (nI 0), .int (nI 0), .int (nI 0)])) := by rw [hEn1]; exact up_s
  refine pf_X4_9_X4 (fs' := [.int (nI 0), .ref d1, .int (nI 0), .int (nI 0), .null, .null, .null, .null, .int (nI 0), .int (nI 0), .int (nI 0), .int (nI 0), .int (nI 0), .null, .null, .null, .null, .null, .null, .null, .null, .int (nI 0), .int (nI 0), .int (nI 0)]) C dX4_init_10 hm1 rfl rfl (Nat.le_of_ble_eq_true rfl) rfl ?_
  refine ww_gen (fun h2 hE2 => ?_)
  have hm1_h2 : h2 m = some (.inr (3, [.int (nI 0), .ref d1, .int (nI 0), .int (nI 0), .null, .null, .null, .null, .int (nI 0), .int (nI 0), .int (nI 0), .int (nI 0), .int (nI 0), .null, .null, .null, .null, .null, .null, .null, .null, .int (nI 0), .int (nI 0), .int (nI 0)])) := by rw [hE2]; exact up_s
  have hEn2 : h2 = up H1 m (.inr (3, [.int (nI 0), .ref d1, .int (nI 0), .int (nI 0), .null, .null, .null, .null, .int (nI 0), .int (nI 0), .int (nI 0), .int (nI 0), .int (nI 0), .null, .null, .null, .null, .null, .null, .null, .null, .int (nI 0), .int (nI 0), .int (nI 0)])) := by rw [hE2, hEn1, up_up]
  have hm2 : h2 m = some (.inr (3, [.int (nI 0), .ref d1, .int (nI 0), .int (nI 0), .null, .null, .null, .null, .int (nI 0), .int (nI 0), .int (nI 0), .int (nI 0), .int (nI 0), .null, .null, .null, .null, .null, .null, .null, .null, .int (nI 0), .int (nI 0), .int (nI 0)])) := by rw [hEn2]; exact up_s
  refine ww_aload_n C dX4_init_13 rfl 0 rfl rfl ?_
  refine ww_iconst C dX4_init_14 cI_m1 ?_
  refine pf_X4_13_X4 (fs' := [.int (nI 0), .ref d1, .int (nI 0), .int (-1), .null, .null, .null, .null, .int (nI 0), .int (nI 0), .int (nI 0), .int (nI 0), .int (nI 0), .null, .null, .null, .null, .null, .null, .null, .null, .int (nI 0), .int (nI 0), .int (nI 0)]) C dX4_init_15 hm2 rfl rfl (Nat.le_of_ble_eq_true rfl) rfl ?_
  refine ww_gen (fun h3 hE3 => ?_)
  have hm2_h3 : h3 m = some (.inr (3, [.int (nI 0), .ref d1, .int (nI 0), .int (-1), .null, .null, .null, .null, .int (nI 0), .int (nI 0), .int (nI 0), .int (nI 0), .int (nI 0), .null, .null, .null, .null, .null, .null, .null, .null, .int (nI 0), .int (nI 0), .int (nI 0)])) := by rw [hE3]; exact up_s
  have hEn3 : h3 = up H1 m (.inr (3, [.int (nI 0), .ref d1, .int (nI 0), .int (-1), .null, .null, .null, .null, .int (nI 0), .int (nI 0), .int (nI 0), .int (nI 0), .int (nI 0), .null, .null, .null, .null, .null, .null, .null, .null, .int (nI 0), .int (nI 0), .int (nI 0)])) := by rw [hE3, hEn2, up_up]
  have hm3 : h3 m = some (.inr (3, [.int (nI 0), .ref d1, .int (nI 0), .int (-1), .null, .null, .null, .null, .int (nI 0), .int (nI 0), .int (nI 0), .int (nI 0), .int (nI 0), .null, .null, .null, .null, .null, .null, .null, .null, .int (nI 0), .int (nI 0), .int (nI 0)])) := by rw [hEn3]; exact up_s
  refine ww_aload_n C dX4_init_18 rfl 0 rfl rfl ?_
  refine ww_sipush C dX4_init_19 cS_402 ?_
  refine ww_newa (t := 0) (n := 402) (a0 := (402, .inl (fun _ => 0))) C dX4_init_22 (by decide) rfl q267 (fun cA => vp_cell_el cA _) (by decide) (by decide) (by decide) (fun d2 d2_n d2_z d2_g => ?_)
  refine ww_gen (fun h4 hE4 => ?_)
  have hm3_h4 : h4 m = some (.inr (3, [.int (nI 0), .ref d1, .int (nI 0), .int (-1), .null, .null, .null, .null, .int (nI 0), .int (nI 0), .int (nI 0), .int (nI 0), .int (nI 0), .null, .null, .null, .null, .null, .null, .null, .null, .int (nI 0), .int (nI 0), .int (nI 0)])) := by rw [hE4, up_n (ne_nw hm3 d2_n)]; exact hm3
  have N4_h4 : h4 d2 = some (.inl (gA (xG X) 0, (402, .inl (fun _ => 0)))) := by rw [hE4]; exact up_s
  rw [hEn3] at d2_n
  obtain ⟨H4, hC4, hD4⟩ := CH.ar (eb := .inl (gA (xG X) 0, (402, .inl (fun _ => 0)))) hC1 d2_n
  have hEn4 : h4 = up H4 m (.inr (3, [.int (nI 0), .ref d1, .int (nI 0), .int (-1), .null, .null, .null, .null, .int (nI 0), .int (nI 0), .int (nI 0), .int (nI 0), .int (nI 0), .null, .null, .null, .null, .null, .null, .null, .null, .int (nI 0), .int (nI 0), .int (nI 0)])) := by rw [hE4, hEn3]; exact hD4
  have hm4 : h4 m = some (.inr (3, [.int (nI 0), .ref d1, .int (nI 0), .int (-1), .null, .null, .null, .null, .int (nI 0), .int (nI 0), .int (nI 0), .int (nI 0), .int (nI 0), .null, .null, .null, .null, .null, .null, .null, .null, .int (nI 0), .int (nI 0), .int (nI 0)])) := by rw [hEn4]; exact up_s
  refine pf_X4_17_X4 (fs' := [.int (nI 0), .ref d1, .int (nI 0), .int (-1), .ref d2, .null, .null, .null, .int (nI 0), .int (nI 0), .int (nI 0), .int (nI 0), .int (nI 0), .null, .null, .null, .null, .null, .null, .null, .null, .int (nI 0), .int (nI 0), .int (nI 0)]) C dX4_init_24 hm4 rfl rfl (Nat.le_of_ble_eq_true rfl) rfl ?_
  refine ww_gen (fun h5 hE5 => ?_)
  have hm4_h5 : h5 m = some (.inr (3, [.int (nI 0), .ref d1, .int (nI 0), .int (-1), .ref d2, .null, .null, .null, .int (nI 0), .int (nI 0), .int (nI 0), .int (nI 0), .int (nI 0), .null, .null, .null, .null, .null, .null, .null, .null, .int (nI 0), .int (nI 0), .int (nI 0)])) := by rw [hE5]; exact up_s
  have hEn5 : h5 = up H4 m (.inr (3, [.int (nI 0), .ref d1, .int (nI 0), .int (-1), .ref d2, .null, .null, .null, .int (nI 0), .int (nI 0), .int (nI 0), .int (nI 0), .int (nI 0), .null, .null, .null, .null, .null, .null, .null, .null, .int (nI 0), .int (nI 0), .int (nI 0)])) := by rw [hE5, hEn4, up_up]
  have hm5 : h5 m = some (.inr (3, [.int (nI 0), .ref d1, .int (nI 0), .int (-1), .ref d2, .null, .null, .null, .int (nI 0), .int (nI 0), .int (nI 0), .int (nI 0), .int (nI 0), .null, .null, .null, .null, .null, .null, .null, .null, .int (nI 0), .int (nI 0), .int (nI 0)])) := by rw [hEn5]; exact up_s
  refine ww_aload_n C dX4_init_27 rfl 0 rfl rfl ?_
  refine ww_sipush C dX4_init_28 cS_402 ?_
  refine ww_newa (t := 0) (n := 402) (a0 := (402, .inl (fun _ => 0))) C dX4_init_31 (by decide) rfl q267 (fun cA => vp_cell_el cA _) (by decide) (by decide) (by decide) (fun d3 d3_n d3_z d3_g => ?_)
  refine ww_gen (fun h6 hE6 => ?_)
  have hm5_h6 : h6 m = some (.inr (3, [.int (nI 0), .ref d1, .int (nI 0), .int (-1), .ref d2, .null, .null, .null, .int (nI 0), .int (nI 0), .int (nI 0), .int (nI 0), .int (nI 0), .null, .null, .null, .null, .null, .null, .null, .null, .int (nI 0), .int (nI 0), .int (nI 0)])) := by rw [hE6, up_n (ne_nw hm5 d3_n)]; exact hm5
  have N6_h6 : h6 d3 = some (.inl (gA (xG X) 0, (402, .inl (fun _ => 0)))) := by rw [hE6]; exact up_s
  rw [hEn5] at d3_n
  obtain ⟨H6, hC6, hD6⟩ := CH.ar (eb := .inl (gA (xG X) 0, (402, .inl (fun _ => 0)))) hC4 d3_n
  have hEn6 : h6 = up H6 m (.inr (3, [.int (nI 0), .ref d1, .int (nI 0), .int (-1), .ref d2, .null, .null, .null, .int (nI 0), .int (nI 0), .int (nI 0), .int (nI 0), .int (nI 0), .null, .null, .null, .null, .null, .null, .null, .null, .int (nI 0), .int (nI 0), .int (nI 0)])) := by rw [hE6, hEn5]; exact hD6
  have hm6 : h6 m = some (.inr (3, [.int (nI 0), .ref d1, .int (nI 0), .int (-1), .ref d2, .null, .null, .null, .int (nI 0), .int (nI 0), .int (nI 0), .int (nI 0), .int (nI 0), .null, .null, .null, .null, .null, .null, .null, .null, .int (nI 0), .int (nI 0), .int (nI 0)])) := by rw [hEn6]; exact up_s
  refine pf_X4_20_X4 (fs' := [.int (nI 0), .ref d1, .int (nI 0), .int (-1), .ref d2, .ref d3, .null, .null, .int (nI 0), .int (nI 0), .int (nI 0), .int (nI 0), .int (nI 0), .null, .null, .null, .null, .null, .null, .null, .null, .int (nI 0), .int (nI 0), .int (nI 0)]) C dX4_init_33 hm6 rfl rfl (Nat.le_of_ble_eq_true rfl) rfl ?_
  refine ww_gen (fun h7 hE7 => ?_)
  have hm6_h7 : h7 m = some (.inr (3, [.int (nI 0), .ref d1, .int (nI 0), .int (-1), .ref d2, .ref d3, .null, .null, .int (nI 0), .int (nI 0), .int (nI 0), .int (nI 0), .int (nI 0), .null, .null, .null, .null, .null, .null, .null, .null, .int (nI 0), .int (nI 0), .int (nI 0)])) := by rw [hE7]; exact up_s
  have hEn7 : h7 = up H6 m (.inr (3, [.int (nI 0), .ref d1, .int (nI 0), .int (-1), .ref d2, .ref d3, .null, .null, .int (nI 0), .int (nI 0), .int (nI 0), .int (nI 0), .int (nI 0), .null, .null, .null, .null, .null, .null, .null, .null, .int (nI 0), .int (nI 0), .int (nI 0)])) := by rw [hE7, hEn6, up_up]
  have hm7 : h7 m = some (.inr (3, [.int (nI 0), .ref d1, .int (nI 0), .int (-1), .ref d2, .ref d3, .null, .null, .int (nI 0), .int (nI 0), .int (nI 0), .int (nI 0), .int (nI 0), .null, .null, .null, .null, .null, .null, .null, .null, .int (nI 0), .int (nI 0), .int (nI 0)])) := by rw [hEn7]; exact up_s
  refine ww_aload_n C dX4_init_36 rfl 0 rfl rfl ?_
  refine ww_sipush C dX4_init_37 cS_402 ?_
  refine ww_newa (t := 0) (n := 402) (a0 := (402, .inl (fun _ => 0))) C dX4_init_40 (by decide) rfl q267 (fun cA => vp_cell_el cA _) (by decide) (by decide) (by decide) (fun d4 d4_n d4_z d4_g => ?_)
  refine ww_gen (fun h8 hE8 => ?_)
  have hm7_h8 : h8 m = some (.inr (3, [.int (nI 0), .ref d1, .int (nI 0), .int (-1), .ref d2, .ref d3, .null, .null, .int (nI 0), .int (nI 0), .int (nI 0), .int (nI 0), .int (nI 0), .null, .null, .null, .null, .null, .null, .null, .null, .int (nI 0), .int (nI 0), .int (nI 0)])) := by rw [hE8, up_n (ne_nw hm7 d4_n)]; exact hm7
  have N8_h8 : h8 d4 = some (.inl (gA (xG X) 0, (402, .inl (fun _ => 0)))) := by rw [hE8]; exact up_s
  rw [hEn7] at d4_n
  obtain ⟨H8, hC8, hD8⟩ := CH.ar (eb := .inl (gA (xG X) 0, (402, .inl (fun _ => 0)))) hC6 d4_n
  have hEn8 : h8 = up H8 m (.inr (3, [.int (nI 0), .ref d1, .int (nI 0), .int (-1), .ref d2, .ref d3, .null, .null, .int (nI 0), .int (nI 0), .int (nI 0), .int (nI 0), .int (nI 0), .null, .null, .null, .null, .null, .null, .null, .null, .int (nI 0), .int (nI 0), .int (nI 0)])) := by rw [hE8, hEn7]; exact hD8
  have hm8 : h8 m = some (.inr (3, [.int (nI 0), .ref d1, .int (nI 0), .int (-1), .ref d2, .ref d3, .null, .null, .int (nI 0), .int (nI 0), .int (nI 0), .int (nI 0), .int (nI 0), .null, .null, .null, .null, .null, .null, .null, .null, .int (nI 0), .int (nI 0), .int (nI 0)])) := by rw [hEn8]; exact up_s
  refine pf_X4_23_X4 (fs' := [.int (nI 0), .ref d1, .int (nI 0), .int (-1), .ref d2, .ref d3, .ref d4, .null, .int (nI 0), .int (nI 0), .int (nI 0), .int (nI 0), .int (nI 0), .null, .null, .null, .null, .null, .null, .null, .null, .int (nI 0), .int (nI 0), .int (nI 0)]) C dX4_init_42 hm8 rfl rfl (Nat.le_of_ble_eq_true rfl) rfl ?_
  refine ww_gen (fun h9 hE9 => ?_)
  have hm8_h9 : h9 m = some (.inr (3, [.int (nI 0), .ref d1, .int (nI 0), .int (-1), .ref d2, .ref d3, .ref d4, .null, .int (nI 0), .int (nI 0), .int (nI 0), .int (nI 0), .int (nI 0), .null, .null, .null, .null, .null, .null, .null, .null, .int (nI 0), .int (nI 0), .int (nI 0)])) := by rw [hE9]; exact up_s
  have hEn9 : h9 = up H8 m (.inr (3, [.int (nI 0), .ref d1, .int (nI 0), .int (-1), .ref d2, .ref d3, .ref d4, .null, .int (nI 0), .int (nI 0), .int (nI 0), .int (nI 0), .int (nI 0), .null, .null, .null, .null, .null, .null, .null, .null, .int (nI 0), .int (nI 0), .int (nI 0)])) := by rw [hE9, hEn8, up_up]
  have hm9 : h9 m = some (.inr (3, [.int (nI 0), .ref d1, .int (nI 0), .int (-1), .ref d2, .ref d3, .ref d4, .null, .int (nI 0), .int (nI 0), .int (nI 0), .int (nI 0), .int (nI 0), .null, .null, .null, .null, .null, .null, .null, .null, .int (nI 0), .int (nI 0), .int (nI 0)])) := by rw [hEn9]; exact up_s
  refine ww_aload_n C dX4_init_45 rfl 0 rfl rfl ?_
  refine ww_sipush C dX4_init_46 cS_402 ?_
  refine ww_newa (t := 0) (n := 402) (a0 := (402, .inl (fun _ => 0))) C dX4_init_49 (by decide) rfl q267 (fun cA => vp_cell_el cA _) (by decide) (by decide) (by decide) (fun d5 d5_n d5_z d5_g => ?_)
  refine ww_gen (fun h10 hE10 => ?_)
  have hm9_h10 : h10 m = some (.inr (3, [.int (nI 0), .ref d1, .int (nI 0), .int (-1), .ref d2, .ref d3, .ref d4, .null, .int (nI 0), .int (nI 0), .int (nI 0), .int (nI 0), .int (nI 0), .null, .null, .null, .null, .null, .null, .null, .null, .int (nI 0), .int (nI 0), .int (nI 0)])) := by rw [hE10, up_n (ne_nw hm9 d5_n)]; exact hm9
  have N10_h10 : h10 d5 = some (.inl (gA (xG X) 0, (402, .inl (fun _ => 0)))) := by rw [hE10]; exact up_s
  rw [hEn9] at d5_n
  obtain ⟨H10, hC10, hD10⟩ := CH.ar (eb := .inl (gA (xG X) 0, (402, .inl (fun _ => 0)))) hC8 d5_n
  have hEn10 : h10 = up H10 m (.inr (3, [.int (nI 0), .ref d1, .int (nI 0), .int (-1), .ref d2, .ref d3, .ref d4, .null, .int (nI 0), .int (nI 0), .int (nI 0), .int (nI 0), .int (nI 0), .null, .null, .null, .null, .null, .null, .null, .null, .int (nI 0), .int (nI 0), .int (nI 0)])) := by rw [hE10, hEn9]; exact hD10
  have hm10 : h10 m = some (.inr (3, [.int (nI 0), .ref d1, .int (nI 0), .int (-1), .ref d2, .ref d3, .ref d4, .null, .int (nI 0), .int (nI 0), .int (nI 0), .int (nI 0), .int (nI 0), .null, .null, .null, .null, .null, .null, .null, .null, .int (nI 0), .int (nI 0), .int (nI 0)])) := by rw [hEn10]; exact up_s
  refine pf_X4_26_X4 (fs' := [.int (nI 0), .ref d1, .int (nI 0), .int (-1), .ref d2, .ref d3, .ref d4, .ref d5, .int (nI 0), .int (nI 0), .int (nI 0), .int (nI 0), .int (nI 0), .null, .null, .null, .null, .null, .null, .null, .null, .int (nI 0), .int (nI 0), .int (nI 0)]) C dX4_init_51 hm10 rfl rfl (Nat.le_of_ble_eq_true rfl) rfl ?_
  refine ww_gen (fun h11 hE11 => ?_)
  have hm10_h11 : h11 m = some (.inr (3, [.int (nI 0), .ref d1, .int (nI 0), .int (-1), .ref d2, .ref d3, .ref d4, .ref d5, .int (nI 0), .int (nI 0), .int (nI 0), .int (nI 0), .int (nI 0), .null, .null, .null, .null, .null, .null, .null, .null, .int (nI 0), .int (nI 0), .int (nI 0)])) := by rw [hE11]; exact up_s
  have hEn11 : h11 = up H10 m (.inr (3, [.int (nI 0), .ref d1, .int (nI 0), .int (-1), .ref d2, .ref d3, .ref d4, .ref d5, .int (nI 0), .int (nI 0), .int (nI 0), .int (nI 0), .int (nI 0), .null, .null, .null, .null, .null, .null, .null, .null, .int (nI 0), .int (nI 0), .int (nI 0)])) := by rw [hE11, hEn10, up_up]
  have hm11 : h11 m = some (.inr (3, [.int (nI 0), .ref d1, .int (nI 0), .int (-1), .ref d2, .ref d3, .ref d4, .ref d5, .int (nI 0), .int (nI 0), .int (nI 0), .int (nI 0), .int (nI 0), .null, .null, .null, .null, .null, .null, .null, .null, .int (nI 0), .int (nI 0), .int (nI 0)])) := by rw [hEn11]; exact up_s
  refine ww_aload_n C dX4_init_54 rfl 0 rfl rfl ?_
  refine ww_bipush C dX4_init_55 cB_16 ?_
  refine ww_newa (t := 0) (n := 16) (a0 := (16, .inl (fun _ => 0))) C dX4_init_57 (by decide) rfl q267 (fun cA => vp_cell_el cA _) (by decide) (by decide) (by decide) (fun d6 d6_n d6_z d6_g => ?_)
  refine ww_gen (fun h12 hE12 => ?_)
  have hm11_h12 : h12 m = some (.inr (3, [.int (nI 0), .ref d1, .int (nI 0), .int (-1), .ref d2, .ref d3, .ref d4, .ref d5, .int (nI 0), .int (nI 0), .int (nI 0), .int (nI 0), .int (nI 0), .null, .null, .null, .null, .null, .null, .null, .null, .int (nI 0), .int (nI 0), .int (nI 0)])) := by rw [hE12, up_n (ne_nw hm11 d6_n)]; exact hm11
  have N12_h12 : h12 d6 = some (.inl (gA (xG X) 0, (16, .inl (fun _ => 0)))) := by rw [hE12]; exact up_s
  rw [hEn11] at d6_n
  obtain ⟨H12, hC12, hD12⟩ := CH.ar (eb := .inl (gA (xG X) 0, (16, .inl (fun _ => 0)))) hC10 d6_n
  have hEn12 : h12 = up H12 m (.inr (3, [.int (nI 0), .ref d1, .int (nI 0), .int (-1), .ref d2, .ref d3, .ref d4, .ref d5, .int (nI 0), .int (nI 0), .int (nI 0), .int (nI 0), .int (nI 0), .null, .null, .null, .null, .null, .null, .null, .null, .int (nI 0), .int (nI 0), .int (nI 0)])) := by rw [hE12, hEn11]; exact hD12
  have hm12 : h12 m = some (.inr (3, [.int (nI 0), .ref d1, .int (nI 0), .int (-1), .ref d2, .ref d3, .ref d4, .ref d5, .int (nI 0), .int (nI 0), .int (nI 0), .int (nI 0), .int (nI 0), .null, .null, .null, .null, .null, .null, .null, .null, .int (nI 0), .int (nI 0), .int (nI 0)])) := by rw [hEn12]; exact up_s
  refine pf_X4_29_X4 (fs' := [.int (nI 0), .ref d1, .int (nI 0), .int (-1), .ref d2, .ref d3, .ref d4, .ref d5, .int (nI 0), .int (nI 0), .int (nI 0), .int (nI 0), .int (nI 0), .ref d6, .null, .null, .null, .null, .null, .null, .null, .int (nI 0), .int (nI 0), .int (nI 0)]) C dX4_init_59 hm12 rfl rfl (Nat.le_of_ble_eq_true rfl) rfl ?_
  refine ww_gen (fun h13 hE13 => ?_)
  have hm12_h13 : h13 m = some (.inr (3, [.int (nI 0), .ref d1, .int (nI 0), .int (-1), .ref d2, .ref d3, .ref d4, .ref d5, .int (nI 0), .int (nI 0), .int (nI 0), .int (nI 0), .int (nI 0), .ref d6, .null, .null, .null, .null, .null, .null, .null, .int (nI 0), .int (nI 0), .int (nI 0)])) := by rw [hE13]; exact up_s
  have hEn13 : h13 = up H12 m (.inr (3, [.int (nI 0), .ref d1, .int (nI 0), .int (-1), .ref d2, .ref d3, .ref d4, .ref d5, .int (nI 0), .int (nI 0), .int (nI 0), .int (nI 0), .int (nI 0), .ref d6, .null, .null, .null, .null, .null, .null, .null, .int (nI 0), .int (nI 0), .int (nI 0)])) := by rw [hE13, hEn12, up_up]
  have hm13 : h13 m = some (.inr (3, [.int (nI 0), .ref d1, .int (nI 0), .int (-1), .ref d2, .ref d3, .ref d4, .ref d5, .int (nI 0), .int (nI 0), .int (nI 0), .int (nI 0), .int (nI 0), .ref d6, .null, .null, .null, .null, .null, .null, .null, .int (nI 0), .int (nI 0), .int (nI 0)])) := by rw [hEn13]; exact up_s
  refine ww_aload_n C dX4_init_62 rfl 0 rfl rfl ?_
  refine nw_X4_32 C dX4_init_63 (by decide) (by decide) (fun d7 d7_n d7_z d7_g => ?_)
  refine ww_gen (fun h14 hE14 => ?_)
  have hm13_h14 : h14 m = some (.inr (3, [.int (nI 0), .ref d1, .int (nI 0), .int (-1), .ref d2, .ref d3, .ref d4, .ref d5, .int (nI 0), .int (nI 0), .int (nI 0), .int (nI 0), .int (nI 0), .ref d6, .null, .null, .null, .null, .null, .null, .null, .int (nI 0), .int (nI 0), .int (nI 0)])) := by rw [hE14, up_n (ne_nw hm13 d7_n)]; exact hm13
  have N14_h14 : h14 d7 = some (.inr (4, [.int (nI 0), .int (nI 0), .int (nI 0), .null, .int (nI 0), .null, .null, .null, .null, .null, .null, .int (nI 0), .null, .null, .null])) := by rw [hE14]; exact up_s
  refine ww_dup C dX4_init_66 rfl ?_
  rw [hEn13] at d7_n
  refine ci_X4_34_q (As := []) (rest := [.ref d7, .ref m]) C dX4_init_67 (ct_X5_init (Cx.fl C) (Cx.ok C) N14_h14) rfl rfl (Nat.le_of_ble_eq_true rfl) (by decide) (by omega) (by omega) (fun z9 j14 q9 => ?_)
  obtain ⟨hq, d7_b0, d7_b1, d7_b2, d7_b3, d7_b4, d7_b5, d7_b6, d7_b7, d7_b8, d7_b9, G14, hG14, hj14⟩ := q9; replace hq := hq.symm; subst hq
  rw [hE14, hEn13] at hG14
  obtain ⟨H14, hC14, hD14⟩ := CH.ob (ex' := .inr (4, [.int (nI 5), .int (nI 5), .int (nI 0), .ref d7_b0, .int (nI 0), .ref d7_b1, .ref d7_b2, .ref d7_b3, .ref d7_b4, .ref d7_b5, .ref d7_b6, .int (nI 0), .ref d7_b7, .ref d7_b8, .ref d7_b9])) hC12 d7_n hG14
  have hEn14 : j14 = up H14 m (.inr (3, [.int (nI 0), .ref d1, .int (nI 0), .int (-1), .ref d2, .ref d3, .ref d4, .ref d5, .int (nI 0), .int (nI 0), .int (nI 0), .int (nI 0), .int (nI 0), .ref d6, .null, .null, .null, .null, .null, .null, .null, .int (nI 0), .int (nI 0), .int (nI 0)])) := hj14.trans hD14
  have hm14 : j14 m = some (.inr (3, [.int (nI 0), .ref d1, .int (nI 0), .int (-1), .ref d2, .ref d3, .ref d4, .ref d5, .int (nI 0), .int (nI 0), .int (nI 0), .int (nI 0), .int (nI 0), .ref d6, .null, .null, .null, .null, .null, .null, .null, .int (nI 0), .int (nI 0), .int (nI 0)])) := by rw [hEn14]; exact up_s
  refine pf_X4_35_X4 (fs' := [.int (nI 0), .ref d1, .int (nI 0), .int (-1), .ref d2, .ref d3, .ref d4, .ref d5, .int (nI 0), .int (nI 0), .int (nI 0), .int (nI 0), .int (nI 0), .ref d6, .ref d7, .null, .null, .null, .null, .null, .null, .int (nI 0), .int (nI 0), .int (nI 0)]) C dX4_init_70 hm14 rfl rfl (Nat.le_of_ble_eq_true rfl) rfl ?_
  refine ww_gen (fun h15 hE15 => ?_)
  have hm14_h15 : h15 m = some (.inr (3, [.int (nI 0), .ref d1, .int (nI 0), .int (-1), .ref d2, .ref d3, .ref d4, .ref d5, .int (nI 0), .int (nI 0), .int (nI 0), .int (nI 0), .int (nI 0), .ref d6, .ref d7, .null, .null, .null, .null, .null, .null, .int (nI 0), .int (nI 0), .int (nI 0)])) := by rw [hE15]; exact up_s
  have hEn15 : h15 = up H14 m (.inr (3, [.int (nI 0), .ref d1, .int (nI 0), .int (-1), .ref d2, .ref d3, .ref d4, .ref d5, .int (nI 0), .int (nI 0), .int (nI 0), .int (nI 0), .int (nI 0), .ref d6, .ref d7, .null, .null, .null, .null, .null, .null, .int (nI 0), .int (nI 0), .int (nI 0)])) := by rw [hE15, hEn14, up_up]
  have hm15 : h15 m = some (.inr (3, [.int (nI 0), .ref d1, .int (nI 0), .int (-1), .ref d2, .ref d3, .ref d4, .ref d5, .int (nI 0), .int (nI 0), .int (nI 0), .int (nI 0), .int (nI 0), .ref d6, .ref d7, .null, .null, .null, .null, .null, .null, .int (nI 0), .int (nI 0), .int (nI 0)])) := by rw [hEn15]; exact up_s
  refine ww_aload_n C dX4_init_73 rfl 0 rfl rfl ?_
  refine nw_X4_32 C dX4_init_74 (by decide) (by decide) (fun d8 d8_n d8_z d8_g => ?_)
  refine ww_gen (fun h16 hE16 => ?_)
  have hm15_h16 : h16 m = some (.inr (3, [.int (nI 0), .ref d1, .int (nI 0), .int (-1), .ref d2, .ref d3, .ref d4, .ref d5, .int (nI 0), .int (nI 0), .int (nI 0), .int (nI 0), .int (nI 0), .ref d6, .ref d7, .null, .null, .null, .null, .null, .null, .int (nI 0), .int (nI 0), .int (nI 0)])) := by rw [hE16, up_n (ne_nw hm15 d8_n)]; exact hm15
  have N16_h16 : h16 d8 = some (.inr (4, [.int (nI 0), .int (nI 0), .int (nI 0), .null, .int (nI 0), .null, .null, .null, .null, .null, .null, .int (nI 0), .null, .null, .null])) := by rw [hE16]; exact up_s
  refine ww_dup C dX4_init_77 rfl ?_
  rw [hEn15] at d8_n
  refine ci_X4_34_q (As := []) (rest := [.ref d8, .ref m]) C dX4_init_78 (ct_X5_init (Cx.fl C) (Cx.ok C) N16_h16) rfl rfl (Nat.le_of_ble_eq_true rfl) (by decide) (by omega) (by omega) (fun z9 j16 q9 => ?_)
  obtain ⟨hq, d8_b0, d8_b1, d8_b2, d8_b3, d8_b4, d8_b5, d8_b6, d8_b7, d8_b8, d8_b9, G16, hG16, hj16⟩ := q9; replace hq := hq.symm; subst hq
  rw [hE16, hEn15] at hG16
  obtain ⟨H16, hC16, hD16⟩ := CH.ob (ex' := .inr (4, [.int (nI 5), .int (nI 5), .int (nI 0), .ref d8_b0, .int (nI 0), .ref d8_b1, .ref d8_b2, .ref d8_b3, .ref d8_b4, .ref d8_b5, .ref d8_b6, .int (nI 0), .ref d8_b7, .ref d8_b8, .ref d8_b9])) hC14 d8_n hG16
  have hEn16 : j16 = up H16 m (.inr (3, [.int (nI 0), .ref d1, .int (nI 0), .int (-1), .ref d2, .ref d3, .ref d4, .ref d5, .int (nI 0), .int (nI 0), .int (nI 0), .int (nI 0), .int (nI 0), .ref d6, .ref d7, .null, .null, .null, .null, .null, .null, .int (nI 0), .int (nI 0), .int (nI 0)])) := hj16.trans hD16
  have hm16 : j16 m = some (.inr (3, [.int (nI 0), .ref d1, .int (nI 0), .int (-1), .ref d2, .ref d3, .ref d4, .ref d5, .int (nI 0), .int (nI 0), .int (nI 0), .int (nI 0), .int (nI 0), .ref d6, .ref d7, .null, .null, .null, .null, .null, .null, .int (nI 0), .int (nI 0), .int (nI 0)])) := by rw [hEn16]; exact up_s
  refine pf_X4_39_X4 (fs' := [.int (nI 0), .ref d1, .int (nI 0), .int (-1), .ref d2, .ref d3, .ref d4, .ref d5, .int (nI 0), .int (nI 0), .int (nI 0), .int (nI 0), .int (nI 0), .ref d6, .ref d7, .ref d8, .null, .null, .null, .null, .null, .int (nI 0), .int (nI 0), .int (nI 0)]) C dX4_init_81 hm16 rfl rfl (Nat.le_of_ble_eq_true rfl) rfl ?_
  refine ww_gen (fun h17 hE17 => ?_)
  have hm16_h17 : h17 m = some (.inr (3, [.int (nI 0), .ref d1, .int (nI 0), .int (-1), .ref d2, .ref d3, .ref d4, .ref d5, .int (nI 0), .int (nI 0), .int (nI 0), .int (nI 0), .int (nI 0), .ref d6, .ref d7, .ref d8, .null, .null, .null, .null, .null, .int (nI 0), .int (nI 0), .int (nI 0)])) := by rw [hE17]; exact up_s
  have hEn17 : h17 = up H16 m (.inr (3, [.int (nI 0), .ref d1, .int (nI 0), .int (-1), .ref d2, .ref d3, .ref d4, .ref d5, .int (nI 0), .int (nI 0), .int (nI 0), .int (nI 0), .int (nI 0), .ref d6, .ref d7, .ref d8, .null, .null, .null, .null, .null, .int (nI 0), .int (nI 0), .int (nI 0)])) := by rw [hE17, hEn16, up_up]
  have hm17 : h17 m = some (.inr (3, [.int (nI 0), .ref d1, .int (nI 0), .int (-1), .ref d2, .ref d3, .ref d4, .ref d5, .int (nI 0), .int (nI 0), .int (nI 0), .int (nI 0), .int (nI 0), .ref d6, .ref d7, .ref d8, .null, .null, .null, .null, .null, .int (nI 0), .int (nI 0), .int (nI 0)])) := by rw [hEn17]; exact up_s
  refine ww_aload_n C dX4_init_84 rfl 0 rfl rfl ?_
  refine ww_sipush C dX4_init_85 cS_800 ?_
  refine ww_newa (t := 0) (n := 800) (a0 := (800, .inl (fun _ => 0))) C dX4_init_88 (by decide) rfl q267 (fun cA => vp_cell_el cA _) (by decide) (by decide) (by decide) (fun d9 d9_n d9_z d9_g => ?_)
  refine ww_gen (fun h18 hE18 => ?_)
  have hm17_h18 : h18 m = some (.inr (3, [.int (nI 0), .ref d1, .int (nI 0), .int (-1), .ref d2, .ref d3, .ref d4, .ref d5, .int (nI 0), .int (nI 0), .int (nI 0), .int (nI 0), .int (nI 0), .ref d6, .ref d7, .ref d8, .null, .null, .null, .null, .null, .int (nI 0), .int (nI 0), .int (nI 0)])) := by rw [hE18, up_n (ne_nw hm17 d9_n)]; exact hm17
  have N18_h18 : h18 d9 = some (.inl (gA (xG X) 0, (800, .inl (fun _ => 0)))) := by rw [hE18]; exact up_s
  rw [hEn17] at d9_n
  obtain ⟨H18, hC18, hD18⟩ := CH.ar (eb := .inl (gA (xG X) 0, (800, .inl (fun _ => 0)))) hC16 d9_n
  have hEn18 : h18 = up H18 m (.inr (3, [.int (nI 0), .ref d1, .int (nI 0), .int (-1), .ref d2, .ref d3, .ref d4, .ref d5, .int (nI 0), .int (nI 0), .int (nI 0), .int (nI 0), .int (nI 0), .ref d6, .ref d7, .ref d8, .null, .null, .null, .null, .null, .int (nI 0), .int (nI 0), .int (nI 0)])) := by rw [hE18, hEn17]; exact hD18
  have hm18 : h18 m = some (.inr (3, [.int (nI 0), .ref d1, .int (nI 0), .int (-1), .ref d2, .ref d3, .ref d4, .ref d5, .int (nI 0), .int (nI 0), .int (nI 0), .int (nI 0), .int (nI 0), .ref d6, .ref d7, .ref d8, .null, .null, .null, .null, .null, .int (nI 0), .int (nI 0), .int (nI 0)])) := by rw [hEn18]; exact up_s
  refine pf_X4_42_X4 (fs' := [.int (nI 0), .ref d1, .int (nI 0), .int (-1), .ref d2, .ref d3, .ref d4, .ref d5, .int (nI 0), .int (nI 0), .int (nI 0), .int (nI 0), .int (nI 0), .ref d6, .ref d7, .ref d8, .ref d9, .null, .null, .null, .null, .int (nI 0), .int (nI 0), .int (nI 0)]) C dX4_init_90 hm18 rfl rfl (Nat.le_of_ble_eq_true rfl) rfl ?_
  refine ww_gen (fun h19 hE19 => ?_)
  have hm18_h19 : h19 m = some (.inr (3, [.int (nI 0), .ref d1, .int (nI 0), .int (-1), .ref d2, .ref d3, .ref d4, .ref d5, .int (nI 0), .int (nI 0), .int (nI 0), .int (nI 0), .int (nI 0), .ref d6, .ref d7, .ref d8, .ref d9, .null, .null, .null, .null, .int (nI 0), .int (nI 0), .int (nI 0)])) := by rw [hE19]; exact up_s
  have hEn19 : h19 = up H18 m (.inr (3, [.int (nI 0), .ref d1, .int (nI 0), .int (-1), .ref d2, .ref d3, .ref d4, .ref d5, .int (nI 0), .int (nI 0), .int (nI 0), .int (nI 0), .int (nI 0), .ref d6, .ref d7, .ref d8, .ref d9, .null, .null, .null, .null, .int (nI 0), .int (nI 0), .int (nI 0)])) := by rw [hE19, hEn18, up_up]
  have hm19 : h19 m = some (.inr (3, [.int (nI 0), .ref d1, .int (nI 0), .int (-1), .ref d2, .ref d3, .ref d4, .ref d5, .int (nI 0), .int (nI 0), .int (nI 0), .int (nI 0), .int (nI 0), .ref d6, .ref d7, .ref d8, .ref d9, .null, .null, .null, .null, .int (nI 0), .int (nI 0), .int (nI 0)])) := by rw [hEn19]; exact up_s
  refine ww_aload_n C dX4_init_93 rfl 0 rfl rfl ?_
  refine nw_X4_45 C dX4_init_94 (by decide) (by decide) (fun d10 d10_n d10_z d10_g => ?_)
  refine ww_gen (fun h20 hE20 => ?_)
  have hm19_h20 : h20 m = some (.inr (3, [.int (nI 0), .ref d1, .int (nI 0), .int (-1), .ref d2, .ref d3, .ref d4, .ref d5, .int (nI 0), .int (nI 0), .int (nI 0), .int (nI 0), .int (nI 0), .ref d6, .ref d7, .ref d8, .ref d9, .null, .null, .null, .null, .int (nI 0), .int (nI 0), .int (nI 0)])) := by rw [hE20, up_n (ne_nw hm19 d10_n)]; exact hm19
  have N20_h20 : h20 d10 = some (.inr (5, [.null, .null, .null, .int (nI 0), .int (nI 0)])) := by rw [hE20]; exact up_s
  refine ww_dup C dX4_init_97 rfl ?_
  rw [hEn19] at d10_n
  refine ci_X4_47_q (As := []) (rest := [.ref d10, .ref m]) C dX4_init_98 (ct_X6_init (Cx.fl C) (Cx.ok C) N20_h20) rfl rfl (Nat.le_of_ble_eq_true rfl) (by decide) (by omega) (by omega) (fun z9 j20 q9 => ?_)
  obtain ⟨hq, d10_b0, d10_b1, d10_b2, G20, hG20, hj20⟩ := q9; replace hq := hq.symm; subst hq
  rw [hE20, hEn19] at hG20
  obtain ⟨H20, hC20, hD20⟩ := CH.ob (ex' := .inr (5, [.ref d10_b0, .ref d10_b1, .ref d10_b2, .int (nI 0), .int (nI 0)])) hC18 d10_n hG20
  have hEn20 : j20 = up H20 m (.inr (3, [.int (nI 0), .ref d1, .int (nI 0), .int (-1), .ref d2, .ref d3, .ref d4, .ref d5, .int (nI 0), .int (nI 0), .int (nI 0), .int (nI 0), .int (nI 0), .ref d6, .ref d7, .ref d8, .ref d9, .null, .null, .null, .null, .int (nI 0), .int (nI 0), .int (nI 0)])) := hj20.trans hD20
  have hm20 : j20 m = some (.inr (3, [.int (nI 0), .ref d1, .int (nI 0), .int (-1), .ref d2, .ref d3, .ref d4, .ref d5, .int (nI 0), .int (nI 0), .int (nI 0), .int (nI 0), .int (nI 0), .ref d6, .ref d7, .ref d8, .ref d9, .null, .null, .null, .null, .int (nI 0), .int (nI 0), .int (nI 0)])) := by rw [hEn20]; exact up_s
  refine pf_X4_48_X4 (fs' := [.int (nI 0), .ref d1, .int (nI 0), .int (-1), .ref d2, .ref d3, .ref d4, .ref d5, .int (nI 0), .int (nI 0), .int (nI 0), .int (nI 0), .int (nI 0), .ref d6, .ref d7, .ref d8, .ref d9, .ref d10, .null, .null, .null, .int (nI 0), .int (nI 0), .int (nI 0)]) C dX4_init_101 hm20 rfl rfl (Nat.le_of_ble_eq_true rfl) rfl ?_
  refine ww_gen (fun h21 hE21 => ?_)
  have hm20_h21 : h21 m = some (.inr (3, [.int (nI 0), .ref d1, .int (nI 0), .int (-1), .ref d2, .ref d3, .ref d4, .ref d5, .int (nI 0), .int (nI 0), .int (nI 0), .int (nI 0), .int (nI 0), .ref d6, .ref d7, .ref d8, .ref d9, .ref d10, .null, .null, .null, .int (nI 0), .int (nI 0), .int (nI 0)])) := by rw [hE21]; exact up_s
  have hEn21 : h21 = up H20 m (.inr (3, [.int (nI 0), .ref d1, .int (nI 0), .int (-1), .ref d2, .ref d3, .ref d4, .ref d5, .int (nI 0), .int (nI 0), .int (nI 0), .int (nI 0), .int (nI 0), .ref d6, .ref d7, .ref d8, .ref d9, .ref d10, .null, .null, .null, .int (nI 0), .int (nI 0), .int (nI 0)])) := by rw [hE21, hEn20, up_up]
  have hm21 : h21 m = some (.inr (3, [.int (nI 0), .ref d1, .int (nI 0), .int (-1), .ref d2, .ref d3, .ref d4, .ref d5, .int (nI 0), .int (nI 0), .int (nI 0), .int (nI 0), .int (nI 0), .ref d6, .ref d7, .ref d8, .ref d9, .ref d10, .null, .null, .null, .int (nI 0), .int (nI 0), .int (nI 0)])) := by rw [hEn21]; exact up_s
  refine ww_aload_n C dX4_init_104 rfl 0 rfl rfl ?_
  refine nw_X4_45 C dX4_init_105 (by decide) (by decide) (fun d11 d11_n d11_z d11_g => ?_)
  refine ww_gen (fun h22 hE22 => ?_)
  have hm21_h22 : h22 m = some (.inr (3, [.int (nI 0), .ref d1, .int (nI 0), .int (-1), .ref d2, .ref d3, .ref d4, .ref d5, .int (nI 0), .int (nI 0), .int (nI 0), .int (nI 0), .int (nI 0), .ref d6, .ref d7, .ref d8, .ref d9, .ref d10, .null, .null, .null, .int (nI 0), .int (nI 0), .int (nI 0)])) := by rw [hE22, up_n (ne_nw hm21 d11_n)]; exact hm21
  have N22_h22 : h22 d11 = some (.inr (5, [.null, .null, .null, .int (nI 0), .int (nI 0)])) := by rw [hE22]; exact up_s
  refine ww_dup C dX4_init_108 rfl ?_
  rw [hEn21] at d11_n
  refine ci_X4_47_q (As := []) (rest := [.ref d11, .ref m]) C dX4_init_109 (ct_X6_init (Cx.fl C) (Cx.ok C) N22_h22) rfl rfl (Nat.le_of_ble_eq_true rfl) (by decide) (by omega) (by omega) (fun z9 j22 q9 => ?_)
  obtain ⟨hq, d11_b0, d11_b1, d11_b2, G22, hG22, hj22⟩ := q9; replace hq := hq.symm; subst hq
  rw [hE22, hEn21] at hG22
  obtain ⟨H22, hC22, hD22⟩ := CH.ob (ex' := .inr (5, [.ref d11_b0, .ref d11_b1, .ref d11_b2, .int (nI 0), .int (nI 0)])) hC20 d11_n hG22
  have hEn22 : j22 = up H22 m (.inr (3, [.int (nI 0), .ref d1, .int (nI 0), .int (-1), .ref d2, .ref d3, .ref d4, .ref d5, .int (nI 0), .int (nI 0), .int (nI 0), .int (nI 0), .int (nI 0), .ref d6, .ref d7, .ref d8, .ref d9, .ref d10, .null, .null, .null, .int (nI 0), .int (nI 0), .int (nI 0)])) := hj22.trans hD22
  have hm22 : j22 m = some (.inr (3, [.int (nI 0), .ref d1, .int (nI 0), .int (-1), .ref d2, .ref d3, .ref d4, .ref d5, .int (nI 0), .int (nI 0), .int (nI 0), .int (nI 0), .int (nI 0), .ref d6, .ref d7, .ref d8, .ref d9, .ref d10, .null, .null, .null, .int (nI 0), .int (nI 0), .int (nI 0)])) := by rw [hEn22]; exact up_s
  refine pf_X4_52_X4 (fs' := [.int (nI 0), .ref d1, .int (nI 0), .int (-1), .ref d2, .ref d3, .ref d4, .ref d5, .int (nI 0), .int (nI 0), .int (nI 0), .int (nI 0), .int (nI 0), .ref d6, .ref d7, .ref d8, .ref d9, .ref d10, .ref d11, .null, .null, .int (nI 0), .int (nI 0), .int (nI 0)]) C dX4_init_112 hm22 rfl rfl (Nat.le_of_ble_eq_true rfl) rfl ?_
  refine ww_gen (fun h23 hE23 => ?_)
  have hm22_h23 : h23 m = some (.inr (3, [.int (nI 0), .ref d1, .int (nI 0), .int (-1), .ref d2, .ref d3, .ref d4, .ref d5, .int (nI 0), .int (nI 0), .int (nI 0), .int (nI 0), .int (nI 0), .ref d6, .ref d7, .ref d8, .ref d9, .ref d10, .ref d11, .null, .null, .int (nI 0), .int (nI 0), .int (nI 0)])) := by rw [hE23]; exact up_s
  have hEn23 : h23 = up H22 m (.inr (3, [.int (nI 0), .ref d1, .int (nI 0), .int (-1), .ref d2, .ref d3, .ref d4, .ref d5, .int (nI 0), .int (nI 0), .int (nI 0), .int (nI 0), .int (nI 0), .ref d6, .ref d7, .ref d8, .ref d9, .ref d10, .ref d11, .null, .null, .int (nI 0), .int (nI 0), .int (nI 0)])) := by rw [hE23, hEn22, up_up]
  have hm23 : h23 m = some (.inr (3, [.int (nI 0), .ref d1, .int (nI 0), .int (-1), .ref d2, .ref d3, .ref d4, .ref d5, .int (nI 0), .int (nI 0), .int (nI 0), .int (nI 0), .int (nI 0), .ref d6, .ref d7, .ref d8, .ref d9, .ref d10, .ref d11, .null, .null, .int (nI 0), .int (nI 0), .int (nI 0)])) := by rw [hEn23]; exact up_s
  refine ww_aload_n C dX4_init_115 rfl 0 rfl rfl ?_
  refine ww_bipush C dX4_init_116 cB_49 ?_
  refine ww_newa (t := 0) (n := 49) (a0 := (49, .inl (fun _ => 0))) C dX4_init_118 (by decide) rfl q267 (fun cA => vp_cell_el cA _) (by decide) (by decide) (by decide) (fun d12 d12_n d12_z d12_g => ?_)
  refine ww_gen (fun h24 hE24 => ?_)
  have hm23_h24 : h24 m = some (.inr (3, [.int (nI 0), .ref d1, .int (nI 0), .int (-1), .ref d2, .ref d3, .ref d4, .ref d5, .int (nI 0), .int (nI 0), .int (nI 0), .int (nI 0), .int (nI 0), .ref d6, .ref d7, .ref d8, .ref d9, .ref d10, .ref d11, .null, .null, .int (nI 0), .int (nI 0), .int (nI 0)])) := by rw [hE24, up_n (ne_nw hm23 d12_n)]; exact hm23
  have N24_h24 : h24 d12 = some (.inl (gA (xG X) 0, (49, .inl (fun _ => 0)))) := by rw [hE24]; exact up_s
  rw [hEn23] at d12_n
  obtain ⟨H24, hC24, hD24⟩ := CH.ar (eb := .inl (gA (xG X) 0, (49, .inl (fun _ => 0)))) hC22 d12_n
  have hEn24 : h24 = up H24 m (.inr (3, [.int (nI 0), .ref d1, .int (nI 0), .int (-1), .ref d2, .ref d3, .ref d4, .ref d5, .int (nI 0), .int (nI 0), .int (nI 0), .int (nI 0), .int (nI 0), .ref d6, .ref d7, .ref d8, .ref d9, .ref d10, .ref d11, .null, .null, .int (nI 0), .int (nI 0), .int (nI 0)])) := by rw [hE24, hEn23]; exact hD24
  have hm24 : h24 m = some (.inr (3, [.int (nI 0), .ref d1, .int (nI 0), .int (-1), .ref d2, .ref d3, .ref d4, .ref d5, .int (nI 0), .int (nI 0), .int (nI 0), .int (nI 0), .int (nI 0), .ref d6, .ref d7, .ref d8, .ref d9, .ref d10, .ref d11, .null, .null, .int (nI 0), .int (nI 0), .int (nI 0)])) := by rw [hEn24]; exact up_s
  refine pf_X4_55_X4 (fs' := [.int (nI 0), .ref d1, .int (nI 0), .int (-1), .ref d2, .ref d3, .ref d4, .ref d5, .int (nI 0), .int (nI 0), .int (nI 0), .int (nI 0), .int (nI 0), .ref d6, .ref d7, .ref d8, .ref d9, .ref d10, .ref d11, .ref d12, .null, .int (nI 0), .int (nI 0), .int (nI 0)]) C dX4_init_120 hm24 rfl rfl (Nat.le_of_ble_eq_true rfl) rfl ?_
  refine ww_gen (fun h25 hE25 => ?_)
  have hm24_h25 : h25 m = some (.inr (3, [.int (nI 0), .ref d1, .int (nI 0), .int (-1), .ref d2, .ref d3, .ref d4, .ref d5, .int (nI 0), .int (nI 0), .int (nI 0), .int (nI 0), .int (nI 0), .ref d6, .ref d7, .ref d8, .ref d9, .ref d10, .ref d11, .ref d12, .null, .int (nI 0), .int (nI 0), .int (nI 0)])) := by rw [hE25]; exact up_s
  have hEn25 : h25 = up H24 m (.inr (3, [.int (nI 0), .ref d1, .int (nI 0), .int (-1), .ref d2, .ref d3, .ref d4, .ref d5, .int (nI 0), .int (nI 0), .int (nI 0), .int (nI 0), .int (nI 0), .ref d6, .ref d7, .ref d8, .ref d9, .ref d10, .ref d11, .ref d12, .null, .int (nI 0), .int (nI 0), .int (nI 0)])) := by rw [hE25, hEn24, up_up]
  have hm25 : h25 m = some (.inr (3, [.int (nI 0), .ref d1, .int (nI 0), .int (-1), .ref d2, .ref d3, .ref d4, .ref d5, .int (nI 0), .int (nI 0), .int (nI 0), .int (nI 0), .int (nI 0), .ref d6, .ref d7, .ref d8, .ref d9, .ref d10, .ref d11, .ref d12, .null, .int (nI 0), .int (nI 0), .int (nI 0)])) := by rw [hEn25]; exact up_s
  refine ww_aload_n C dX4_init_123 rfl 0 rfl rfl ?_
  refine ww_bipush C dX4_init_124 cB_49 ?_
  refine ww_newa (t := 3) (n := 49) (a0 := (49, .inl (fun _ => 0))) C dX4_init_126 (by decide) rfl q2082 (fun cA => vp_cell_el cA _) (by decide) (by decide) (by decide) (fun d13 d13_n d13_z d13_g => ?_)
  refine ww_gen (fun h26 hE26 => ?_)
  have hm25_h26 : h26 m = some (.inr (3, [.int (nI 0), .ref d1, .int (nI 0), .int (-1), .ref d2, .ref d3, .ref d4, .ref d5, .int (nI 0), .int (nI 0), .int (nI 0), .int (nI 0), .int (nI 0), .ref d6, .ref d7, .ref d8, .ref d9, .ref d10, .ref d11, .ref d12, .null, .int (nI 0), .int (nI 0), .int (nI 0)])) := by rw [hE26, up_n (ne_nw hm25 d13_n)]; exact hm25
  have N26_h26 : h26 d13 = some (.inl (gA (xG X) 3, (49, .inl (fun _ => 0)))) := by rw [hE26]; exact up_s
  rw [hEn25] at d13_n
  obtain ⟨H26, hC26, hD26⟩ := CH.ar (eb := .inl (gA (xG X) 3, (49, .inl (fun _ => 0)))) hC24 d13_n
  have hEn26 : h26 = up H26 m (.inr (3, [.int (nI 0), .ref d1, .int (nI 0), .int (-1), .ref d2, .ref d3, .ref d4, .ref d5, .int (nI 0), .int (nI 0), .int (nI 0), .int (nI 0), .int (nI 0), .ref d6, .ref d7, .ref d8, .ref d9, .ref d10, .ref d11, .ref d12, .null, .int (nI 0), .int (nI 0), .int (nI 0)])) := by rw [hE26, hEn25]; exact hD26
  have hm26 : h26 m = some (.inr (3, [.int (nI 0), .ref d1, .int (nI 0), .int (-1), .ref d2, .ref d3, .ref d4, .ref d5, .int (nI 0), .int (nI 0), .int (nI 0), .int (nI 0), .int (nI 0), .ref d6, .ref d7, .ref d8, .ref d9, .ref d10, .ref d11, .ref d12, .null, .int (nI 0), .int (nI 0), .int (nI 0)])) := by rw [hEn26]; exact up_s
  refine pf_X4_58_X4 (fs' := [.int (nI 0), .ref d1, .int (nI 0), .int (-1), .ref d2, .ref d3, .ref d4, .ref d5, .int (nI 0), .int (nI 0), .int (nI 0), .int (nI 0), .int (nI 0), .ref d6, .ref d7, .ref d8, .ref d9, .ref d10, .ref d11, .ref d12, .ref d13, .int (nI 0), .int (nI 0), .int (nI 0)]) C dX4_init_128 hm26 rfl rfl (Nat.le_of_ble_eq_true rfl) rfl ?_
  refine ww_gen (fun h27 hE27 => ?_)
  have hm26_h27 : h27 m = some (.inr (3, [.int (nI 0), .ref d1, .int (nI 0), .int (-1), .ref d2, .ref d3, .ref d4, .ref d5, .int (nI 0), .int (nI 0), .int (nI 0), .int (nI 0), .int (nI 0), .ref d6, .ref d7, .ref d8, .ref d9, .ref d10, .ref d11, .ref d12, .ref d13, .int (nI 0), .int (nI 0), .int (nI 0)])) := by rw [hE27]; exact up_s
  have hEn27 : h27 = up H26 m (.inr (3, [.int (nI 0), .ref d1, .int (nI 0), .int (-1), .ref d2, .ref d3, .ref d4, .ref d5, .int (nI 0), .int (nI 0), .int (nI 0), .int (nI 0), .int (nI 0), .ref d6, .ref d7, .ref d8, .ref d9, .ref d10, .ref d11, .ref d12, .ref d13, .int (nI 0), .int (nI 0), .int (nI 0)])) := by rw [hE27, hEn26, up_up]
  have hm27 : h27 m = some (.inr (3, [.int (nI 0), .ref d1, .int (nI 0), .int (-1), .ref d2, .ref d3, .ref d4, .ref d5, .int (nI 0), .int (nI 0), .int (nI 0), .int (nI 0), .int (nI 0), .ref d6, .ref d7, .ref d8, .ref d9, .ref d10, .ref d11, .ref d12, .ref d13, .int (nI 0), .int (nI 0), .int (nI 0)])) := by rw [hEn27]; exact up_s
  refine ww_aload_n C dX4_init_131 rfl 0 rfl rfl ?_
  refine gf_X4_48_X4 C dX4_init_132 (Or.inl hm27) rfl ?_
  obtain ⟨D, hD⟩ : ∃ D : Nat → Nat, D = fun i => if i = 0 then m else [d13, d12, d11, d11_b2, d11_b1, d11_b0, d10, d10_b2, d10_b1, d10_b0, d9, d8, d8_b9, d8_b8, d8_b7, d8_b6, d8_b5, d8_b4, d8_b3, d8_b2, d8_b1, d8_b0, d7, d7_b9, d7_b8, d7_b7, d7_b6, d7_b5, d7_b4, d7_b3, d7_b2, d7_b1, d7_b0, d6, d5, d4, d3, d2, d1].getD (ixD.getD i 0) 0 := ⟨_, rfl⟩
  have hat := CH.at hC26
  have hnw := CH.nw hC26
  have hD0 : D 0 = m := by rw [hD]; rfl
  have hD1 : D 1 = d1 := by rw [hD]; rfl
  have hD2 : D 2 = d2 := by rw [hD]; rfl
  have hD3 : D 3 = d3 := by rw [hD]; rfl
  have hD4 : D 4 = d4 := by rw [hD]; rfl
  have hD5 : D 5 = d5 := by rw [hD]; rfl
  have hD6 : D 6 = d6 := by rw [hD]; rfl
  have hD7 : D 7 = d7 := by rw [hD]; rfl
  have hD8 : D 8 = d8 := by rw [hD]; rfl
  have hD9 : D 9 = d9 := by rw [hD]; rfl
  have hD10 : D 10 = d10 := by rw [hD]; rfl
  have hD11 : D 11 = d11 := by rw [hD]; rfl
  have hD12 : D 12 = d12 := by rw [hD]; rfl
  have hD13 : D 13 = d13 := by rw [hD]; rfl
  have hD20 : D 20 = d7_b0 := by rw [hD]; rfl
  have hD21 : D 21 = d7_b1 := by rw [hD]; rfl
  have hD22 : D 22 = d7_b2 := by rw [hD]; rfl
  have hD23 : D 23 = d7_b3 := by rw [hD]; rfl
  have hD24 : D 24 = d7_b4 := by rw [hD]; rfl
  have hD25 : D 25 = d7_b5 := by rw [hD]; rfl
  have hD26 : D 26 = d7_b6 := by rw [hD]; rfl
  have hD27 : D 27 = d7_b7 := by rw [hD]; rfl
  have hD28 : D 28 = d7_b8 := by rw [hD]; rfl
  have hD29 : D 29 = d7_b9 := by rw [hD]; rfl
  have hD30 : D 30 = d8_b0 := by rw [hD]; rfl
  have hD31 : D 31 = d8_b1 := by rw [hD]; rfl
  have hD32 : D 32 = d8_b2 := by rw [hD]; rfl
  have hD33 : D 33 = d8_b3 := by rw [hD]; rfl
  have hD34 : D 34 = d8_b4 := by rw [hD]; rfl
  have hD35 : D 35 = d8_b5 := by rw [hD]; rfl
  have hD36 : D 36 = d8_b6 := by rw [hD]; rfl
  have hD37 : D 37 = d8_b7 := by rw [hD]; rfl
  have hD38 : D 38 = d8_b8 := by rw [hD]; rfl
  have hD39 : D 39 = d8_b9 := by rw [hD]; rfl
  have hD40 : D 40 = d10_b0 := by rw [hD]; rfl
  have hD41 : D 41 = d10_b1 := by rw [hD]; rfl
  have hD42 : D 42 = d10_b2 := by rw [hD]; rfl
  have hD43 : D 43 = d11_b0 := by rw [hD]; rfl
  have hD44 : D 44 = d11_b1 := by rw [hD]; rfl
  have hD45 : D 45 = d11_b2 := by rw [hD]; rfl
  have hL : ∀ i, mi i = true → i ≠ 0 → ∃ p, ([(d13, .inl (gA (xG X) 3, (49, .inl (fun _ => 0)))), (d12, .inl (gA (xG X) 0, (49, .inl (fun _ => 0)))), (d11, .inr (5, [.ref d11_b0, .ref d11_b1, .ref d11_b2, .int (nI 0), .int (nI 0)])), (d11_b2, .inl (gA (xG X) 0, (16, .inl (fun _ => 0)))), (d11_b1, .inl (gA (xG X) 0, (16, .inl (fun _ => 0)))), (d11_b0, .inl (gA (xG X) 0, (49, .inl (fun _ => 0)))), (d10, .inr (5, [.ref d10_b0, .ref d10_b1, .ref d10_b2, .int (nI 0), .int (nI 0)])), (d10_b2, .inl (gA (xG X) 0, (16, .inl (fun _ => 0)))), (d10_b1, .inl (gA (xG X) 0, (16, .inl (fun _ => 0)))), (d10_b0, .inl (gA (xG X) 0, (49, .inl (fun _ => 0)))), (d9, .inl (gA (xG X) 0, (800, .inl (fun _ => 0)))), (d8, .inr (4, [.int (nI 5), .int (nI 5), .int (nI 0), .ref d8_b0, .int (nI 0), .ref d8_b1, .ref d8_b2, .ref d8_b3, .ref d8_b4, .ref d8_b5, .ref d8_b6, .int (nI 0), .ref d8_b7, .ref d8_b8, .ref d8_b9])), (d8_b9, .inl (gA (xG X) 0, (800, .inl (fun _ => 0)))), (d8_b8, .inl (gA (xG X) 0, (800, .inl (fun _ => 0)))), (d8_b7, .inl (gA (xG X) 0, (800, .inl (fun _ => 0)))), (d8_b6, .inl (gA (xG X) 0, (17, .inl (fun _ => 0)))), (d8_b5, .inl (gA (xG X) 0, (51, .inl (fun _ => 0)))), (d8_b4, .inl (gA (xG X) 0, (17, .inl (fun _ => 0)))), (d8_b3, .inl (gA (xG X) 0, (17, .inl (fun _ => 0)))), (d8_b2, .inl (gA (xG X) 0, (17, .inl (fun _ => 0)))), (d8_b1, .inl (gA (xG X) 0, (17, .inl (fun _ => 0)))), (d8_b0, .inl (gA (xG X) 0, (51, .inl (fun _ => 0)))), (d7, .inr (4, [.int (nI 5), .int (nI 5), .int (nI 0), .ref d7_b0, .int (nI 0), .ref d7_b1, .ref d7_b2, .ref d7_b3, .ref d7_b4, .ref d7_b5, .ref d7_b6, .int (nI 0), .ref d7_b7, .ref d7_b8, .ref d7_b9])), (d7_b9, .inl (gA (xG X) 0, (800, .inl (fun _ => 0)))), (d7_b8, .inl (gA (xG X) 0, (800, .inl (fun _ => 0)))), (d7_b7, .inl (gA (xG X) 0, (800, .inl (fun _ => 0)))), (d7_b6, .inl (gA (xG X) 0, (17, .inl (fun _ => 0)))), (d7_b5, .inl (gA (xG X) 0, (51, .inl (fun _ => 0)))), (d7_b4, .inl (gA (xG X) 0, (17, .inl (fun _ => 0)))), (d7_b3, .inl (gA (xG X) 0, (17, .inl (fun _ => 0)))), (d7_b2, .inl (gA (xG X) 0, (17, .inl (fun _ => 0)))), (d7_b1, .inl (gA (xG X) 0, (17, .inl (fun _ => 0)))), (d7_b0, .inl (gA (xG X) 0, (51, .inl (fun _ => 0)))), (d6, .inl (gA (xG X) 0, (16, .inl (fun _ => 0)))), (d5, .inl (gA (xG X) 0, (402, .inl (fun _ => 0)))), (d4, .inl (gA (xG X) 0, (402, .inl (fun _ => 0)))), (d3, .inl (gA (xG X) 0, (402, .inl (fun _ => 0)))), (d2, .inl (gA (xG X) 0, (402, .inl (fun _ => 0)))), (d1, .inl (gA (xG X) 0, (2000, .inl (fun _ => 0))))] : List (Nat × va_E))[ixD.getD i 0]? = some p ∧ D i = p.1 := fun i hi h0 => by
    rcases mi_c hi with rfl | rfl | rfl | rfl | rfl | rfl | rfl | rfl | rfl | rfl | rfl | rfl | rfl | rfl | rfl | rfl | rfl | rfl | rfl | rfl | rfl | rfl | rfl | rfl | rfl | rfl | rfl | rfl | rfl | rfl | rfl | rfl | rfl | rfl | rfl | rfl | rfl | rfl | rfl | rfl
    · exact absurd rfl h0
    · exact ⟨_, rfl, hD1⟩
    · exact ⟨_, rfl, hD2⟩
    · exact ⟨_, rfl, hD3⟩
    · exact ⟨_, rfl, hD4⟩
    · exact ⟨_, rfl, hD5⟩
    · exact ⟨_, rfl, hD6⟩
    · exact ⟨_, rfl, hD7⟩
    · exact ⟨_, rfl, hD8⟩
    · exact ⟨_, rfl, hD9⟩
    · exact ⟨_, rfl, hD10⟩
    · exact ⟨_, rfl, hD11⟩
    · exact ⟨_, rfl, hD12⟩
    · exact ⟨_, rfl, hD13⟩
    · exact ⟨_, rfl, hD20⟩
    · exact ⟨_, rfl, hD21⟩
    · exact ⟨_, rfl, hD22⟩
    · exact ⟨_, rfl, hD23⟩
    · exact ⟨_, rfl, hD24⟩
    · exact ⟨_, rfl, hD25⟩
    · exact ⟨_, rfl, hD26⟩
    · exact ⟨_, rfl, hD27⟩
    · exact ⟨_, rfl, hD28⟩
    · exact ⟨_, rfl, hD29⟩
    · exact ⟨_, rfl, hD30⟩
    · exact ⟨_, rfl, hD31⟩
    · exact ⟨_, rfl, hD32⟩
    · exact ⟨_, rfl, hD33⟩
    · exact ⟨_, rfl, hD34⟩
    · exact ⟨_, rfl, hD35⟩
    · exact ⟨_, rfl, hD36⟩
    · exact ⟨_, rfl, hD37⟩
    · exact ⟨_, rfl, hD38⟩
    · exact ⟨_, rfl, hD39⟩
    · exact ⟨_, rfl, hD40⟩
    · exact ⟨_, rfl, hD41⟩
    · exact ⟨_, rfl, hD42⟩
    · exact ⟨_, rfl, hD43⟩
    · exact ⟨_, rfl, hD44⟩
    · exact ⟨_, rfl, hD45⟩
  have hnm : ∀ i, mi i = true → i ≠ 0 → h (D i) = none := fun i hi h0 => by obtain ⟨p, p1, p2⟩ := hL i hi h0; rw [p2]; exact hnw _ _ p1
  have hne : ∀ i, mi i = true → i ≠ 0 → D i ≠ m := fun i hi h0 q => by have := hnm i hi h0; rw [q, Hm] at this; cases this
  have hX : Mx (xG X) h27 D ms0 := by
    refine ⟨fun i hi => ?_, fun i j hi hj q => ?_⟩
    · have key : ∀ (k : Nat) (p : Nat × va_E), ([(d13, .inl (gA (xG X) 3, (49, .inl (fun _ => 0)))), (d12, .inl (gA (xG X) 0, (49, .inl (fun _ => 0)))), (d11, .inr (5, [.ref d11_b0, .ref d11_b1, .ref d11_b2, .int (nI 0), .int (nI 0)])), (d11_b2, .inl (gA (xG X) 0, (16, .inl (fun _ => 0)))), (d11_b1, .inl (gA (xG X) 0, (16, .inl (fun _ => 0)))), (d11_b0, .inl (gA (xG X) 0, (49, .inl (fun _ => 0)))), (d10, .inr (5, [.ref d10_b0, .ref d10_b1, .ref d10_b2, .int (nI 0), .int (nI 0)])), (d10_b2, .inl (gA (xG X) 0, (16, .inl (fun _ => 0)))), (d10_b1, .inl (gA (xG X) 0, (16, .inl (fun _ => 0)))), (d10_b0, .inl (gA (xG X) 0, (49, .inl (fun _ => 0)))), (d9, .inl (gA (xG X) 0, (800, .inl (fun _ => 0)))), (d8, .inr (4, [.int (nI 5), .int (nI 5), .int (nI 0), .ref d8_b0, .int (nI 0), .ref d8_b1, .ref d8_b2, .ref d8_b3, .ref d8_b4, .ref d8_b5, .ref d8_b6, .int (nI 0), .ref d8_b7, .ref d8_b8, .ref d8_b9])), (d8_b9, .inl (gA (xG X) 0, (800, .inl (fun _ => 0)))), (d8_b8, .inl (gA (xG X) 0, (800, .inl (fun _ => 0)))), (d8_b7, .inl (gA (xG X) 0, (800, .inl (fun _ => 0)))), (d8_b6, .inl (gA (xG X) 0, (17, .inl (fun _ => 0)))), (d8_b5, .inl (gA (xG X) 0, (51, .inl (fun _ => 0)))), (d8_b4, .inl (gA (xG X) 0, (17, .inl (fun _ => 0)))), (d8_b3, .inl (gA (xG X) 0, (17, .inl (fun _ => 0)))), (d8_b2, .inl (gA (xG X) 0, (17, .inl (fun _ => 0)))), (d8_b1, .inl (gA (xG X) 0, (17, .inl (fun _ => 0)))), (d8_b0, .inl (gA (xG X) 0, (51, .inl (fun _ => 0)))), (d7, .inr (4, [.int (nI 5), .int (nI 5), .int (nI 0), .ref d7_b0, .int (nI 0), .ref d7_b1, .ref d7_b2, .ref d7_b3, .ref d7_b4, .ref d7_b5, .ref d7_b6, .int (nI 0), .ref d7_b7, .ref d7_b8, .ref d7_b9])), (d7_b9, .inl (gA (xG X) 0, (800, .inl (fun _ => 0)))), (d7_b8, .inl (gA (xG X) 0, (800, .inl (fun _ => 0)))), (d7_b7, .inl (gA (xG X) 0, (800, .inl (fun _ => 0)))), (d7_b6, .inl (gA (xG X) 0, (17, .inl (fun _ => 0)))), (d7_b5, .inl (gA (xG X) 0, (51, .inl (fun _ => 0)))), (d7_b4, .inl (gA (xG X) 0, (17, .inl (fun _ => 0)))), (d7_b3, .inl (gA (xG X) 0, (17, .inl (fun _ => 0)))), (d7_b2, .inl (gA (xG X) 0, (17, .inl (fun _ => 0)))), (d7_b1, .inl (gA (xG X) 0, (17, .inl (fun _ => 0)))), (d7_b0, .inl (gA (xG X) 0, (51, .inl (fun _ => 0)))), (d6, .inl (gA (xG X) 0, (16, .inl (fun _ => 0)))), (d5, .inl (gA (xG X) 0, (402, .inl (fun _ => 0)))), (d4, .inl (gA (xG X) 0, (402, .inl (fun _ => 0)))), (d3, .inl (gA (xG X) 0, (402, .inl (fun _ => 0)))), (d2, .inl (gA (xG X) 0, (402, .inl (fun _ => 0)))), (d1, .inl (gA (xG X) 0, (2000, .inl (fun _ => 0))))] : List (Nat × va_E))[k]? = some p → p.1 ≠ m → h27 p.1 = some p.2 := fun k p hk hn => by rw [hEn27, up_n hn]; exact hat k p hk
      rcases mi_c hi with rfl | rfl | rfl | rfl | rfl | rfl | rfl | rfl | rfl | rfl | rfl | rfl | rfl | rfl | rfl | rfl | rfl | rfl | rfl | rfl | rfl | rfl | rfl | rfl | rfl | rfl | rfl | rfl | rfl | rfl | rfl | rfl | rfl | rfl | rfl | rfl | rfl | rfl | rfl | rfl
      · rw [hD0, hEn27, up_s]; unfold mdC cMd; simp only [hD1, hD2, hD3, hD4, hD5, hD6, hD7, hD8, hD9, hD10, hD11, hD12, hD13]; rfl
      · have n9 := hne 1 rfl (by decide)
        rw [hD1] at n9 ⊢
        refine (key 38 _ rfl n9).trans ?_
        first | rfl | (unfold mdC; simp; done) | (congr)
      · have n9 := hne 2 rfl (by decide)
        rw [hD2] at n9 ⊢
        refine (key 37 _ rfl n9).trans ?_
        first | rfl | (unfold mdC; simp; done) | (congr)
      · have n9 := hne 3 rfl (by decide)
        rw [hD3] at n9 ⊢
        refine (key 36 _ rfl n9).trans ?_
        first | rfl | (unfold mdC; simp; done) | (congr)
      · have n9 := hne 4 rfl (by decide)
        rw [hD4] at n9 ⊢
        refine (key 35 _ rfl n9).trans ?_
        first | rfl | (unfold mdC; simp; done) | (congr)
      · have n9 := hne 5 rfl (by decide)
        rw [hD5] at n9 ⊢
        refine (key 34 _ rfl n9).trans ?_
        first | rfl | (unfold mdC; simp; done) | (congr)
      · have n9 := hne 6 rfl (by decide)
        rw [hD6] at n9 ⊢
        refine (key 33 _ rfl n9).trans ?_
        first | rfl | (unfold mdC; simp; done) | (congr)
      · have n9 := hne 7 rfl (by decide)
        rw [hD7] at n9 ⊢
        refine (key 22 _ rfl n9).trans ?_
        have e9 : mdC (xG X) D ms0 7 = cTd (nI 5) (nI 5) (nI 0) (nI 0) (nI 0) (fun i => D (20 + i)) := rfl
        rw [e9]; unfold cTd; simp only [show 20 + 0 = 20 from rfl, show 20 + 1 = 21 from rfl, show 20 + 2 = 22 from rfl, show 20 + 3 = 23 from rfl, show 20 + 4 = 24 from rfl, show 20 + 5 = 25 from rfl, show 20 + 6 = 26 from rfl, show 20 + 7 = 27 from rfl, show 20 + 8 = 28 from rfl, show 20 + 9 = 29 from rfl, hD20, hD21, hD22, hD23, hD24, hD25, hD26, hD27, hD28, hD29]
      · have n9 := hne 8 rfl (by decide)
        rw [hD8] at n9 ⊢
        refine (key 11 _ rfl n9).trans ?_
        have e9 : mdC (xG X) D ms0 8 = cTd (nI 5) (nI 5) (nI 0) (nI 0) (nI 0) (fun i => D (30 + i)) := rfl
        rw [e9]; unfold cTd; simp only [show 30 + 0 = 30 from rfl, show 30 + 1 = 31 from rfl, show 30 + 2 = 32 from rfl, show 30 + 3 = 33 from rfl, show 30 + 4 = 34 from rfl, show 30 + 5 = 35 from rfl, show 30 + 6 = 36 from rfl, show 30 + 7 = 37 from rfl, show 30 + 8 = 38 from rfl, show 30 + 9 = 39 from rfl, hD30, hD31, hD32, hD33, hD34, hD35, hD36, hD37, hD38, hD39]
      · have n9 := hne 9 rfl (by decide)
        rw [hD9] at n9 ⊢
        refine (key 10 _ rfl n9).trans ?_
        first | rfl | (unfold mdC; simp; done) | (congr)
      · have n9 := hne 10 rfl (by decide)
        rw [hD10] at n9 ⊢
        refine (key 6 _ rfl n9).trans ?_
        have e9 : mdC (xG X) D ms0 10 = cSt (fun i => D (40 + i)) (nI 0) (nI 0) := rfl
        rw [e9]; unfold cSt; simp only [show 40 + 0 = 40 from rfl, show 40 + 1 = 41 from rfl, show 40 + 2 = 42 from rfl, hD40, hD41, hD42]
      · have n9 := hne 11 rfl (by decide)
        rw [hD11] at n9 ⊢
        refine (key 2 _ rfl n9).trans ?_
        have e9 : mdC (xG X) D ms0 11 = cSt (fun i => D (43 + i)) (nI 0) (nI 0) := rfl
        rw [e9]; unfold cSt; simp only [show 43 + 0 = 43 from rfl, show 43 + 1 = 44 from rfl, show 43 + 2 = 45 from rfl, hD43, hD44, hD45]
      · have n9 := hne 12 rfl (by decide)
        rw [hD12] at n9 ⊢
        refine (key 1 _ rfl n9).trans ?_
        first | rfl | (unfold mdC; simp; done) | (congr)
      · have n9 := hne 13 rfl (by decide)
        rw [hD13] at n9 ⊢
        refine (key 0 _ rfl n9).trans ?_
        first | rfl | (unfold mdC; simp; done) | (congr)
      · have n9 := hne 20 rfl (by decide)
        rw [hD20] at n9 ⊢
        refine (key 32 _ rfl n9).trans ?_
        first | rfl | (unfold mdC; simp; done) | (congr)
      · have n9 := hne 21 rfl (by decide)
        rw [hD21] at n9 ⊢
        refine (key 31 _ rfl n9).trans ?_
        first | rfl | (unfold mdC; simp; done) | (congr)
      · have n9 := hne 22 rfl (by decide)
        rw [hD22] at n9 ⊢
        refine (key 30 _ rfl n9).trans ?_
        first | rfl | (unfold mdC; simp; done) | (congr)
      · have n9 := hne 23 rfl (by decide)
        rw [hD23] at n9 ⊢
        refine (key 29 _ rfl n9).trans ?_
        first | rfl | (unfold mdC; simp; done) | (congr)
      · have n9 := hne 24 rfl (by decide)
        rw [hD24] at n9 ⊢
        refine (key 28 _ rfl n9).trans ?_
        first | rfl | (unfold mdC; simp; done) | (congr)
      · have n9 := hne 25 rfl (by decide)
        rw [hD25] at n9 ⊢
        refine (key 27 _ rfl n9).trans ?_
        first | rfl | (unfold mdC; simp; done) | (congr)
      · have n9 := hne 26 rfl (by decide)
        rw [hD26] at n9 ⊢
        refine (key 26 _ rfl n9).trans ?_
        first | rfl | (unfold mdC; simp; done) | (congr)
      · have n9 := hne 27 rfl (by decide)
        rw [hD27] at n9 ⊢
        refine (key 25 _ rfl n9).trans ?_
        first | rfl | (unfold mdC; simp; done) | (congr)
      · have n9 := hne 28 rfl (by decide)
        rw [hD28] at n9 ⊢
        refine (key 24 _ rfl n9).trans ?_
        first | rfl | (unfold mdC; simp; done) | (congr)
      · have n9 := hne 29 rfl (by decide)
        rw [hD29] at n9 ⊢
        refine (key 23 _ rfl n9).trans ?_
        first | rfl | (unfold mdC; simp; done) | (congr)
      · have n9 := hne 30 rfl (by decide)
        rw [hD30] at n9 ⊢
        refine (key 21 _ rfl n9).trans ?_
        first | rfl | (unfold mdC; simp; done) | (congr)
      · have n9 := hne 31 rfl (by decide)
        rw [hD31] at n9 ⊢
        refine (key 20 _ rfl n9).trans ?_
        first | rfl | (unfold mdC; simp; done) | (congr)
      · have n9 := hne 32 rfl (by decide)
        rw [hD32] at n9 ⊢
        refine (key 19 _ rfl n9).trans ?_
        first | rfl | (unfold mdC; simp; done) | (congr)
      · have n9 := hne 33 rfl (by decide)
        rw [hD33] at n9 ⊢
        refine (key 18 _ rfl n9).trans ?_
        first | rfl | (unfold mdC; simp; done) | (congr)
      · have n9 := hne 34 rfl (by decide)
        rw [hD34] at n9 ⊢
        refine (key 17 _ rfl n9).trans ?_
        first | rfl | (unfold mdC; simp; done) | (congr)
      · have n9 := hne 35 rfl (by decide)
        rw [hD35] at n9 ⊢
        refine (key 16 _ rfl n9).trans ?_
        first | rfl | (unfold mdC; simp; done) | (congr)
      · have n9 := hne 36 rfl (by decide)
        rw [hD36] at n9 ⊢
        refine (key 15 _ rfl n9).trans ?_
        first | rfl | (unfold mdC; simp; done) | (congr)
      · have n9 := hne 37 rfl (by decide)
        rw [hD37] at n9 ⊢
        refine (key 14 _ rfl n9).trans ?_
        first | rfl | (unfold mdC; simp; done) | (congr)
      · have n9 := hne 38 rfl (by decide)
        rw [hD38] at n9 ⊢
        refine (key 13 _ rfl n9).trans ?_
        first | rfl | (unfold mdC; simp; done) | (congr)
      · have n9 := hne 39 rfl (by decide)
        rw [hD39] at n9 ⊢
        refine (key 12 _ rfl n9).trans ?_
        first | rfl | (unfold mdC; simp; done) | (congr)
      · have n9 := hne 40 rfl (by decide)
        rw [hD40] at n9 ⊢
        refine (key 9 _ rfl n9).trans ?_
        first | rfl | (unfold mdC; simp; done) | (congr)
      · have n9 := hne 41 rfl (by decide)
        rw [hD41] at n9 ⊢
        refine (key 8 _ rfl n9).trans ?_
        first | rfl | (unfold mdC; simp; done) | (congr)
      · have n9 := hne 42 rfl (by decide)
        rw [hD42] at n9 ⊢
        refine (key 7 _ rfl n9).trans ?_
        first | rfl | (unfold mdC; simp; done) | (congr)
      · have n9 := hne 43 rfl (by decide)
        rw [hD43] at n9 ⊢
        refine (key 5 _ rfl n9).trans ?_
        first | rfl | (unfold mdC; simp; done) | (congr)
      · have n9 := hne 44 rfl (by decide)
        rw [hD44] at n9 ⊢
        refine (key 4 _ rfl n9).trans ?_
        first | rfl | (unfold mdC; simp; done) | (congr)
      · have n9 := hne 45 rfl (by decide)
        rw [hD45] at n9 ⊢
        refine (key 3 _ rfl n9).trans ?_
        first | rfl | (unfold mdC; simp; done) | (congr)
    · by_cases i0 : i = 0
      · by_cases j0 : j = 0
        · rw [i0, j0]
        · rw [i0, hD0] at q; exact absurd q.symm (hne j hj j0)
      · by_cases j0 : j = 0
        · rw [j0, hD0] at q; exact absurd q (hne i hi i0)
        · obtain ⟨p1, a1, a2⟩ := hL i hi i0
          obtain ⟨p2, b1, b2⟩ := hL j hj j0
          exact ixD_i i j hi hj i0 j0 (CH.inj hC26 _ _ _ _ a1 b1 (by rw [← a2, ← b2]; exact q))
  have hfr : ∀ q e, h q = some e → q ≠ m → h27 q = some e := fun q e hq nm => by rw [hEn27, up_n nm]; exact (CH.le hC26) _ _ hq
  have hfp : ∀ i, mi i = true → D i = m ∨ h (D i) = none := fun i hi => by by_cases i0 : i = 0; { left; rw [i0]; exact hD0 }; { right; exact hnm i hi i0 }
  refine ww_st (st' := [.ref (D 10)]) (by rw [hD10]) ?_
  refine cv_X4_62_q (As := []) (rest := []) C dX4_init_135 (ct_X6_begin (Cx.fl C) (Cx.ok C) hX) (rc_X6 (Cx.ok C) (Or.inl (hX.1 10 (by decide)))) rfl rfl (Nat.le_of_ble_eq_true rfl) (by decide) (Nat.zero_le _) (Nat.zero_le _) (fun z9 k9 q9 => ?_)
  obtain ⟨hq, f9, g9, hf9, hg9, hX9, hF9⟩ := q9; replace hq := hq.symm; subst hq
  refine ww_le (kc' := 0) (ns' := 0) (Nat.zero_le _) (Nat.zero_le _) ?_
  have Y40 : k9 (D 40) = some (cI (xG X) 49 f9) := hX9.1 40 (by decide)
  refine ww_extI (g := fun _ => -1) Y40 hf9 ?_
  have hXa := hX9.r (i := 40) (f := fun _ => -1) (by decide)
  have Y41 : (up k9 (D 40) (cI (xG X) 49 (fun _ => -1))) (D 41) = some (cI (xG X) 16 g9) := hXa.1 41 (by decide)
  refine ww_extI (g := fun _ => -1) Y41 hg9 ?_
  have hXb := hXa.r (i := 41) (f := fun _ => -1) (by decide)
  have hFb : FrD h27 (up (up k9 (D 40) (cI (xG X) 49 (fun _ => -1))) (D 41) (cI (xG X) 16 (fun _ => -1))) D := (hF9.w (by decide)).w (by decide)
  exact ww_vret C dX4_init_138 ⟨rfl, D, _, hD0, hXb, ms0_b, ms0_t, rfl, rfl, rfl, hfp, fun q e hq nm => (hFb q (fun i hi e9 => (hfp i hi).elim (fun f => nm (e9.trans f)) (fun f => by rw [← e9, hq] at f; cases f))).trans (hfr q e hq nm)⟩
end INIT
