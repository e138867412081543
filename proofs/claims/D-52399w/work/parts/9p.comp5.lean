section COM5
set_option maxRecDepth 100000
/-- a way by hand: the plain answer and the board behind it, or the exception -/
def UpP (Γ : Gm) (z : ZR) (h : AH) (A : Nat → Nat) (B : GB) (G : GG) (q : (Int32 × Nat) × GB) : Oc → ZR → AH → Prop := Rvx (fun v z' h' => v = .int q.1.1 ∧ z' = z ∧ q.1.2 = 0 ∧ h' = gmH Γ h A G q.2) (fun E _ z' h' => z' = z ∧ h' = h ∧ q.2 = B ∧ ((E = "java/lang/IndexOutOfBoundsException" ∧ q.1.2 = 1) ∨ (E = "java/lang/IllegalStateException" ∧ q.1.2 = 2)))
def bwM (B : GB) (x : Int32) : Nat := match ixO x (Bt B) with
  | none => 0
  | some k => bwC B k (6 * Bz B)
/-- best: a Way, or the exception -/
def BeP (z : ZR) (h : AH) (B : GB) (x : Int32) : Oc → ZR → AH → Prop := Rvx (fun v z' h' => ∃ wy, v = .ref wy ∧ h' = h ∧ zle z z' ∧ ∃ k q, ixO x (Bt B) = some k ∧ bwN B k (6 * Bz B) = some q ∧ z' wy (.inr (22, [.int (nI (q.1 / 6)), .int (nI (q.1 % 6))]))) (fun E _ z' h' => z' = z ∧ h' = h ∧ ((E = "java/lang/IndexOutOfBoundsException" ∧ (aBeC B x).2 = 1) ∨ (E = "java/lang/IllegalStateException" ∧ (aBeC B x).2 = 2)))
theorem uTak_e {B : GB} {x : Int32} : (aCel B x).2 = (uTak B x).1.2 := by
  unfold aCel uTak
  cases ixO x (Bt B) with
  | none => rfl
  | some k => simp only; cases Bp B k <;> rfl
theorem uTak_x {B : GB} {x : Int32} {E e1 e2 : String} (h : (E = e1 ∧ (aCel B x).2 = 1) ∨ (E = e2 ∧ (aCel B x).2 = 2)) : (uTak B x).2 = B := by
  have h : (aCel B x).2 ≠ 0 := by omega
  revert h
  unfold aCel uTak
  cases ixO x (Bt B) with
  | none => intro _; rfl
  | some k =>
    simp only
    cases Bp B k with
    | none => intro _; rfl
    | some y => intro q; exact absurd rfl q
theorem aBeT_e {B : GB} {x : Int32} : (aBeC B x).2 = (aBeT B x).2 := by
  unfold aBeC aBeT
  cases ixO x (Bt B) with
  | none => rfl
  | some k => simp only; cases bwN B k (6 * Bz B) <;> rfl
set_option maxHeartbeats 2000000 in
theorem ct_X1_putTile {l : Launch} {Γ : Gm} (hl : l.flags = flags0) (hΓ : GOK Γ) {z : ZR} {h : AH} {a tp g ah : Nat} {er : Int32} {A : Nat → Nat} {B : GB} {G : GG} {rn dn : Int32} {x y t : Int32} (hz : zle (cst Γ) z) (Ha : rd z h a (.inr (0, [.ref tp, .int er, .ref g, .ref ah]))) (hM : GmM Γ z h g A B G rn dn) (hC : BC B) (han4 : a ≠ A 4) (han6 : a ≠ A 6) (han8 : a ≠ A 8) : Ct l Γ yX1_putTile cX1_putTile 5 (some .int) 9 4 24 [.ref a, .int x, .int y, .int t] z h (UpP Γ z h A B G (uPut B x y t)) := by
  refine Ct.of hl hΓ (by decide +kernel) (Nat.le_of_ble_eq_true rfl) (fun X e1 e2 C => ?_)
  subst e1; subst e2
  have C : Cx X cX1_putTile 5 "RingDomino" "putTile" (some .int) [] 9 := C
  have hB := hC.1
  have hG := GmM.p hz hM
  have Hg := hG.1
  have hzz := BO.z hB
  have hbl := BO.l hB
  have hbt := hB.2.1
  show WW X (UpP (xG X) z h A B G (uPut B x y t)) z h 4 24 0 [(0, .ref a), (1, .int x), (2, .int y), (3, .int t)] []
  refine ww_aload_n C dX1_putTile_0 rfl 0 rfl rfl ?_
  refine gf_X1_50_X1 C dX1_putTile_1 Ha rfl ?_
  refine ww_aload_n C dX1_putTile_4 rfl 0 rfl rfl ?_
  refine ww_iload_n C dX1_putTile_5 rfl 1 rfl ?_
  refine cv_X1_106 (As := [.int x]) (rest := [.ref g]) C dX1_putTile_6 (ct_X1_tile (Cx.fl C) (Cx.ok C) Ha hG) (rc_X1 (Cx.ok C) Ha) rfl rfl (Nat.le_of_ble_eq_true rfl) (by decide) (by omega) (by omega) (fun v9 z9 h9 q9 => ?_) (fun E9 a9 z9 h9 q9 => ?_)
  rotate_left
  · skip
    obtain ⟨hq0, hq1, hq2, hq3⟩ := q9; replace hq0 := hq0.symm; replace hq1 := hq1.symm; replace hq2 := hq2.symm; subst hq0; subst hq1; subst hq2
    exact wx_out C (fun x hx => nomatch hx) ⟨rfl, rfl, by simp only [uPut, ixO_f hq3], Or.inl ⟨rfl, by simp only [uPut, ixO_f hq3]⟩⟩
  obtain ⟨hq0, hq1, hq2, hq3⟩ := q9; replace hq1 := hq1.symm; replace hq2 := hq2.symm; subst hq0; subst hq1; subst hq2
  obtain ⟨k, hk, rfl, hix⟩ := ixB_t (by omega) hq3
  refine ww_aload_n C dX1_putTile_9 rfl 0 rfl rfl ?_
  refine ww_iload_n C dX1_putTile_10 rfl 2 rfl ?_
  refine cv_X1_138 (As := [.int y]) (rest := [.int (nI k), .ref g]) C dX1_putTile_11 (ct_X1_cell (Cx.fl C) (Cx.ok C) Ha hG hB) (rc_X1 (Cx.ok C) Ha) rfl rfl (Nat.le_of_ble_eq_true rfl) (by decide) (by omega) (by omega) (fun v9 z9 h9 q9 => ?_) (fun E9 a9 z9 h9 q9 => ?_)
  rotate_left
  · skip
    obtain ⟨hq0, hq1, hq2, hq3⟩ := q9; replace hq0 := hq0.symm; replace hq1 := hq1.symm; replace hq2 := hq2.symm; subst hq0; subst hq1; subst hq2
    exact wx_out C (fun x hx => nomatch hx) ⟨rfl, rfl, by simp only [uPut, hix, ixO_f hq3], Or.inl ⟨rfl, by simp only [uPut, hix, ixO_f hq3]⟩⟩
  obtain ⟨hq0, hq1, hq2, hq3⟩ := q9; replace hq1 := hq1.symm; replace hq2 := hq2.symm; subst hq0; subst hq1; subst hq2
  obtain ⟨c, hc, rfl, hiy⟩ := ixB_t (by omega) hq3
  refine ww_aload_n C dX1_putTile_14 rfl 0 rfl rfl ?_
  refine ww_iload_n C dX1_putTile_15 rfl 3 rfl ?_
  refine cv_X1_172 (As := [.int t]) (rest := [.int (nI c), .int (nI k), .ref g]) C dX1_putTile_16 (ct_X1_edge (Cx.fl C) (Cx.ok C)) (rc_X1 (Cx.ok C) Ha) rfl rfl (Nat.le_of_ble_eq_true rfl) (by decide) (by omega) (by omega) (fun v9 z9 h9 q9 => ?_) (fun E9 a9 z9 h9 q9 => ?_)
  rotate_left
  · skip
    obtain ⟨hq0, hq1, hq2, hq3⟩ := q9; replace hq0 := hq0.symm; replace hq1 := hq1.symm; replace hq2 := hq2.symm; subst hq0; subst hq1; subst hq2
    exact wx_out C (fun x hx => nomatch hx) ⟨rfl, rfl, by simp only [uPut, hix, hiy, ixO_f hq3], Or.inl ⟨rfl, by simp only [uPut, hix, hiy, ixO_f hq3]⟩⟩
  obtain ⟨hq0, hq1, hq2, hq3⟩ := q9; replace hq1 := hq1.symm; replace hq2 := hq2.symm; subst hq0; subst hq1; subst hq2
  obtain ⟨u, hu, rfl, hit⟩ := ixB_t (by omega) hq3
  refine cv_X1_175_r (As := [.int (nI k), .int (nI c), .int (nI u)]) (rest := []) C dX1_putTile_19 (ct_X3_fits (Cx.fl C) (Cx.ok C) hz hG hB hk (by omega) hu) (rc_X3 (Cx.ok C) Hg) rfl rfl (Nat.le_of_ble_eq_true rfl) (by decide) (Nat.zero_le _) (Nat.zero_le _) ?_
  refine cs_X1_59 (As := [.int (bI (ftN B k c u))]) (rest := []) C dX1_putTile_22 (ct_X1_requireState (Cx.fl C) (Cx.ok C)) rfl rfl (Nat.le_of_ble_eq_true rfl) (by decide) (by omega) (by omega) (fun z9 h9 q9 => ?_) (fun E9 a9 z9 h9 q9 => ?_)
  rotate_left
  · skip
    obtain ⟨hq0, hq1, hq2, hq3⟩ := q9; replace hq0 := hq0.symm; replace hq1 := hq1.symm; replace hq2 := hq2.symm; subst hq0; subst hq1; subst hq2
    exact wx_out C (fun x hx => nomatch hx) ⟨rfl, rfl, by simp only [uPut, hix, hiy, hit, hq3], Or.inr ⟨rfl, by simp only [uPut, hix, hiy, hit, hq3]⟩⟩
  obtain ⟨hq1, hq2, hq3⟩ := q9; replace hq1 := hq1.symm; replace hq2 := hq2.symm; subst hq1; subst hq2
  obtain ⟨hl0, hp0⟩ := ftN_d hq3
  have hC9 := BC_put hC hk hc hu hl0 hp0
  refine ww_aload_n C dX1_putTile_25 rfl 0 rfl rfl ?_
  refine gf_X1_50_X1 C dX1_putTile_26 Ha rfl ?_
  refine cv_X1_129_r (As := []) (rest := []) C dX1_putTile_29 (ct_X3_points (Cx.fl C) (Cx.ok C) hz hG hB) (rc_X3 (Cx.ok C) Hg) rfl rfl (Nat.le_of_ble_eq_true rfl) (by decide) (Nat.zero_le _) (Nat.zero_le _) ?_
  refine ww_istore (lv' := [(4, .int (nI (poN B))), (0, .ref a), (1, .int (nI k)), (2, .int (nI c)), (3, .int (nI u))]) C dX1_putTile_32 (by decide) rfl ?_
  refine ww_aload_n C dX1_putTile_34 rfl 1 rfl rfl ?_
  refine gf_X1_50_X1 C dX1_putTile_35 Ha rfl ?_
  refine ww_iload_n C dX1_putTile_38 rfl 2 rfl ?_
  refine ww_iload_n C dX1_putTile_39 rfl 3 rfl ?_
  refine ww_iload_n C dX1_putTile_40 rfl 4 rfl ?_
  refine cv_X1_192_q (As := [.int (nI k), .int (nI c), .int (nI u)]) (rest := []) C dX1_putTile_41 (ct_X3_put (Cx.fl C) (Cx.ok C) hz hM hB hk (by omega) hu) (rc_X3 (Cx.ok C) Hg) rfl rfl (Nat.le_of_ble_eq_true rfl) (by decide) (Nat.zero_le _) (Nat.zero_le _) (fun v9 z9 h9 q9 => ?_)
  obtain ⟨rfl, hz9, hh9⟩ := q9; replace hz9 := hz9.symm; subst hz9
  have hM9 := hM.st (B' := putB B k c u) hk rfl rfl
  rw [← hh9] at hM9
  have hG9 := GmM.p hz hM9
  have Ha9 : rd z h9 a (.inr (0, [.ref tp, .int er, .ref g, .ref ah])) := Ha.imp (fun q => by rw [hh9, gmH_n han4 han6 han8]; exact q) id
  refine ww_pop C dX1_putTile_44 rfl ?_
  refine ww_aload_n C dX1_putTile_45 rfl 1 rfl rfl ?_
  refine gf_X1_50_X1 C dX1_putTile_46 Ha9 rfl ?_
  refine cv_X1_129_r (As := []) (rest := []) C dX1_putTile_49 (ct_X3_points (Cx.fl C) (Cx.ok C) hz hG9 hC9.1) (rc_X3 (Cx.ok C) hG9.1) rfl rfl (Nat.le_of_ble_eq_true rfl) (by decide) (Nat.zero_le _) (Nat.zero_le _) ?_
  refine ww_iload C dX1_putTile_52 0 rfl ?_
  refine ww_isub C dX1_putTile_54 ?_
  have han : uPut B (nI k) (nI c) (nI u) = ((nI (poN (putB B k c u)) - nI (poN B), 0), putB B k c u) := by simp only [uPut, hix, hiy, hit, hq3]
  exact ww_iret C dX1_putTile_55 ⟨by rw [han], rfl, by rw [han], by rw [han]; exact hh9⟩
set_option maxHeartbeats 2000000 in
theorem ct_X1_takeTile {l : Launch} {Γ : Gm} (hl : l.flags = flags0) (hΓ : GOK Γ) {z : ZR} {h : AH} {a tp g ah : Nat} {er : Int32} {A : Nat → Nat} {B : GB} {G : GG} {rn dn : Int32} {x : Int32} (hz : zle (cst Γ) z) (Ha : rd z h a (.inr (0, [.ref tp, .int er, .ref g, .ref ah]))) (hM : GmM Γ z h g A B G rn dn) (hC : BC B) (han4 : a ≠ A 4) (han6 : a ≠ A 6) (han8 : a ≠ A 8) : Ct l Γ yX1_takeTile cX1_takeTile 3 (some .int) 9 2 12 [.ref a, .int x] z h (UpP Γ z h A B G (uTak B x)) := by
  refine Ct.of hl hΓ (by decide +kernel) (Nat.le_of_ble_eq_true rfl) (fun X e1 e2 C => ?_)
  subst e1; subst e2
  have C : Cx X cX1_takeTile 3 "RingDomino" "takeTile" (some .int) [] 9 := C
  have hB := hC.1
  have hG := GmM.p hz hM
  have Hg := hG.1
  have hzz := BO.z hB
  have hbl := BO.l hB
  have hbt := hB.2.1
  show WW X (UpP (xG X) z h A B G (uTak B x)) z h 2 12 0 [(0, .ref a), (1, .int x)] []
  refine ww_aload_n C dX1_takeTile_0 rfl 0 rfl rfl ?_
  refine gf_X1_50_X1 C dX1_takeTile_1 Ha rfl ?_
  refine cv_X1_129_r (As := []) (rest := []) C dX1_takeTile_4 (ct_X3_points (Cx.fl C) (Cx.ok C) hz hG hB) (rc_X3 (Cx.ok C) Hg) rfl rfl (Nat.le_of_ble_eq_true rfl) (by decide) (Nat.zero_le _) (Nat.zero_le _) ?_
  refine ww_istore_n (lv' := [(2, .int (nI (poN B))), (0, .ref a), (1, .int x)]) C dX1_takeTile_7 rfl (by decide) rfl ?_
  refine ww_aload_n C dX1_takeTile_8 rfl 1 rfl rfl ?_
  refine gf_X1_50_X1 C dX1_takeTile_9 Ha rfl ?_
  refine ww_aload_n C dX1_takeTile_12 rfl 1 rfl rfl ?_
  refine ww_iload_n C dX1_takeTile_13 rfl 2 rfl ?_
  refine cv_X1_160 (As := [.int x]) (rest := [.ref g]) C dX1_takeTile_14 (ct_X1_lying (Cx.fl C) (Cx.ok C) hz Ha hG hB) (rc_X1 (Cx.ok C) Ha) rfl rfl (Nat.le_of_ble_eq_true rfl) (by decide) (by omega) (by omega) (fun v9 z9 h9 q9 => ?_) (fun E9 a9 z9 h9 q9 => ?_)
  rotate_left
  · skip
    obtain ⟨hq1, hq2, hq3⟩ := q9; replace hq1 := hq1.symm; replace hq2 := hq2.symm; subst hq1; subst hq2
    exact wx_out C (fun x hx => nomatch hx) ⟨rfl, rfl, uTak_x hq3, uTak_e ▸ hq3⟩
  obtain ⟨hq0, hq1, hq2, c, y, hc, rfl, hix, hy⟩ := q9; replace hq1 := hq1.symm; replace hq2 := hq2.symm; subst hq0; subst hq1; subst hq2
  have hC9 := BC_tak hC hy
  refine cv_X1_194_q (As := [.int (nI c)]) (rest := []) C dX1_takeTile_17 (ct_X3_take (Cx.fl C) (Cx.ok C) hz hM hB hc hy) (rc_X3 (Cx.ok C) Hg) rfl rfl (Nat.le_of_ble_eq_true rfl) (by decide) (Nat.zero_le _) (Nat.zero_le _) (fun v9 z9 h9 q9 => ?_)
  obtain ⟨rfl, hz9, hh9⟩ := q9; replace hz9 := hz9.symm; subst hz9
  have hM9 := hM.st (B' := takB B c) hc rfl rfl
  rw [← hh9] at hM9
  have hG9 := GmM.p hz hM9
  have Ha9 : rd z h9 a (.inr (0, [.ref tp, .int er, .ref g, .ref ah])) := Ha.imp (fun q => by rw [hh9, gmH_n han4 han6 han8]; exact q) id
  refine ww_pop C dX1_takeTile_20 rfl ?_
  refine ww_iload_n C dX1_takeTile_21 rfl 0 rfl ?_
  refine ww_aload_n C dX1_takeTile_22 rfl 1 rfl rfl ?_
  refine gf_X1_50_X1 C dX1_takeTile_23 Ha9 rfl ?_
  refine cv_X1_129_r (As := []) (rest := [.int (nI (poN B))]) C dX1_takeTile_26 (ct_X3_points (Cx.fl C) (Cx.ok C) hz hG9 hC9.1) (rc_X3 (Cx.ok C) hG9.1) rfl rfl (Nat.le_of_ble_eq_true rfl) (by decide) (Nat.zero_le _) (Nat.zero_le _) ?_
  refine ww_isub C dX1_takeTile_29 ?_
  have han : uTak B (nI c) = ((nI (poN B) - nI (poN (takB B c)), 0), takB B c) := by simp only [uTak, hix, hy]
  exact ww_iret C dX1_takeTile_30 ⟨by rw [han], rfl, by rw [han], by rw [han]; exact hh9⟩
set_option maxHeartbeats 2000000 in
theorem ct_X1_fitTile {l : Launch} {Γ : Gm} (hl : l.flags = flags0) (hΓ : GOK Γ) {z : ZR} {h : AH} {a tp g ah : Nat} {er : Int32} {A : Nat → Nat} {B : GB} {G : GG} {rn dn : Int32} {x : Int32} (hz : zle (cst Γ) z) (Ha : rd z h a (.inr (0, [.ref tp, .int er, .ref g, .ref ah]))) (hM : GmM Γ z h g A B G rn dn) (hC : BC B) (han4 : a ≠ A 4) (han6 : a ≠ A 6) (han8 : a ≠ A 8) : Ct l Γ yX1_fitTile cX1_fitTile 3 (some .int) 9 4 15 [.ref a, .int x] z h (UpP Γ z h A B G (uFit B x)) := by
  refine Ct.of hl hΓ (by decide +kernel) (Nat.le_of_ble_eq_true rfl) (fun X e1 e2 C => ?_)
  subst e1; subst e2
  have C : Cx X cX1_fitTile 3 "RingDomino" "fitTile" (some .int) [] 9 := C
  have hB := hC.1
  have hG := GmM.p hz hM
  have Hg := hG.1
  have hzz := BO.z hB
  have hbl := BO.l hB
  have hbt := hB.2.1
  show WW X (UpP (xG X) z h A B G (uFit B x)) z h 4 15 0 [(0, .ref a), (1, .int x)] []
  refine ww_aload_n C dX1_fitTile_0 rfl 0 rfl rfl ?_
  refine gf_X1_50_X1 C dX1_fitTile_1 Ha rfl ?_
  refine ww_aload_n C dX1_fitTile_4 rfl 0 rfl rfl ?_
  refine ww_iload_n C dX1_fitTile_5 rfl 1 rfl ?_
  refine cv_X1_106 (As := [.int x]) (rest := [.ref g]) C dX1_fitTile_6 (ct_X1_tile (Cx.fl C) (Cx.ok C) Ha hG) (rc_X1 (Cx.ok C) Ha) rfl rfl (Nat.le_of_ble_eq_true rfl) (by decide) (by omega) (by omega) (fun v9 z9 h9 q9 => ?_) (fun E9 a9 z9 h9 q9 => ?_)
  rotate_left
  · skip
    obtain ⟨hq0, hq1, hq2, hq3⟩ := q9; replace hq0 := hq0.symm; replace hq1 := hq1.symm; replace hq2 := hq2.symm; subst hq0; subst hq1; subst hq2
    exact wx_out C (fun x hx => nomatch hx) ⟨rfl, rfl, by simp only [uFit, ixO_f hq3], Or.inl ⟨rfl, by simp only [uFit, ixO_f hq3]⟩⟩
  obtain ⟨hq0, hq1, hq2, hq3⟩ := q9; replace hq1 := hq1.symm; replace hq2 := hq2.symm; subst hq0; subst hq1; subst hq2
  obtain ⟨k, hk, rfl, hix⟩ := ixB_t (by omega) hq3
  refine ww_z0 (fun hz0 => ?_)
  refine cv_X1_197_q (As := [.int (nI k)]) (rest := []) C dX1_fitTile_9 (ct_X3_firstWay (Cx.fl C) (Cx.ok C) hz hM hB hk) (rc_X3 (Cx.ok C) Hg) rfl rfl (Nat.le_of_ble_eq_true rfl) (by decide) (by decide) (by decide) (fun v z2 h2 q => ?_)
  obtain ⟨ow, rfl, hq1, hq2, hq3⟩ := q; replace hq1 := hq1.symm; subst hq1
  refine ww_astore_n (lv' := [(2, .ref ow), (0, .ref a), (1, .int (nI k))]) C dX1_fitTile_12 rfl (by decide) rfl rfl ?_
  refine ww_aload_n C dX1_fitTile_13 rfl 0 rfl rfl ?_
  cases hf : fwN B k with
  | none =>
    rw [hf] at hq3
    have How : rd z2 h ow (.inr (30, [va_rf none])) := Or.inr hq3
    refine cv_X1_201_r (As := []) (rest := []) C dX1_fitTile_14 (ct_J31_isPresent (Cx.fl C) (Cx.ok C) How) (rc_J31 (Cx.ok C) How) rfl rfl (Nat.le_of_ble_eq_true rfl) (by decide) (Nat.zero_le _) (Nat.zero_le _) ?_
    refine ww_zs hz0 hq2 ?_
    show WW X (UpP (xG X) z h A B G (uFit B (nI k))) z h 1 6 17 [(2, .ref ow), (0, .ref a), (1, .int (nI k))] [.int (bI ((none : Option Nat).isSome))]
    refine cs_X1_59 (As := [.int (bI ((none : Option Nat).isSome))]) (rest := []) C dX1_fitTile_17 (ct_X1_requireState (Cx.fl C) (Cx.ok C)) rfl rfl (Nat.le_of_ble_eq_true rfl) (by decide) (by omega) (by omega) (fun z9 h9 q9 => ?_) (fun E9 a9 z9 h9 q9 => ?_)
    rotate_left
    · skip
      obtain ⟨hq0, hq1, hq2, hq3⟩ := q9; replace hq0 := hq0.symm; replace hq1 := hq1.symm; replace hq2 := hq2.symm; subst hq0; subst hq1; subst hq2
      exact wx_out C (fun x hx => nomatch hx) ⟨rfl, rfl, by simp only [uFit, hix, hf], Or.inr ⟨rfl, by simp only [uFit, hix, hf]⟩⟩
    obtain ⟨hq1, hq2, hq3⟩ := q9; replace hq1 := hq1.symm; replace hq2 := hq2.symm; subst hq1; subst hq2
    cases hq3
  | some y =>
    rw [hf] at hq3; obtain ⟨wy, hq3, hq4⟩ := hq3
    have hOw := hq3
    have How : rd z2 h ow (.inr (30, [va_rf (some wy)])) := Or.inr hq3
    have hyl := (ff_lt _ _ _ hf).1
    have hfp := (ff_lt _ _ _ hf).2
    refine cv_X1_201_r (As := []) (rest := []) C dX1_fitTile_14 (ct_J31_isPresent (Cx.fl C) (Cx.ok C) How) (rc_J31 (Cx.ok C) How) rfl rfl (Nat.le_of_ble_eq_true rfl) (by decide) (Nat.zero_le _) (Nat.zero_le _) ?_
    refine cs_X1_59 (As := [.int (bI ((some wy : Option Nat).isSome))]) (rest := []) C dX1_fitTile_17 (ct_X1_requireState (Cx.fl C) (Cx.ok C)) rfl rfl (Nat.le_of_ble_eq_true rfl) (by decide) (by omega) (by omega) (fun z9 h9 q9 => ?_) (fun E9 a9 z9 h9 q9 => ?_)
    rotate_left
    · skip
      obtain ⟨hq0, hq1, hq2, hq3⟩ := q9; replace hq0 := hq0.symm; replace hq1 := hq1.symm; replace hq2 := hq2.symm; subst hq0; subst hq1; subst hq2
      cases hq3
    obtain ⟨hq1, hq2, hq3⟩ := q9; replace hq1 := hq1.symm; replace hq2 := hq2.symm; subst hq1; subst hq2
    have hz2 := hz.tr hq2
    have hM2 := hM.zm hq2
    have Ha := Ha.mono hq2 hle.rf
    have Hg := Hg.mono hq2 hle.rf
    refine ww_aload_n C dX1_fitTile_20 rfl 1 rfl rfl ?_
    refine gf_X1_50_X1 C dX1_fitTile_21 Ha rfl ?_
    refine ww_iload_n C dX1_fitTile_24 rfl 2 rfl ?_
    refine ww_aload_n C dX1_fitTile_25 rfl 0 rfl rfl ?_
    refine cv_X1_207_r (As := []) (rest := [.int (nI k), .ref g]) C dX1_fitTile_26 (ct_J31_get (Cx.fl C) (Cx.ok C) How) (rc_J31 (Cx.ok C) How) rfl rfl (Nat.le_of_ble_eq_true rfl) (by decide) (Nat.zero_le _) (Nat.zero_le _) ?_
    refine ww_castS (ci := 22) C q2683 rfl dX1_fitTile_29 (rc_X25 (Cx.ok C) (Or.inr hq4)) ?_
    refine cv_X1_212_q (As := [.int (nI k), .ref wy]) (rest := []) C dX1_fitTile_32 (ct_X3_put_2 (Cx.fl C) (Cx.ok C) hz2 hM2 hB hk (by omega) (by omega) (Or.inr hq4)) (rc_X3 (Cx.ok C) Hg) rfl rfl (Nat.le_of_ble_eq_true rfl) (by decide) (Nat.zero_le _) (Nat.zero_le _) (fun v9 z9 h9 q9 => ?_)
    obtain ⟨rfl, hz9, hh9⟩ := q9; replace hz9 := hz9.symm; subst hz9
    have How : rd z2 h9 ow (.inr (30, [va_rf (some wy)])) := Or.inr hOw
    refine ww_pop C dX1_fitTile_35 rfl ?_
    refine ww_aload_n C dX1_fitTile_36 rfl 0 rfl rfl ?_
    refine cv_X1_207_r (As := []) (rest := []) C dX1_fitTile_37 (ct_J31_get (Cx.fl C) (Cx.ok C) How) (rc_J31 (Cx.ok C) How) rfl rfl (Nat.le_of_ble_eq_true rfl) (by decide) (Nat.zero_le _) (Nat.zero_le _) ?_
    refine ww_castS (ci := 22) C q2683 rfl dX1_fitTile_40 (rc_X25 (Cx.ok C) (Or.inr hq4)) ?_
    refine gf_X1_215_X25 C dX1_fitTile_43 (Or.inr hq4) rfl ?_
    have han : uFit B (nI k) = ((nI (y / 6), 0), putB B k (y / 6) (y % 6)) := by simp only [uFit, hix, hf]
    refine ww_zs hz0 hq2 ?_
    exact ww_iret C dX1_fitTile_46 ⟨by rw [han], rfl, by rw [han], by rw [han]; exact hh9⟩
set_option maxHeartbeats 2000000 in
theorem ct_X1_best {l : Launch} {Γ : Gm} (hl : l.flags = flags0) (hΓ : GOK Γ) {z : ZR} {h : AH} {a tp g ah : Nat} {er : Int32} {A : Nat → Nat} {B : GB} {G : GG} {rn dn : Int32} {x : Int32} (hz : zle (cst Γ) z) (Ha : rd z h a (.inr (0, [.ref tp, .int er, .ref g, .ref ah]))) (hM : GmM Γ z h g A B G rn dn) (hC : BC B) : Ct l Γ yX1_best cX1_best 3 (some (.object "RingDomino$Way")) 9 (2 * bwM B x + 2) (3 * bwM B x + 12) [.ref a, .int x] z h (BeP z h B x) := by
  refine Ct.of hl hΓ (by decide +kernel) (Nat.le_of_ble_eq_true rfl) (fun X e1 e2 C => ?_)
  subst e1; subst e2
  have C : Cx X cX1_best 3 "RingDomino" "best" (some (.object "RingDomino$Way")) [] 9 := C
  have hB := hC.1
  have hG := GmM.p hz hM
  have Hg := hG.1
  have hzz := BO.z hB
  have hbl := BO.l hB
  have hbt := hB.2.1
  show WW X (BeP z h B x) z h (2 * bwM B x + 2) (3 * bwM B x + 12) 0 [(0, .ref a), (1, .int x)] []
  refine ww_aload_n C dX1_best_0 rfl 0 rfl rfl ?_
  refine gf_X1_50_X1 C dX1_best_1 Ha rfl ?_
  refine ww_aload_n C dX1_best_4 rfl 0 rfl rfl ?_
  refine ww_iload_n C dX1_best_5 rfl 1 rfl ?_
  refine cv_X1_106 (As := [.int x]) (rest := [.ref g]) C dX1_best_6 (ct_X1_tile (Cx.fl C) (Cx.ok C) Ha hG) (rc_X1 (Cx.ok C) Ha) rfl rfl (Nat.le_of_ble_eq_true rfl) (by decide) (by omega) (by omega) (fun v9 z9 h9 q9 => ?_) (fun E9 a9 z9 h9 q9 => ?_)
  rotate_left
  · skip
    obtain ⟨hq0, hq1, hq2, hq3⟩ := q9; replace hq0 := hq0.symm; replace hq1 := hq1.symm; replace hq2 := hq2.symm; subst hq0; subst hq1; subst hq2
    exact wx_out C (fun x hx => nomatch hx) ⟨rfl, rfl, Or.inl ⟨rfl, by simp only [aBeC, ixO_f hq3]⟩⟩
  obtain ⟨hq0, hq1, hq2, hq3⟩ := q9; replace hq1 := hq1.symm; replace hq2 := hq2.symm; subst hq0; subst hq1; subst hq2
  obtain ⟨k, hk, rfl, hix⟩ := ixB_t (by omega) hq3
  have hbm : bwM B (nI k) = bwC B k (6 * Bz B) := by simp only [bwM, hix]
  refine ww_le (kc' := 2 * bwC B k (6 * Bz B) + 1) (ns' := 3 * bwC B k (6 * Bz B) + 6) (by omega) (by omega) ?_
  refine ww_z0 (fun hz0 => ?_)
  refine cv_X1_227_q (As := [.int (nI k)]) (rest := []) C dX1_best_9 (ct_X3_bestWay (Cx.fl C) (Cx.ok C) hz hM hB hC.2.1 hk) (rc_X3 (Cx.ok C) Hg) rfl rfl (Nat.le_of_ble_eq_true rfl) (by decide) (by omega) (by omega) (fun v z2 h2 q => ?_)
  obtain ⟨ow, rfl, hq1, hq2, hq3⟩ := q; replace hq1 := hq1.symm; subst hq1
  refine ww_le (kc' := 1) (ns' := 6) (by omega) (by omega) ?_
  refine ww_astore_n (lv' := [(2, .ref ow), (0, .ref a), (1, .int (nI k))]) C dX1_best_12 rfl (by decide) rfl rfl ?_
  refine ww_aload_n C dX1_best_13 rfl 0 rfl rfl ?_
  cases hf : bwN B k (6 * Bz B) with
  | none =>
    rw [hf] at hq3
    have How : rd z2 h ow (.inr (30, [va_rf none])) := Or.inr hq3
    refine cv_X1_201_r (As := []) (rest := []) C dX1_best_14 (ct_J31_isPresent (Cx.fl C) (Cx.ok C) How) (rc_J31 (Cx.ok C) How) rfl rfl (Nat.le_of_ble_eq_true rfl) (by decide) (Nat.zero_le _) (Nat.zero_le _) ?_
    refine ww_zs hz0 hq2 ?_
    show WW X (BeP z h B (nI k)) z h 1 6 17 [(2, .ref ow), (0, .ref a), (1, .int (nI k))] [.int (bI ((none : Option Nat).isSome))]
    refine cs_X1_59 (As := [.int (bI ((none : Option Nat).isSome))]) (rest := []) C dX1_best_17 (ct_X1_requireState (Cx.fl C) (Cx.ok C)) rfl rfl (Nat.le_of_ble_eq_true rfl) (by decide) (by omega) (by omega) (fun z9 h9 q9 => ?_) (fun E9 a9 z9 h9 q9 => ?_)
    rotate_left
    · skip
      obtain ⟨hq0, hq1, hq2, hq3⟩ := q9; replace hq0 := hq0.symm; replace hq1 := hq1.symm; replace hq2 := hq2.symm; subst hq0; subst hq1; subst hq2
      exact wx_out C (fun x hx => nomatch hx) ⟨rfl, rfl, Or.inr ⟨rfl, by simp only [aBeC, hix, hf]⟩⟩
    obtain ⟨hq1, hq2, hq3⟩ := q9; replace hq1 := hq1.symm; replace hq2 := hq2.symm; subst hq1; subst hq2
    cases hq3
  | some q =>
    rw [hf] at hq3; obtain ⟨wy, hq3, hq4⟩ := hq3
    have hOw := hq3
    have How : rd z2 h ow (.inr (30, [va_rf (some wy)])) := Or.inr hq3
    refine cv_X1_201_r (As := []) (rest := []) C dX1_best_14 (ct_J31_isPresent (Cx.fl C) (Cx.ok C) How) (rc_J31 (Cx.ok C) How) rfl rfl (Nat.le_of_ble_eq_true rfl) (by decide) (Nat.zero_le _) (Nat.zero_le _) ?_
    refine cs_X1_59 (As := [.int (bI ((some wy : Option Nat).isSome))]) (rest := []) C dX1_best_17 (ct_X1_requireState (Cx.fl C) (Cx.ok C)) rfl rfl (Nat.le_of_ble_eq_true rfl) (by decide) (by omega) (by omega) (fun z9 h9 q9 => ?_) (fun E9 a9 z9 h9 q9 => ?_)
    rotate_left
    · skip
      obtain ⟨hq0, hq1, hq2, hq3⟩ := q9; replace hq0 := hq0.symm; replace hq1 := hq1.symm; replace hq2 := hq2.symm; subst hq0; subst hq1; subst hq2
      cases hq3
    obtain ⟨hq1, hq2, hq3⟩ := q9; replace hq1 := hq1.symm; replace hq2 := hq2.symm; subst hq1; subst hq2
    refine ww_aload_n C dX1_best_20 rfl 0 rfl rfl ?_
    refine cv_X1_207_r (As := []) (rest := []) C dX1_best_21 (ct_J31_get (Cx.fl C) (Cx.ok C) How) (rc_J31 (Cx.ok C) How) rfl rfl (Nat.le_of_ble_eq_true rfl) (by decide) (Nat.zero_le _) (Nat.zero_le _) ?_
    refine ww_castS (ci := 22) C q2683 rfl dX1_best_24 (rc_X25 (Cx.ok C) (Or.inr hq4)) ?_
    exact ww_aret C (Or.inl ⟨_, rfl⟩) dX1_best_27 rfl ⟨wy, rfl, rfl, hq2, k, q, hix, hf, hq4⟩
set_option maxHeartbeats 2000000 in
theorem ct_X1_bestCell {l : Launch} {Γ : Gm} (hl : l.flags = flags0) (hΓ : GOK Γ) {z : ZR} {h : AH} {a tp g ah : Nat} {er : Int32} {A : Nat → Nat} {B : GB} {G : GG} {rn dn : Int32} {x : Int32} (hz : zle (cst Γ) z) (Ha : rd z h a (.inr (0, [.ref tp, .int er, .ref g, .ref ah]))) (hM : GmM Γ z h g A B G rn dn) (hC : BC B) : Ct l Γ yX1_bestCell cX1_bestCell 2 (some .int) 10 (2 * bwM B x + 2) (3 * bwM B x + 12) [.ref a, .int x] z h (AnP z h (aBeC B x)) := by
  refine Ct.of hl hΓ (by decide +kernel) (Nat.le_of_ble_eq_true rfl) (fun X e1 e2 C => ?_)
  subst e1; subst e2
  have C : Cx X cX1_bestCell 2 "RingDomino" "bestCell" (some .int) [] 10 := C
  have hB := hC.1
  have hG := GmM.p hz hM
  have Hg := hG.1
  have hzz := BO.z hB
  have hbl := BO.l hB
  have hbt := hB.2.1
  show WW X (AnP z h (aBeC B x)) z h (2 * bwM B x + 2) (3 * bwM B x + 12) 0 [(0, .ref a), (1, .int x)] []
  refine ww_aload_n C dX1_bestCell_0 rfl 0 rfl rfl ?_
  refine ww_iload_n C dX1_bestCell_1 rfl 1 rfl ?_
  refine ww_z0 (fun hz0 => ?_)
  refine cv_X1_230 (As := [.int x]) (rest := []) C dX1_bestCell_2 (ct_X1_best (Cx.fl C) (Cx.ok C) hz Ha hM hC) (rc_X1 (Cx.ok C) Ha) rfl rfl (Nat.le_of_ble_eq_true rfl) (by decide) (by omega) (by omega) (fun v9 z9 h9 q9 => ?_) (fun E9 a9 z9 h9 q9 => ?_)
  rotate_left
  · skip
    obtain ⟨hq1, hq2, hq3⟩ := q9; replace hq1 := hq1.symm; replace hq2 := hq2.symm; subst hq1; subst hq2
    exact wx_out C (fun x hx => nomatch hx) ⟨rfl, rfl, hq3⟩
  obtain ⟨wy, hq0, hq1, hq2, k, q, hix, hf, hq4⟩ := q9; replace hq1 := hq1.symm; subst hq0; subst hq1
  refine ww_le (kc' := 0) (ns' := 0) (Nat.zero_le _) (Nat.zero_le _) ?_
  refine gf_X1_215_X25 C dX1_bestCell_5 (Or.inr hq4) rfl ?_
  have han : aBeC B x = (nI (q.1 / 6), 0) := by simp only [aBeC, hix, hf]
  refine ww_zs hz0 hq2 ?_
  exact ww_iret C dX1_bestCell_8 ⟨by rw [han], rfl, rfl, by rw [han]⟩
set_option maxHeartbeats 2000000 in
theorem ct_X1_bestTurn {l : Launch} {Γ : Gm} (hl : l.flags = flags0) (hΓ : GOK Γ) {z : ZR} {h : AH} {a tp g ah : Nat} {er : Int32} {A : Nat → Nat} {B : GB} {G : GG} {rn dn : Int32} {x : Int32} (hz : zle (cst Γ) z) (Ha : rd z h a (.inr (0, [.ref tp, .int er, .ref g, .ref ah]))) (hM : GmM Γ z h g A B G rn dn) (hC : BC B) : Ct l Γ yX1_bestTurn cX1_bestTurn 2 (some .int) 10 (2 * bwM B x + 2) (3 * bwM B x + 12) [.ref a, .int x] z h (AnP z h (aBeT B x)) := by
  refine Ct.of hl hΓ (by decide +kernel) (Nat.le_of_ble_eq_true rfl) (fun X e1 e2 C => ?_)
  subst e1; subst e2
  have C : Cx X cX1_bestTurn 2 "RingDomino" "bestTurn" (some .int) [] 10 := C
  have hB := hC.1
  have hG := GmM.p hz hM
  have Hg := hG.1
  have hzz := BO.z hB
  have hbl := BO.l hB
  have hbt := hB.2.1
  show WW X (AnP z h (aBeT B x)) z h (2 * bwM B x + 2) (3 * bwM B x + 12) 0 [(0, .ref a), (1, .int x)] []
  refine ww_aload_n C dX1_bestTurn_0 rfl 0 rfl rfl ?_
  refine ww_iload_n C dX1_bestTurn_1 rfl 1 rfl ?_
  refine ww_z0 (fun hz0 => ?_)
  refine cv_X1_230 (As := [.int x]) (rest := []) C dX1_bestTurn_2 (ct_X1_best (Cx.fl C) (Cx.ok C) hz Ha hM hC) (rc_X1 (Cx.ok C) Ha) rfl rfl (Nat.le_of_ble_eq_true rfl) (by decide) (by omega) (by omega) (fun v9 z9 h9 q9 => ?_) (fun E9 a9 z9 h9 q9 => ?_)
  rotate_left
  · skip
    obtain ⟨hq1, hq2, hq3⟩ := q9; replace hq1 := hq1.symm; replace hq2 := hq2.symm; subst hq1; subst hq2
    exact wx_out C (fun x hx => nomatch hx) ⟨rfl, rfl, aBeT_e ▸ hq3⟩
  obtain ⟨wy, hq0, hq1, hq2, k, q, hix, hf, hq4⟩ := q9; replace hq1 := hq1.symm; subst hq0; subst hq1
  refine ww_le (kc' := 0) (ns' := 0) (Nat.zero_le _) (Nat.zero_le _) ?_
  refine gf_X1_234_X25 C dX1_bestTurn_5 (Or.inr hq4) rfl ?_
  have han : aBeT B x = (nI (q.1 % 6), 0) := by simp only [aBeT, hix, hf]
  refine ww_zs hz0 hq2 ?_
  exact ww_iret C dX1_bestTurn_8 ⟨by rw [han], rfl, rfl, by rw [han]⟩
set_option maxHeartbeats 2000000 in
theorem ct_X1_bestTile {l : Launch} {Γ : Gm} (hl : l.flags = flags0) (hΓ : GOK Γ) {z : ZR} {h : AH} {a tp g ah : Nat} {er : Int32} {A : Nat → Nat} {B : GB} {G : GG} {rn dn : Int32} (hz : zle (cst Γ) z) (Ha : rd z h a (.inr (0, [.ref tp, .int er, .ref g, .ref ah]))) (hM : GmM Γ z h g A B G rn dn) (hC : BC B) : Ct l Γ yX1_bestTile cX1_bestTile 1 (some .int) 10 (2 * btC B (Bt B)) (3 * btC B (Bt B)) [.ref a] z h (RdP z h (some (.int (oI ((btN B (Bt B)).map Prod.fst))))) := by
  refine Ct.of hl hΓ (by decide +kernel) (Nat.le_of_ble_eq_true rfl) (fun X e1 e2 C => ?_)
  subst e1; subst e2
  have C : Cx X cX1_bestTile 1 "RingDomino" "bestTile" (some .int) [] 10 := C
  have hB := hC.1
  have hG := GmM.p hz hM
  have Hg := hG.1
  have hzz := BO.z hB
  have hbl := BO.l hB
  have hbt := hB.2.1
  show WW X (RdP z h (some (.int (oI ((btN B (Bt B)).map Prod.fst))))) z h (2 * btC B (Bt B)) (3 * btC B (Bt B)) 0 [(0, .ref a)] []
  refine ww_aload_n C dX1_bestTile_0 rfl 0 rfl rfl ?_
  refine gf_X1_50_X1 C dX1_bestTile_1 Ha rfl ?_
  refine cv_X1_237_r (As := []) (rest := []) C dX1_bestTile_4 (ct_X3_bestTile (Cx.fl C) (Cx.ok C) hz hM hB hC.2.1) (rc_X3 (Cx.ok C) Hg) rfl rfl (Nat.le_of_ble_eq_true rfl) (by decide) (Nat.le_refl _) (Nat.le_refl _) ?_
  refine ww_le (kc' := 0) (ns' := 0) (Nat.zero_le _) (Nat.zero_le _) ?_
  exact ww_iret C dX1_bestTile_7 (RdP.i (by rfl))
end COM5
