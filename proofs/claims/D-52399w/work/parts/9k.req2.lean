section REQ2
set_option maxRecDepth 100000
/-- an index that is asked for: it, or the exception -/
def IxP (z : ZR) (h : AH) (b : Bool) (x : Int32) : Oc → ZR → AH → Prop := Rvx (fun v z' h' => v = .int x ∧ z' = z ∧ h' = h ∧ b = true) (fun E _ z' h' => E = "java/lang/IndexOutOfBoundsException" ∧ z' = z ∧ h' = h ∧ b = false)
theorem at_IOB : (∀ w ∈ vx_at0 "RingDomino" 12 "java/lang/IndexOutOfBoundsException" ["java/lang/RuntimeException", "java/lang/Exception"], w ∈ lw_all ∨ (w ∈ lw_tbl ∧ dcW w = true)) ∧ ∀ w ∈ Cond.classLink "RingDomino" 10 "java/lang/IndexOutOfBoundsException" :: Cond.initialized "java/lang/IndexOutOfBoundsException" :: vx_at0 "RingDomino" 12 "java/lang/IndexOutOfBoundsException" ["java/lang/RuntimeException", "java/lang/Exception"], vx_ot w = true := by decide +kernel
set_option maxHeartbeats 2000000 in
theorem ct_X1_requireIndex {l : Launch} {Γ : Gm} (hl : l.flags = flags0) (hΓ : GOK Γ) {z : ZR} {h : AH} {x : Int32} {m : Nat}  : Ct l Γ yX1_requireIndex cX1_requireIndex 2 none 6 1 6 [.int x, .int (nI m)] z h (RqP z h (ixB x m) "java/lang/IndexOutOfBoundsException") := by
  refine Ct.of hl hΓ (by decide +kernel) (Nat.le_of_ble_eq_true rfl) (fun X e1 e2 C => ?_)
  subst e1; subst e2
  have C : Cx X cX1_requireIndex 2 "RingDomino" "requireIndex" none [] 6 := C
  show WW X (RqP z h (ixB x m) "java/lang/IndexOutOfBoundsException") z h 1 6 0 [(0, .int x), (1, .int (nI m))] []
  refine ww_iload_n C dX1_requireIndex_0 rfl 0 rfl ?_
  refine ww_if_lt (tgt := 9) C dX1_requireIndex_1 (by decide) (fun c_1 => ?_) (fun c_1 => ?_)
  · skip
    exact ww_throw0 C (cls := "java/lang/IndexOutOfBoundsException") (names := ["java/lang/RuntimeException", "java/lang/Exception"]) thr_U thr_N q546 q548 q109 (by decide) (by decide) q2441 q161 at_IOB.1 at_IOB.2 dX1_requireIndex_9 dX1_requireIndex_12 dX1_requireIndex_13 dX1_requireIndex_16 (fun x hx => nomatch hx) (by decide) (by decide) (by decide) (by decide) (fun q => ⟨rfl, rfl, rfl, by unfold ixB; rw [decide_eq_false (Int32.not_le.mpr c_1), Bool.false_and]⟩)
  · skip
    refine ww_iload_n C dX1_requireIndex_4 rfl 0 rfl ?_
    refine ww_iload_n C dX1_requireIndex_5 rfl 1 rfl ?_
    refine ww_icmp_lt (tgt := 17) C dX1_requireIndex_6 (by decide) (fun c_6 => ?_) (fun c_6 => ?_)
    · skip
      exact ww_vret C dX1_requireIndex_17 ⟨rfl, rfl, by unfold ixB; rw [decide_eq_true (Int32.not_lt.mp c_1), decide_eq_true c_6]; rfl⟩
    · skip
      exact ww_throw0 C (cls := "java/lang/IndexOutOfBoundsException") (names := ["java/lang/RuntimeException", "java/lang/Exception"]) thr_U thr_N q546 q548 q109 (by decide) (by decide) q2441 q161 at_IOB.1 at_IOB.2 dX1_requireIndex_9 dX1_requireIndex_12 dX1_requireIndex_13 dX1_requireIndex_16 (fun x hx => nomatch hx) (by decide) (by decide) (by decide) (by decide) (fun q => ⟨rfl, rfl, rfl, by unfold ixB; rw [decide_eq_false c_6, Bool.and_false]⟩)
set_option maxHeartbeats 2000000 in
theorem ct_X1_edge {l : Launch} {Γ : Gm} (hl : l.flags = flags0) (hΓ : GOK Γ) {z : ZR} {h : AH} {a : Nat} {x : Int32}  : Ct l Γ yX1_edge cX1_edge 2 (some .int) 7 1 6 [.ref a, .int x] z h (IxP z h (ixB x 6) x) := by
  refine Ct.of hl hΓ (by decide +kernel) (Nat.le_of_ble_eq_true rfl) (fun X e1 e2 C => ?_)
  subst e1; subst e2
  have C : Cx X cX1_edge 2 "RingDomino" "edge" (some .int) [] 7 := C
  show WW X (IxP z h (ixB x 6) x) z h 1 6 0 [(0, .ref a), (1, .int x)] []
  refine ww_iload_n C dX1_edge_0 rfl 1 rfl ?_
  refine ww_bipush C dX1_edge_1 cB_6 ?_
  refine cs_X1_25 (As := [.int x, .int (nI 6)]) (rest := []) C dX1_edge_3 (ct_X1_requireIndex (Cx.fl C) (Cx.ok C)) rfl rfl (Nat.le_of_ble_eq_true rfl) (by decide) (by decide) (by decide) (fun z9 h9 q9 => ?_) (fun E9 a9 z9 h9 q9 => ?_)
  rotate_left
  · skip
    obtain ⟨hq0, hq1, hq2, hq3⟩ := q9; replace hq0 := hq0.symm; replace hq1 := hq1.symm; replace hq2 := hq2.symm; subst hq0; subst hq1; subst hq2
    exact wx_out C (fun x hx => nomatch hx) ⟨rfl, rfl, rfl, hq3⟩
  obtain ⟨hq1, hq2, hq3⟩ := q9; replace hq1 := hq1.symm; replace hq2 := hq2.symm; subst hq1; subst hq2
  refine ww_iload_n C dX1_edge_6 rfl 1 rfl ?_
  exact ww_iret C dX1_edge_7 ⟨rfl, rfl, rfl, hq3⟩
set_option maxHeartbeats 2000000 in
theorem ct_X1_tile {l : Launch} {Γ : Gm} (hl : l.flags = flags0) (hΓ : GOK Γ) {z : ZR} {h : AH} {a tp g ah : Nat} {er : Int32} {A : Nat → Nat} {B : GB} {rn dn x : Int32} (Ha : rd z h a (.inr (0, [.ref tp, .int er, .ref g, .ref ah]))) (hG : GmP Γ z h g A B rn dn) : Ct l Γ yX1_tile cX1_tile 2 (some .int) 7 1 6 [.ref a, .int x] z h (IxP z h (ixB x (Bt B)) x) := by
  refine Ct.of hl hΓ (by decide +kernel) (Nat.le_of_ble_eq_true rfl) (fun X e1 e2 C => ?_)
  subst e1; subst e2
  have C : Cx X cX1_tile 2 "RingDomino" "tile" (some .int) [] 7 := C
  have hTl := hG.2.2.1
  have Hg := hG.1
  show WW X (IxP z h (ixB x (Bt B)) x) z h 1 6 0 [(0, .ref a), (1, .int x)] []
  refine ww_iload_n C dX1_tile_0 rfl 1 rfl ?_
  refine ww_aload_n C dX1_tile_1 rfl 0 rfl rfl ?_
  refine gf_X1_50_X1 C dX1_tile_2 Ha rfl ?_
  refine gf_X1_96_X3 C dX1_tile_5 Hg rfl ?_
  refine cv_X1_100_r (As := []) (rest := [.int x]) C dX1_tile_8 (ct_J2_size (Cx.fl C) (Cx.ok C) hTl) (ALp.rc (Cx.ok C) hTl) rfl rfl (Nat.le_of_ble_eq_true rfl) (by decide) (Nat.zero_le _) (Nat.zero_le _) ?_
  refine cs_X1_25 (As := [.int x, .int (nI (Bt B))]) (rest := []) C dX1_tile_11 (ct_X1_requireIndex (Cx.fl C) (Cx.ok C)) rfl rfl (Nat.le_of_ble_eq_true rfl) (by decide) (by omega) (by omega) (fun z9 h9 q9 => ?_) (fun E9 a9 z9 h9 q9 => ?_)
  rotate_left
  · skip
    obtain ⟨hq0, hq1, hq2, hq3⟩ := q9; replace hq0 := hq0.symm; replace hq1 := hq1.symm; replace hq2 := hq2.symm; subst hq0; subst hq1; subst hq2
    exact wx_out C (fun x hx => nomatch hx) ⟨rfl, rfl, rfl, hq3⟩
  obtain ⟨hq1, hq2, hq3⟩ := q9; replace hq1 := hq1.symm; replace hq2 := hq2.symm; subst hq1; subst hq2
  refine ww_iload_n C dX1_tile_14 rfl 1 rfl ?_
  exact ww_iret C dX1_tile_15 ⟨rfl, rfl, rfl, hq3⟩
set_option maxHeartbeats 2000000 in
theorem ct_X1_cell {l : Launch} {Γ : Gm} (hl : l.flags = flags0) (hΓ : GOK Γ) {z : ZR} {h : AH} {a tp g ah : Nat} {er : Int32} {A : Nat → Nat} {B : GB} {rn dn x : Int32} (Ha : rd z h a (.inr (0, [.ref tp, .int er, .ref g, .ref ah]))) (hG : GmP Γ z h g A B rn dn) (hB : BO B) : Ct l Γ yX1_cell cX1_cell 2 (some .int) 7 1 6 [.ref a, .int x] z h (IxP z h (ixB x (Bz B)) x) := by
  refine Ct.of hl hΓ (by decide +kernel) (Nat.le_of_ble_eq_true rfl) (fun X e1 e2 C => ?_)
  subst e1; subst e2
  have C : Cx X cX1_cell 2 "RingDomino" "cell" (some .int) [] 7 := C
  have Hg := hG.1
  show WW X (IxP z h (ixB x (Bz B)) x) z h 1 6 0 [(0, .ref a), (1, .int x)] []
  refine ww_iload_n C dX1_cell_0 rfl 1 rfl ?_
  refine ww_aload_n C dX1_cell_1 rfl 0 rfl rfl ?_
  refine gf_X1_50_X1 C dX1_cell_2 Ha rfl ?_
  refine cv_X1_103_r (As := []) (rest := [.int x]) C dX1_cell_5 (ct_X3_cells (Cx.fl C) (Cx.ok C) hG hB.1) (rc_X3 (Cx.ok C) Hg) rfl rfl (Nat.le_of_ble_eq_true rfl) (by decide) (Nat.zero_le _) (Nat.zero_le _) ?_
  refine cs_X1_25 (As := [.int x, .int (nI (Bz B))]) (rest := []) C dX1_cell_8 (ct_X1_requireIndex (Cx.fl C) (Cx.ok C)) rfl rfl (Nat.le_of_ble_eq_true rfl) (by decide) (by omega) (by omega) (fun z9 h9 q9 => ?_) (fun E9 a9 z9 h9 q9 => ?_)
  rotate_left
  · skip
    obtain ⟨hq0, hq1, hq2, hq3⟩ := q9; replace hq0 := hq0.symm; replace hq1 := hq1.symm; replace hq2 := hq2.symm; subst hq0; subst hq1; subst hq2
    exact wx_out C (fun x hx => nomatch hx) ⟨rfl, rfl, rfl, hq3⟩
  obtain ⟨hq1, hq2, hq3⟩ := q9; replace hq1 := hq1.symm; replace hq2 := hq2.symm; subst hq1; subst hq2
  refine ww_iload_n C dX1_cell_11 rfl 1 rfl ?_
  exact ww_iret C dX1_cell_12 ⟨rfl, rfl, rfl, hq3⟩
end REQ2
