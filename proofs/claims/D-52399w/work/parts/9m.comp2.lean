section COM2
set_option maxRecDepth 100000
theorem ixO_f {x : Int32} {n : Nat} (h : ixB x n = false) : ixO x n = none := by unfold ixO; rw [h]; rfl
/-- the Component's answer q: its value, or the exception that its second says -/
def AnP (z : ZR) (h : AH) (q : Int32 × Nat) : Oc → ZR → AH → Prop := Rvx (fun v z' h' => v = .int q.1 ∧ z' = z ∧ h' = h ∧ q.2 = 0) (fun E _ z' h' => z' = z ∧ h' = h ∧ ((E = "java/lang/IndexOutOfBoundsException" ∧ q.2 = 1) ∨ (E = "java/lang/IllegalStateException" ∧ q.2 = 2)))
set_option maxHeartbeats 2000000 in
theorem ct_X1_hasTile {l : Launch} {Γ : Gm} (hl : l.flags = flags0) (hΓ : GOK Γ) {z : ZR} {h : AH} {a tp g ah : Nat} {er : Int32} {A : Nat → Nat} {B : GB} {rn dn x : Int32} (hz : zle (cst Γ) z) (Ha : rd z h a (.inr (0, [.ref tp, .int er, .ref g, .ref ah]))) (hG : GmP Γ z h g A B rn dn) (hB : BO B) : Ct l Γ yX1_hasTile cX1_hasTile 2 (some .boolean) 9 1 6 [.ref a, .int x] z h (AnP z h (aHas B x)) := by
  refine Ct.of hl hΓ (by decide +kernel) (Nat.le_of_ble_eq_true rfl) (fun X e1 e2 C => ?_)
  subst e1; subst e2
  have C : Cx X cX1_hasTile 2 "RingDomino" "hasTile" (some .boolean) [] 9 := C
  have Hg := hG.1
  have hzz := BO.z hB
  have hbl := BO.l hB
  have hbt := hB.2.1
  show WW X (AnP z h (aHas B x)) z h 1 6 0 [(0, .ref a), (1, .int x)] []
  refine ww_aload_n C dX1_hasTile_0 rfl 0 rfl rfl ?_
  refine gf_X1_50_X1 C dX1_hasTile_1 Ha rfl ?_
  refine ww_aload_n C dX1_hasTile_4 rfl 0 rfl rfl ?_
  refine ww_iload_n C dX1_hasTile_5 rfl 1 rfl ?_
  refine cv_X1_138 (As := [.int x]) (rest := [.ref g]) C dX1_hasTile_6 (ct_X1_cell (Cx.fl C) (Cx.ok C) Ha hG hB) (rc_X1 (Cx.ok C) Ha) rfl rfl (Nat.le_of_ble_eq_true rfl) (by decide) (by decide) (by decide) (fun v9 z9 h9 q9 => ?_) (fun E9 a9 z9 h9 q9 => ?_)
  rotate_left
  · skip
    obtain ⟨hq0, hq1, hq2, hq3⟩ := q9; replace hq0 := hq0.symm; replace hq1 := hq1.symm; replace hq2 := hq2.symm; subst hq0; subst hq1; subst hq2
    exact wx_out C (fun x hx => nomatch hx) ⟨rfl, rfl, Or.inl ⟨rfl, by unfold aHas; rw [ixO_f hq3]⟩⟩
  obtain ⟨hq0, hq1, hq2, hq3⟩ := q9; replace hq1 := hq1.symm; replace hq2 := hq2.symm; subst hq0; subst hq1; subst hq2
  obtain ⟨c, hc, rfl, hix⟩ := ixB_t (by omega) hq3
  have han : aHas B (nI c) = (bI (hasT B (some c)), 0) := by unfold aHas; rw [hix]
  refine cv_X1_141_r (As := [.int (nI c)]) (rest := []) C dX1_hasTile_9 (ct_X3_hasTile (Cx.fl C) (Cx.ok C) (o := some c) hG hB.1 (fun y q => by cases q; omega) hbl) (rc_X3 (Cx.ok C) Hg) rfl rfl (Nat.le_of_ble_eq_true rfl) (by decide) (Nat.zero_le _) (Nat.zero_le _) ?_
  exact ww_zret C dX1_hasTile_12 (nar_bI _) ⟨by rw [han], rfl, rfl, by rw [han]⟩
set_option maxHeartbeats 2000000 in
theorem ct_X1_matchesOf {l : Launch} {Γ : Gm} (hl : l.flags = flags0) (hΓ : GOK Γ) {z : ZR} {h : AH} {a tp g ah : Nat} {er : Int32} {A : Nat → Nat} {B : GB} {rn dn x : Int32} (hz : zle (cst Γ) z) (Ha : rd z h a (.inr (0, [.ref tp, .int er, .ref g, .ref ah]))) (hG : GmP Γ z h g A B rn dn) (hB : BO B) : Ct l Γ yX1_matchesOf cX1_matchesOf 2 (some .int) 9 1 6 [.ref a, .int x] z h (AnP z h (aMaO B x)) := by
  refine Ct.of hl hΓ (by decide +kernel) (Nat.le_of_ble_eq_true rfl) (fun X e1 e2 C => ?_)
  subst e1; subst e2
  have C : Cx X cX1_matchesOf 2 "RingDomino" "matchesOf" (some .int) [] 9 := C
  have Hg := hG.1
  have hzz := BO.z hB
  have hbl := BO.l hB
  have hbt := hB.2.1
  show WW X (AnP z h (aMaO B x)) z h 1 6 0 [(0, .ref a), (1, .int x)] []
  refine ww_aload_n C dX1_matchesOf_0 rfl 0 rfl rfl ?_
  refine gf_X1_50_X1 C dX1_matchesOf_1 Ha rfl ?_
  refine ww_aload_n C dX1_matchesOf_4 rfl 0 rfl rfl ?_
  refine ww_iload_n C dX1_matchesOf_5 rfl 1 rfl ?_
  refine cv_X1_138 (As := [.int x]) (rest := [.ref g]) C dX1_matchesOf_6 (ct_X1_cell (Cx.fl C) (Cx.ok C) Ha hG hB) (rc_X1 (Cx.ok C) Ha) rfl rfl (Nat.le_of_ble_eq_true rfl) (by decide) (by decide) (by decide) (fun v9 z9 h9 q9 => ?_) (fun E9 a9 z9 h9 q9 => ?_)
  rotate_left
  · skip
    obtain ⟨hq0, hq1, hq2, hq3⟩ := q9; replace hq0 := hq0.symm; replace hq1 := hq1.symm; replace hq2 := hq2.symm; subst hq0; subst hq1; subst hq2
    exact wx_out C (fun x hx => nomatch hx) ⟨rfl, rfl, Or.inl ⟨rfl, by unfold aMaO; rw [ixO_f hq3]⟩⟩
  obtain ⟨hq0, hq1, hq2, hq3⟩ := q9; replace hq1 := hq1.symm; replace hq2 := hq2.symm; subst hq0; subst hq1; subst hq2
  obtain ⟨c, hc, rfl, hix⟩ := ixB_t (by omega) hq3
  have han : aMaO B (nI c) = (nI (moN B c), 0) := by unfold aMaO; rw [hix]
  refine cv_X1_152_r (As := [.int (nI c)]) (rest := []) C dX1_matchesOf_9 (ct_X3_matchesOf (Cx.fl C) (Cx.ok C) hG hB.1 (by omega) hbl) (rc_X3 (Cx.ok C) Hg) rfl rfl (Nat.le_of_ble_eq_true rfl) (by decide) (Nat.zero_le _) (Nat.zero_le _) ?_
  exact ww_iret C dX1_matchesOf_12 ⟨by rw [han], rfl, rfl, by rw [han]⟩
set_option maxHeartbeats 2000000 in
theorem ct_X1_isRing {l : Launch} {Γ : Gm} (hl : l.flags = flags0) (hΓ : GOK Γ) {z : ZR} {h : AH} {a tp g ah : Nat} {er : Int32} {A : Nat → Nat} {B : GB} {rn dn x : Int32} (hz : zle (cst Γ) z) (Ha : rd z h a (.inr (0, [.ref tp, .int er, .ref g, .ref ah]))) (hG : GmP Γ z h g A B rn dn) (hB : BO B) : Ct l Γ yX1_isRing cX1_isRing 2 (some .boolean) 9 1 6 [.ref a, .int x] z h (AnP z h (aRin B x)) := by
  refine Ct.of hl hΓ (by decide +kernel) (Nat.le_of_ble_eq_true rfl) (fun X e1 e2 C => ?_)
  subst e1; subst e2
  have C : Cx X cX1_isRing 2 "RingDomino" "isRing" (some .boolean) [] 9 := C
  have Hg := hG.1
  have hzz := BO.z hB
  have hbl := BO.l hB
  have hbt := hB.2.1
  show WW X (AnP z h (aRin B x)) z h 1 6 0 [(0, .ref a), (1, .int x)] []
  refine ww_aload_n C dX1_isRing_0 rfl 0 rfl rfl ?_
  refine gf_X1_50_X1 C dX1_isRing_1 Ha rfl ?_
  refine ww_aload_n C dX1_isRing_4 rfl 0 rfl rfl ?_
  refine ww_iload_n C dX1_isRing_5 rfl 1 rfl ?_
  refine cv_X1_138 (As := [.int x]) (rest := [.ref g]) C dX1_isRing_6 (ct_X1_cell (Cx.fl C) (Cx.ok C) Ha hG hB) (rc_X1 (Cx.ok C) Ha) rfl rfl (Nat.le_of_ble_eq_true rfl) (by decide) (by decide) (by decide) (fun v9 z9 h9 q9 => ?_) (fun E9 a9 z9 h9 q9 => ?_)
  rotate_left
  · skip
    obtain ⟨hq0, hq1, hq2, hq3⟩ := q9; replace hq0 := hq0.symm; replace hq1 := hq1.symm; replace hq2 := hq2.symm; subst hq0; subst hq1; subst hq2
    exact wx_out C (fun x hx => nomatch hx) ⟨rfl, rfl, Or.inl ⟨rfl, by unfold aRin; rw [ixO_f hq3]⟩⟩
  obtain ⟨hq0, hq1, hq2, hq3⟩ := q9; replace hq1 := hq1.symm; replace hq2 := hq2.symm; subst hq0; subst hq1; subst hq2
  obtain ⟨c, hc, rfl, hix⟩ := ixB_t (by omega) hq3
  have han : aRin B (nI c) = (bI (riN B c), 0) := by unfold aRin; rw [hix]
  refine cv_X1_155_r (As := [.int (nI c)]) (rest := []) C dX1_isRing_9 (ct_X3_isRing (Cx.fl C) (Cx.ok C) hG hB.1 (by omega) hbl) (rc_X3 (Cx.ok C) Hg) rfl rfl (Nat.le_of_ble_eq_true rfl) (by decide) (Nat.zero_le _) (Nat.zero_le _) ?_
  exact ww_zret C dX1_isRing_12 (nar_bI _) ⟨by rw [han], rfl, rfl, by rw [han]⟩
set_option maxHeartbeats 2000000 in
theorem ct_X1_isPlaced {l : Launch} {Γ : Gm} (hl : l.flags = flags0) (hΓ : GOK Γ) {z : ZR} {h : AH} {a tp g ah : Nat} {er : Int32} {A : Nat → Nat} {B : GB} {rn dn x : Int32} (hz : zle (cst Γ) z) (Ha : rd z h a (.inr (0, [.ref tp, .int er, .ref g, .ref ah]))) (hG : GmP Γ z h g A B rn dn) (hB : BO B) : Ct l Γ yX1_isPlaced cX1_isPlaced 2 (some .boolean) 9 1 6 [.ref a, .int x] z h (AnP z h (aPla B x)) := by
  refine Ct.of hl hΓ (by decide +kernel) (Nat.le_of_ble_eq_true rfl) (fun X e1 e2 C => ?_)
  subst e1; subst e2
  have C : Cx X cX1_isPlaced 2 "RingDomino" "isPlaced" (some .boolean) [] 9 := C
  have Hg := hG.1
  have hzz := BO.z hB
  have hbl := BO.l hB
  have hbt := hB.2.1
  show WW X (AnP z h (aPla B x)) z h 1 6 0 [(0, .ref a), (1, .int x)] []
  refine ww_aload_n C dX1_isPlaced_0 rfl 0 rfl rfl ?_
  refine gf_X1_50_X1 C dX1_isPlaced_1 Ha rfl ?_
  refine ww_aload_n C dX1_isPlaced_4 rfl 0 rfl rfl ?_
  refine ww_iload_n C dX1_isPlaced_5 rfl 1 rfl ?_
  refine cv_X1_106 (As := [.int x]) (rest := [.ref g]) C dX1_isPlaced_6 (ct_X1_tile (Cx.fl C) (Cx.ok C) Ha hG) (rc_X1 (Cx.ok C) Ha) rfl rfl (Nat.le_of_ble_eq_true rfl) (by decide) (by decide) (by decide) (fun v9 z9 h9 q9 => ?_) (fun E9 a9 z9 h9 q9 => ?_)
  rotate_left
  · skip
    obtain ⟨hq0, hq1, hq2, hq3⟩ := q9; replace hq0 := hq0.symm; replace hq1 := hq1.symm; replace hq2 := hq2.symm; subst hq0; subst hq1; subst hq2
    exact wx_out C (fun x hx => nomatch hx) ⟨rfl, rfl, Or.inl ⟨rfl, by unfold aPla; rw [ixO_f hq3]⟩⟩
  obtain ⟨hq0, hq1, hq2, hq3⟩ := q9; replace hq1 := hq1.symm; replace hq2 := hq2.symm; subst hq0; subst hq1; subst hq2
  obtain ⟨c, hc, rfl, hix⟩ := ixB_t (by omega) hq3
  have han : aPla B (nI c) = (bI ((Bp B c).isSome), 0) := by unfold aPla; rw [hix]
  refine cv_X1_110_r (As := [.int (nI c)]) (rest := []) C dX1_isPlaced_9 (ct_X3_isPlaced (Cx.fl C) (Cx.ok C) hz hG hB hc) (rc_X3 (Cx.ok C) Hg) rfl rfl (Nat.le_of_ble_eq_true rfl) (by decide) (Nat.zero_le _) (Nat.zero_le _) ?_
  exact ww_zret C dX1_isPlaced_12 (nar_bI _) ⟨by rw [han], rfl, rfl, by rw [han]⟩
set_option maxHeartbeats 2000000 in
theorem ct_X1_waysOf {l : Launch} {Γ : Gm} (hl : l.flags = flags0) (hΓ : GOK Γ) {z : ZR} {h : AH} {a tp g ah : Nat} {er : Int32} {A : Nat → Nat} {B : GB} {rn dn x : Int32} (hz : zle (cst Γ) z) (Ha : rd z h a (.inr (0, [.ref tp, .int er, .ref g, .ref ah]))) (hG : GmP Γ z h g A B rn dn) (hB : BO B) : Ct l Γ yX1_waysOf cX1_waysOf 2 (some .int) 9 1 6 [.ref a, .int x] z h (AnP z h (aWay B x)) := by
  refine Ct.of hl hΓ (by decide +kernel) (Nat.le_of_ble_eq_true rfl) (fun X e1 e2 C => ?_)
  subst e1; subst e2
  have C : Cx X cX1_waysOf 2 "RingDomino" "waysOf" (some .int) [] 9 := C
  have Hg := hG.1
  have hzz := BO.z hB
  have hbl := BO.l hB
  have hbt := hB.2.1
  show WW X (AnP z h (aWay B x)) z h 1 6 0 [(0, .ref a), (1, .int x)] []
  refine ww_aload_n C dX1_waysOf_0 rfl 0 rfl rfl ?_
  refine gf_X1_50_X1 C dX1_waysOf_1 Ha rfl ?_
  refine ww_aload_n C dX1_waysOf_4 rfl 0 rfl rfl ?_
  refine ww_iload_n C dX1_waysOf_5 rfl 1 rfl ?_
  refine cv_X1_106 (As := [.int x]) (rest := [.ref g]) C dX1_waysOf_6 (ct_X1_tile (Cx.fl C) (Cx.ok C) Ha hG) (rc_X1 (Cx.ok C) Ha) rfl rfl (Nat.le_of_ble_eq_true rfl) (by decide) (by decide) (by decide) (fun v9 z9 h9 q9 => ?_) (fun E9 a9 z9 h9 q9 => ?_)
  rotate_left
  · skip
    obtain ⟨hq0, hq1, hq2, hq3⟩ := q9; replace hq0 := hq0.symm; replace hq1 := hq1.symm; replace hq2 := hq2.symm; subst hq0; subst hq1; subst hq2
    exact wx_out C (fun x hx => nomatch hx) ⟨rfl, rfl, Or.inl ⟨rfl, by unfold aWay; rw [ixO_f hq3]⟩⟩
  obtain ⟨hq0, hq1, hq2, hq3⟩ := q9; replace hq1 := hq1.symm; replace hq2 := hq2.symm; subst hq0; subst hq1; subst hq2
  obtain ⟨c, hc, rfl, hix⟩ := ixB_t (by omega) hq3
  have han : aWay B (nI c) = (nI (wyN B c), 0) := by unfold aWay; rw [hix]
  refine cv_X1_183_r (As := [.int (nI c)]) (rest := []) C dX1_waysOf_9 (ct_X3_ways (Cx.fl C) (Cx.ok C) hz hG hB hc) (rc_X3 (Cx.ok C) Hg) rfl rfl (Nat.le_of_ble_eq_true rfl) (by decide) (Nat.zero_le _) (Nat.zero_le _) ?_
  exact ww_iret C dX1_waysOf_12 ⟨by rw [han], rfl, rfl, by rw [han]⟩
set_option maxHeartbeats 2000000 in
theorem ct_X1_isLeftover {l : Launch} {Γ : Gm} (hl : l.flags = flags0) (hΓ : GOK Γ) {z : ZR} {h : AH} {a tp g ah : Nat} {er : Int32} {A : Nat → Nat} {B : GB} {rn dn x : Int32} (hz : zle (cst Γ) z) (Ha : rd z h a (.inr (0, [.ref tp, .int er, .ref g, .ref ah]))) (hG : GmP Γ z h g A B rn dn) (hB : BO B) : Ct l Γ yX1_isLeftover cX1_isLeftover 2 (some .boolean) 9 1 6 [.ref a, .int x] z h (AnP z h (aLef B x)) := by
  refine Ct.of hl hΓ (by decide +kernel) (Nat.le_of_ble_eq_true rfl) (fun X e1 e2 C => ?_)
  subst e1; subst e2
  have C : Cx X cX1_isLeftover 2 "RingDomino" "isLeftover" (some .boolean) [] 9 := C
  have Hg := hG.1
  have hzz := BO.z hB
  have hbl := BO.l hB
  have hbt := hB.2.1
  show WW X (AnP z h (aLef B x)) z h 1 6 0 [(0, .ref a), (1, .int x)] []
  refine ww_aload_n C dX1_isLeftover_0 rfl 0 rfl rfl ?_
  refine gf_X1_50_X1 C dX1_isLeftover_1 Ha rfl ?_
  refine ww_aload_n C dX1_isLeftover_4 rfl 0 rfl rfl ?_
  refine ww_iload_n C dX1_isLeftover_5 rfl 1 rfl ?_
  refine cv_X1_106 (As := [.int x]) (rest := [.ref g]) C dX1_isLeftover_6 (ct_X1_tile (Cx.fl C) (Cx.ok C) Ha hG) (rc_X1 (Cx.ok C) Ha) rfl rfl (Nat.le_of_ble_eq_true rfl) (by decide) (by decide) (by decide) (fun v9 z9 h9 q9 => ?_) (fun E9 a9 z9 h9 q9 => ?_)
  rotate_left
  · skip
    obtain ⟨hq0, hq1, hq2, hq3⟩ := q9; replace hq0 := hq0.symm; replace hq1 := hq1.symm; replace hq2 := hq2.symm; subst hq0; subst hq1; subst hq2
    exact wx_out C (fun x hx => nomatch hx) ⟨rfl, rfl, Or.inl ⟨rfl, by unfold aLef; rw [ixO_f hq3]⟩⟩
  obtain ⟨hq0, hq1, hq2, hq3⟩ := q9; replace hq1 := hq1.symm; replace hq2 := hq2.symm; subst hq0; subst hq1; subst hq2
  obtain ⟨c, hc, rfl, hix⟩ := ixB_t (by omega) hq3
  have han : aLef B (nI c) = (bI (lfN B c), 0) := by unfold aLef; rw [hix]
  refine cv_X1_186_r (As := [.int (nI c)]) (rest := []) C dX1_isLeftover_9 (ct_X3_isLeft (Cx.fl C) (Cx.ok C) hz hG hB hc) (rc_X3 (Cx.ok C) Hg) rfl rfl (Nat.le_of_ble_eq_true rfl) (by decide) (Nat.zero_le _) (Nat.zero_le _) ?_
  exact ww_zret C dX1_isLeftover_12 (nar_bI _) ⟨by rw [han], rfl, rfl, by rw [han]⟩
end COM2
