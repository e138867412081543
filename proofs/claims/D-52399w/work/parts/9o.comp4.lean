section COM4
set_option maxRecDepth 100000
/-- lying: the tile, or the exception that the plain answer says -/
def LyP (z : ZR) (h : AH) (B : GB) (x : Int32) : Oc → ZR → AH → Prop := Rvx (fun v z' h' => v = .int x ∧ z' = z ∧ h' = h ∧ ∃ c y, c < Bt B ∧ x = nI c ∧ ixO x (Bt B) = some c ∧ Bp B c = some y) (fun E _ z' h' => z' = z ∧ h' = h ∧ ((E = "java/lang/IndexOutOfBoundsException" ∧ (aCel B x).2 = 1) ∨ (E = "java/lang/IllegalStateException" ∧ (aCel B x).2 = 2)))
theorem aTur_e {B : GB} {x : Int32} : (aCel B x).2 = (aTur B x).2 := by
  unfold aCel aTur
  cases ixO x (Bt B) with
  | none => rfl
  | some k => simp only; cases Bp B k <;> rfl
set_option maxHeartbeats 2000000 in
theorem ct_X1_tileAt {l : Launch} {Γ : Gm} (hl : l.flags = flags0) (hΓ : GOK Γ) {z : ZR} {h : AH} {a tp g ah : Nat} {er : Int32} {A : Nat → Nat} {B : GB} {rn dn : Int32} {x : Int32} (hz : zle (cst Γ) z) (Ha : rd z h a (.inr (0, [.ref tp, .int er, .ref g, .ref ah]))) (hG : GmP Γ z h g A B rn dn) (hB : BO B) : Ct l Γ yX1_tileAt cX1_tileAt 2 (some .int) 9 2 12 [.ref a, .int x] z h (AnP z h (aTil B x)) := by
  refine Ct.of hl hΓ (by decide +kernel) (Nat.le_of_ble_eq_true rfl) (fun X e1 e2 C => ?_)
  subst e1; subst e2
  have C : Cx X cX1_tileAt 2 "RingDomino" "tileAt" (some .int) [] 9 := C
  have Hg := hG.1
  have hzz := BO.z hB
  have hbl := BO.l hB
  have hbt := hB.2.1
  show WW X (AnP z h (aTil B x)) z h 2 12 0 [(0, .ref a), (1, .int x)] []
  refine ww_aload_n C dX1_tileAt_0 rfl 0 rfl rfl ?_
  refine gf_X1_50_X1 C dX1_tileAt_1 Ha rfl ?_
  refine ww_aload_n C dX1_tileAt_4 rfl 0 rfl rfl ?_
  refine ww_iload_n C dX1_tileAt_5 rfl 1 rfl ?_
  refine cv_X1_138 (As := [.int x]) (rest := [.ref g]) C dX1_tileAt_6 (ct_X1_cell (Cx.fl C) (Cx.ok C) Ha hG hB) (rc_X1 (Cx.ok C) Ha) rfl rfl (Nat.le_of_ble_eq_true rfl) (by decide) (by omega) (by omega) (fun v9 z9 h9 q9 => ?_) (fun E9 a9 z9 h9 q9 => ?_)
  rotate_left
  · skip
    obtain ⟨hq0, hq1, hq2, hq3⟩ := q9; replace hq0 := hq0.symm; replace hq1 := hq1.symm; replace hq2 := hq2.symm; subst hq0; subst hq1; subst hq2
    exact wx_out C (fun x hx => nomatch hx) ⟨rfl, rfl, Or.inl ⟨rfl, by simp only [aTil, ixO_f hq3]⟩⟩
  obtain ⟨hq0, hq1, hq2, hq3⟩ := q9; replace hq1 := hq1.symm; replace hq2 := hq2.symm; subst hq0; subst hq1; subst hq2
  obtain ⟨c, hc, rfl, hix⟩ := ixB_t (by omega) hq3
  refine cv_X1_141_r (As := [.int (nI c)]) (rest := []) C dX1_tileAt_9 (ct_X3_hasTile (Cx.fl C) (Cx.ok C) (o := some c) hG hB.1 (fun y q => by cases q; omega) hbl) (rc_X3 (Cx.ok C) Hg) rfl rfl (Nat.le_of_ble_eq_true rfl) (by decide) (Nat.zero_le _) (Nat.zero_le _) ?_
  refine cs_X1_59 (As := [.int (bI (hasT B (some c)))]) (rest := []) C dX1_tileAt_12 (ct_X1_requireState (Cx.fl C) (Cx.ok C)) rfl rfl (Nat.le_of_ble_eq_true rfl) (by decide) (by omega) (by omega) (fun z9 h9 q9 => ?_) (fun E9 a9 z9 h9 q9 => ?_)
  rotate_left
  · skip
    obtain ⟨hq0, hq1, hq2, hq3⟩ := q9; replace hq0 := hq0.symm; replace hq1 := hq1.symm; replace hq2 := hq2.symm; subst hq0; subst hq1; subst hq2
    exact wx_out C (fun x hx => nomatch hx) ⟨rfl, rfl, Or.inr ⟨rfl, by simp only [aTil, hix, atO_n.mpr (show Bl B c = 0 by simpa [hasT] using hq3)]⟩⟩
  obtain ⟨hq1, hq2, hq3⟩ := q9; replace hq1 := hq1.symm; replace hq2 := hq2.symm; subst hq1; subst hq2
  have h0 : 0 < Bl B c := by simpa [hasT] using hq3
  obtain ⟨k, hk⟩ : ∃ k, Bl B c = k + 1 := ⟨Bl B c - 1, by omega⟩
  have hc49 : c < 49 := by omega
  have hb16 := hbl c
  refine ww_aload_n C dX1_tileAt_15 rfl 0 rfl rfl ?_
  refine gf_X1_50_X1 C dX1_tileAt_16 Ha rfl ?_
  refine gf_X1_144_X3 C dX1_tileAt_19 Hg rfl ?_
  refine ww_iload_n C dX1_tileAt_22 rfl 1 rfl ?_
  refine ww_iald C dX1_tileAt_23 hG.2.1 (by omega) (by decide) ?_
  refine ww_iconst C dX1_tileAt_24 cI_1 ?_
  refine ww_isubn C dX1_tileAt_25 (by omega) ?_
  exact ww_iret C dX1_tileAt_26 ⟨by simp only [aTil, hix, atO_s.mpr hk]; first | done | rw [show Bl B c - 1 = k by omega], rfl, rfl, by simp only [aTil, hix, atO_s.mpr hk]; first | done | rw [show Bl B c - 1 = k by omega]⟩
set_option maxHeartbeats 2000000 in
theorem ct_X1_numberAt {l : Launch} {Γ : Gm} (hl : l.flags = flags0) (hΓ : GOK Γ) {z : ZR} {h : AH} {a tp g ah : Nat} {er : Int32} {A : Nat → Nat} {B : GB} {rn dn : Int32} {x y : Int32} (hz : zle (cst Γ) z) (Ha : rd z h a (.inr (0, [.ref tp, .int er, .ref g, .ref ah]))) (hG : GmP Γ z h g A B rn dn) (hB : BO B) : Ct l Γ yX1_numberAt cX1_numberAt 3 (some .int) 9 3 18 [.ref a, .int x, .int y] z h (AnP z h (aNum B x y)) := by
  refine Ct.of hl hΓ (by decide +kernel) (Nat.le_of_ble_eq_true rfl) (fun X e1 e2 C => ?_)
  subst e1; subst e2
  have C : Cx X cX1_numberAt 3 "RingDomino" "numberAt" (some .int) [] 9 := C
  have Hg := hG.1
  have hzz := BO.z hB
  have hbl := BO.l hB
  have hbt := hB.2.1
  show WW X (AnP z h (aNum B x y)) z h 3 18 0 [(0, .ref a), (1, .int x), (2, .int y)] []
  refine ww_iload_n C dX1_numberAt_0 rfl 1 rfl ?_
  refine ww_aload_n C dX1_numberAt_1 rfl 0 rfl rfl ?_
  refine gf_X1_50_X1 C dX1_numberAt_2 Ha rfl ?_
  refine cv_X1_103_r (As := []) (rest := [.int x]) C dX1_numberAt_5 (ct_X3_cells (Cx.fl C) (Cx.ok C) hG hB.1) (rc_X3 (Cx.ok C) Hg) rfl rfl (Nat.le_of_ble_eq_true rfl) (by decide) (Nat.zero_le _) (Nat.zero_le _) ?_
  refine cs_X1_25 (As := [.int x, .int (nI (Bz B))]) (rest := []) C dX1_numberAt_8 (ct_X1_requireIndex (Cx.fl C) (Cx.ok C)) rfl rfl (Nat.le_of_ble_eq_true rfl) (by decide) (by omega) (by omega) (fun z9 h9 q9 => ?_) (fun E9 a9 z9 h9 q9 => ?_)
  rotate_left
  · skip
    obtain ⟨hq0, hq1, hq2, hq3⟩ := q9; replace hq0 := hq0.symm; replace hq1 := hq1.symm; replace hq2 := hq2.symm; subst hq0; subst hq1; subst hq2
    exact wx_out C (fun x hx => nomatch hx) ⟨rfl, rfl, Or.inl ⟨rfl, by simp only [aNum, ixO_f hq3]⟩⟩
  obtain ⟨hq1, hq2, hq3⟩ := q9; replace hq1 := hq1.symm; replace hq2 := hq2.symm; subst hq1; subst hq2
  obtain ⟨c, hc, rfl, hix⟩ := ixB_t (by omega) hq3
  refine ww_iload_n C dX1_numberAt_11 rfl 2 rfl ?_
  refine ww_bipush C dX1_numberAt_12 cB_6 ?_
  refine cs_X1_25 (As := [.int y, .int (nI 6)]) (rest := []) C dX1_numberAt_14 (ct_X1_requireIndex (Cx.fl C) (Cx.ok C)) rfl rfl (Nat.le_of_ble_eq_true rfl) (by decide) (by omega) (by omega) (fun z9 h9 q9 => ?_) (fun E9 a9 z9 h9 q9 => ?_)
  rotate_left
  · skip
    obtain ⟨hq0, hq1, hq2, hq3⟩ := q9; replace hq0 := hq0.symm; replace hq1 := hq1.symm; replace hq2 := hq2.symm; subst hq0; subst hq1; subst hq2
    exact wx_out C (fun x hx => nomatch hx) ⟨rfl, rfl, Or.inl ⟨rfl, by simp only [aNum, hix, ixO_f hq3]⟩⟩
  obtain ⟨hq1, hq2, hq3⟩ := q9; replace hq1 := hq1.symm; replace hq2 := hq2.symm; subst hq1; subst hq2
  obtain ⟨e, he, rfl, hiy⟩ := ixB_t (by omega) hq3
  refine ww_aload_n C dX1_numberAt_17 rfl 0 rfl rfl ?_
  refine gf_X1_50_X1 C dX1_numberAt_18 Ha rfl ?_
  refine ww_iload_n C dX1_numberAt_21 rfl 1 rfl ?_
  refine cv_X1_141_r (As := [.int (nI c)]) (rest := []) C dX1_numberAt_22 (ct_X3_hasTile (Cx.fl C) (Cx.ok C) (o := some c) hG hB.1 (fun y q => by cases q; omega) hbl) (rc_X3 (Cx.ok C) Hg) rfl rfl (Nat.le_of_ble_eq_true rfl) (by decide) (Nat.zero_le _) (Nat.zero_le _) ?_
  refine cs_X1_59 (As := [.int (bI (hasT B (some c)))]) (rest := []) C dX1_numberAt_25 (ct_X1_requireState (Cx.fl C) (Cx.ok C)) rfl rfl (Nat.le_of_ble_eq_true rfl) (by decide) (by omega) (by omega) (fun z9 h9 q9 => ?_) (fun E9 a9 z9 h9 q9 => ?_)
  rotate_left
  · skip
    obtain ⟨hq0, hq1, hq2, hq3⟩ := q9; replace hq0 := hq0.symm; replace hq1 := hq1.symm; replace hq2 := hq2.symm; subst hq0; subst hq1; subst hq2
    exact wx_out C (fun x hx => nomatch hx) ⟨rfl, rfl, Or.inr ⟨rfl, by simp only [aNum, hix, hiy, hq3]; rfl⟩⟩
  obtain ⟨hq1, hq2, hq3⟩ := q9; replace hq1 := hq1.symm; replace hq2 := hq2.symm; subst hq1; subst hq2
  have h0 : 0 < Bl B c := by simpa [hasT] using hq3
  refine ww_aload_n C dX1_numberAt_28 rfl 0 rfl rfl ?_
  refine gf_X1_50_X1 C dX1_numberAt_29 Ha rfl ?_
  refine ww_iload_n C dX1_numberAt_32 rfl 1 rfl ?_
  refine ww_iload_n C dX1_numberAt_33 rfl 2 rfl ?_
  refine cv_X1_148_r (As := [.int (nI c), .int (nI e)]) (rest := []) C dX1_numberAt_34 (ct_X3_number (Cx.fl C) (Cx.ok C) hz hG hB (by omega) he h0) (rc_X3 (Cx.ok C) Hg) rfl rfl (Nat.le_of_ble_eq_true rfl) (by decide) (Nat.zero_le _) (Nat.zero_le _) ?_
  have han : aNum B (nI c) (nI e) = (nI (nmA B c e), 0) := by simp only [aNum, hix, hiy, hq3]; rfl
  exact ww_iret C dX1_numberAt_37 ⟨by rw [han], rfl, rfl, by rw [han]⟩
set_option maxHeartbeats 2000000 in
theorem ct_X1_lying {l : Launch} {Γ : Gm} (hl : l.flags = flags0) (hΓ : GOK Γ) {z : ZR} {h : AH} {a tp g ah : Nat} {er : Int32} {A : Nat → Nat} {B : GB} {rn dn : Int32} {x : Int32} (hz : zle (cst Γ) z) (Ha : rd z h a (.inr (0, [.ref tp, .int er, .ref g, .ref ah]))) (hG : GmP Γ z h g A B rn dn) (hB : BO B) : Ct l Γ yX1_lying cX1_lying 2 (some .int) 8 2 12 [.ref a, .int x] z h (LyP z h B x) := by
  refine Ct.of hl hΓ (by decide +kernel) (Nat.le_of_ble_eq_true rfl) (fun X e1 e2 C => ?_)
  subst e1; subst e2
  have C : Cx X cX1_lying 2 "RingDomino" "lying" (some .int) [] 8 := C
  have Hg := hG.1
  have hzz := BO.z hB
  have hbl := BO.l hB
  have hbt := hB.2.1
  show WW X (LyP z h B x) z h 2 12 0 [(0, .ref a), (1, .int x)] []
  refine ww_aload_n C dX1_lying_0 rfl 0 rfl rfl ?_
  refine gf_X1_50_X1 C dX1_lying_1 Ha rfl ?_
  refine ww_aload_n C dX1_lying_4 rfl 0 rfl rfl ?_
  refine ww_iload_n C dX1_lying_5 rfl 1 rfl ?_
  refine cv_X1_106 (As := [.int x]) (rest := [.ref g]) C dX1_lying_6 (ct_X1_tile (Cx.fl C) (Cx.ok C) Ha hG) (rc_X1 (Cx.ok C) Ha) rfl rfl (Nat.le_of_ble_eq_true rfl) (by decide) (by omega) (by omega) (fun v9 z9 h9 q9 => ?_) (fun E9 a9 z9 h9 q9 => ?_)
  rotate_left
  · skip
    obtain ⟨hq0, hq1, hq2, hq3⟩ := q9; replace hq0 := hq0.symm; replace hq1 := hq1.symm; replace hq2 := hq2.symm; subst hq0; subst hq1; subst hq2
    exact wx_out C (fun x hx => nomatch hx) ⟨rfl, rfl, Or.inl ⟨rfl, by simp only [aCel, ixO_f hq3]⟩⟩
  obtain ⟨hq0, hq1, hq2, hq3⟩ := q9; replace hq1 := hq1.symm; replace hq2 := hq2.symm; subst hq0; subst hq1; subst hq2
  obtain ⟨c, hc, rfl, hix⟩ := ixB_t (by omega) hq3
  refine cv_X1_110_r (As := [.int (nI c)]) (rest := []) C dX1_lying_9 (ct_X3_isPlaced (Cx.fl C) (Cx.ok C) hz hG hB hc) (rc_X3 (Cx.ok C) Hg) rfl rfl (Nat.le_of_ble_eq_true rfl) (by decide) (Nat.zero_le _) (Nat.zero_le _) ?_
  refine cs_X1_59 (As := [.int (bI ((Bp B c).isSome))]) (rest := []) C dX1_lying_12 (ct_X1_requireState (Cx.fl C) (Cx.ok C)) rfl rfl (Nat.le_of_ble_eq_true rfl) (by decide) (by omega) (by omega) (fun z9 h9 q9 => ?_) (fun E9 a9 z9 h9 q9 => ?_)
  rotate_left
  · skip
    obtain ⟨hq0, hq1, hq2, hq3⟩ := q9; replace hq0 := hq0.symm; replace hq1 := hq1.symm; replace hq2 := hq2.symm; subst hq0; subst hq1; subst hq2
    exact wx_out C (fun x hx => nomatch hx) ⟨rfl, rfl, Or.inr ⟨rfl, by simp only [aCel, hix, show Bp B c = none by simpa using hq3]⟩⟩
  obtain ⟨hq1, hq2, hq3⟩ := q9; replace hq1 := hq1.symm; replace hq2 := hq2.symm; subst hq1; subst hq2
  refine ww_iload_n C dX1_lying_15 rfl 1 rfl ?_
  obtain ⟨y, hy⟩ := Option.isSome_iff_exists.mp hq3
  exact ww_iret C dX1_lying_16 ⟨rfl, rfl, rfl, c, y, hc, rfl, hix, hy⟩
set_option maxHeartbeats 2000000 in
theorem ct_X1_cellOf {l : Launch} {Γ : Gm} (hl : l.flags = flags0) (hΓ : GOK Γ) {z : ZR} {h : AH} {a tp g ah : Nat} {er : Int32} {A : Nat → Nat} {B : GB} {rn dn : Int32} {x : Int32} (hz : zle (cst Γ) z) (Ha : rd z h a (.inr (0, [.ref tp, .int er, .ref g, .ref ah]))) (hG : GmP Γ z h g A B rn dn) (hB : BO B) : Ct l Γ yX1_cellOf cX1_cellOf 2 (some .int) 9 2 12 [.ref a, .int x] z h (AnP z h (aCel B x)) := by
  refine Ct.of hl hΓ (by decide +kernel) (Nat.le_of_ble_eq_true rfl) (fun X e1 e2 C => ?_)
  subst e1; subst e2
  have C : Cx X cX1_cellOf 2 "RingDomino" "cellOf" (some .int) [] 9 := C
  have Hg := hG.1
  have hzz := BO.z hB
  have hbl := BO.l hB
  have hbt := hB.2.1
  show WW X (AnP z h (aCel B x)) z h 2 12 0 [(0, .ref a), (1, .int x)] []
  refine ww_aload_n C dX1_cellOf_0 rfl 0 rfl rfl ?_
  refine gf_X1_50_X1 C dX1_cellOf_1 Ha rfl ?_
  refine gf_X1_158_X3 C dX1_cellOf_4 Hg rfl ?_
  refine ww_aload_n C dX1_cellOf_7 rfl 0 rfl rfl ?_
  refine ww_iload_n C dX1_cellOf_8 rfl 1 rfl ?_
  refine cv_X1_160 (As := [.int x]) (rest := [.ref (A 5)]) C dX1_cellOf_9 (ct_X1_lying (Cx.fl C) (Cx.ok C) hz Ha hG hB) (rc_X1 (Cx.ok C) Ha) rfl rfl (Nat.le_of_ble_eq_true rfl) (by decide) (by omega) (by omega) (fun v9 z9 h9 q9 => ?_) (fun E9 a9 z9 h9 q9 => ?_)
  rotate_left
  · skip
    obtain ⟨hq1, hq2, hq3⟩ := q9; replace hq1 := hq1.symm; replace hq2 := hq2.symm; subst hq1; subst hq2
    exact wx_out C (fun x hx => nomatch hx) ⟨rfl, rfl, hq3⟩
  obtain ⟨hq0, hq1, hq2, c, y, hc, rfl, hix, hy⟩ := q9; replace hq1 := hq1.symm; replace hq2 := hq2.symm; subst hq0; subst hq1; subst hq2
  have hy49 := hB.2.2.2.2.1 c y hy
  have hu6 := hB.2.2.2.1 c hc
  have Hb : rd z h (bxA (xG X) (oI (Bp B c))) (.inr (26, [.int (oI (Bp B c))])) := bx_rd hz (oI_rng (hB.2.2.2.2.1 c))
  refine cv_X1_163_r (As := [.int (nI c)]) (rest := []) C dX1_cellOf_12 (ct_J2_get (Cx.fl C) (Cx.ok C) hG.2.2.2.2.1 hc) (ALp.rc (Cx.ok C) hG.2.2.2.2.1) rfl rfl (Nat.le_of_ble_eq_true rfl) (by decide) (Nat.zero_le _) (Nat.zero_le _) ?_
  refine ww_castS (ci := 26) C q2470 rfl dX1_cellOf_15 (rc_J19 (Cx.ok C) Hb) ?_
  refine cv_X1_166_r (As := []) (rest := []) C dX1_cellOf_18 (ct_J19_intValue (Cx.fl C) (Cx.ok C) Hb) (rc_J19 (Cx.ok C) Hb) rfl rfl (Nat.le_of_ble_eq_true rfl) (by decide) (Nat.zero_le _) (Nat.zero_le _) ?_
  have han : aCel B (nI c) = (oI (Bp B c), 0) := by simp only [aCel, hix, hy]; first | done | rfl
  exact ww_iret C dX1_cellOf_21 ⟨by rw [han], rfl, rfl, by rw [han]⟩
set_option maxHeartbeats 2000000 in
theorem ct_X1_turnOf {l : Launch} {Γ : Gm} (hl : l.flags = flags0) (hΓ : GOK Γ) {z : ZR} {h : AH} {a tp g ah : Nat} {er : Int32} {A : Nat → Nat} {B : GB} {rn dn : Int32} {x : Int32} (hz : zle (cst Γ) z) (Ha : rd z h a (.inr (0, [.ref tp, .int er, .ref g, .ref ah]))) (hG : GmP Γ z h g A B rn dn) (hB : BO B) : Ct l Γ yX1_turnOf cX1_turnOf 2 (some .int) 9 2 12 [.ref a, .int x] z h (AnP z h (aTur B x)) := by
  refine Ct.of hl hΓ (by decide +kernel) (Nat.le_of_ble_eq_true rfl) (fun X e1 e2 C => ?_)
  subst e1; subst e2
  have C : Cx X cX1_turnOf 2 "RingDomino" "turnOf" (some .int) [] 9 := C
  have Hg := hG.1
  have hzz := BO.z hB
  have hbl := BO.l hB
  have hbt := hB.2.1
  show WW X (AnP z h (aTur B x)) z h 2 12 0 [(0, .ref a), (1, .int x)] []
  refine ww_aload_n C dX1_turnOf_0 rfl 0 rfl rfl ?_
  refine gf_X1_50_X1 C dX1_turnOf_1 Ha rfl ?_
  refine gf_X1_169_X3 C dX1_turnOf_4 Hg rfl ?_
  refine ww_aload_n C dX1_turnOf_7 rfl 0 rfl rfl ?_
  refine ww_iload_n C dX1_turnOf_8 rfl 1 rfl ?_
  refine cv_X1_160 (As := [.int x]) (rest := [.ref (A 7)]) C dX1_turnOf_9 (ct_X1_lying (Cx.fl C) (Cx.ok C) hz Ha hG hB) (rc_X1 (Cx.ok C) Ha) rfl rfl (Nat.le_of_ble_eq_true rfl) (by decide) (by omega) (by omega) (fun v9 z9 h9 q9 => ?_) (fun E9 a9 z9 h9 q9 => ?_)
  rotate_left
  · skip
    obtain ⟨hq1, hq2, hq3⟩ := q9; replace hq1 := hq1.symm; replace hq2 := hq2.symm; subst hq1; subst hq2
    exact wx_out C (fun x hx => nomatch hx) ⟨rfl, rfl, aTur_e ▸ hq3⟩
  obtain ⟨hq0, hq1, hq2, c, y, hc, rfl, hix, hy⟩ := q9; replace hq1 := hq1.symm; replace hq2 := hq2.symm; subst hq0; subst hq1; subst hq2
  have hy49 := hB.2.2.2.2.1 c y hy
  have hu6 := hB.2.2.2.1 c hc
  have Hb : rd z h (bxA (xG X) (nI (Bu B c))) (.inr (26, [.int (nI (Bu B c))])) := bx_rd hz (nI_rng (by omega))
  refine cv_X1_163_r (As := [.int (nI c)]) (rest := []) C dX1_turnOf_12 (ct_J2_get (Cx.fl C) (Cx.ok C) hG.2.2.2.2.2 hc) (ALp.rc (Cx.ok C) hG.2.2.2.2.2) rfl rfl (Nat.le_of_ble_eq_true rfl) (by decide) (Nat.zero_le _) (Nat.zero_le _) ?_
  refine ww_castS (ci := 26) C q2470 rfl dX1_turnOf_15 (rc_J19 (Cx.ok C) Hb) ?_
  refine cv_X1_166_r (As := []) (rest := []) C dX1_turnOf_18 (ct_J19_intValue (Cx.fl C) (Cx.ok C) Hb) (rc_J19 (Cx.ok C) Hb) rfl rfl (Nat.le_of_ble_eq_true rfl) (by decide) (Nat.zero_le _) (Nat.zero_le _) ?_
  have han : aTur B (nI c) = (nI (Bu B c), 0) := by simp only [aTur, hix, hy]; first | done | rfl
  exact ww_iret C dX1_turnOf_21 ⟨by rw [han], rfl, rfl, by rw [han]⟩
set_option maxHeartbeats 2000000 in
theorem ct_X1_fits {l : Launch} {Γ : Gm} (hl : l.flags = flags0) (hΓ : GOK Γ) {z : ZR} {h : AH} {a tp g ah : Nat} {er : Int32} {A : Nat → Nat} {B : GB} {rn dn : Int32} {x y t : Int32} (hz : zle (cst Γ) z) (Ha : rd z h a (.inr (0, [.ref tp, .int er, .ref g, .ref ah]))) (hG : GmP Γ z h g A B rn dn) (hB : BO B) : Ct l Γ yX1_fits cX1_fits 4 (some .boolean) 9 3 18 [.ref a, .int x, .int y, .int t] z h (AnP z h (aFit B x y t)) := by
  refine Ct.of hl hΓ (by decide +kernel) (Nat.le_of_ble_eq_true rfl) (fun X e1 e2 C => ?_)
  subst e1; subst e2
  have C : Cx X cX1_fits 4 "RingDomino" "fits" (some .boolean) [] 9 := C
  have Hg := hG.1
  have hzz := BO.z hB
  have hbl := BO.l hB
  have hbt := hB.2.1
  show WW X (AnP z h (aFit B x y t)) z h 3 18 0 [(0, .ref a), (1, .int x), (2, .int y), (3, .int t)] []
  refine ww_aload_n C dX1_fits_0 rfl 0 rfl rfl ?_
  refine gf_X1_50_X1 C dX1_fits_1 Ha rfl ?_
  refine ww_aload_n C dX1_fits_4 rfl 0 rfl rfl ?_
  refine ww_iload_n C dX1_fits_5 rfl 1 rfl ?_
  refine cv_X1_106 (As := [.int x]) (rest := [.ref g]) C dX1_fits_6 (ct_X1_tile (Cx.fl C) (Cx.ok C) Ha hG) (rc_X1 (Cx.ok C) Ha) rfl rfl (Nat.le_of_ble_eq_true rfl) (by decide) (by omega) (by omega) (fun v9 z9 h9 q9 => ?_) (fun E9 a9 z9 h9 q9 => ?_)
  rotate_left
  · skip
    obtain ⟨hq0, hq1, hq2, hq3⟩ := q9; replace hq0 := hq0.symm; replace hq1 := hq1.symm; replace hq2 := hq2.symm; subst hq0; subst hq1; subst hq2
    exact wx_out C (fun x hx => nomatch hx) ⟨rfl, rfl, Or.inl ⟨rfl, by simp only [aFit, ixO_f hq3]⟩⟩
  obtain ⟨hq0, hq1, hq2, hq3⟩ := q9; replace hq1 := hq1.symm; replace hq2 := hq2.symm; subst hq0; subst hq1; subst hq2
  obtain ⟨k, hk, rfl, hix⟩ := ixB_t (by omega) hq3
  refine ww_aload_n C dX1_fits_9 rfl 0 rfl rfl ?_
  refine ww_iload_n C dX1_fits_10 rfl 2 rfl ?_
  refine cv_X1_138 (As := [.int y]) (rest := [.int (nI k), .ref g]) C dX1_fits_11 (ct_X1_cell (Cx.fl C) (Cx.ok C) Ha hG hB) (rc_X1 (Cx.ok C) Ha) rfl rfl (Nat.le_of_ble_eq_true rfl) (by decide) (by omega) (by omega) (fun v9 z9 h9 q9 => ?_) (fun E9 a9 z9 h9 q9 => ?_)
  rotate_left
  · skip
    obtain ⟨hq0, hq1, hq2, hq3⟩ := q9; replace hq0 := hq0.symm; replace hq1 := hq1.symm; replace hq2 := hq2.symm; subst hq0; subst hq1; subst hq2
    exact wx_out C (fun x hx => nomatch hx) ⟨rfl, rfl, Or.inl ⟨rfl, by simp only [aFit, hix, ixO_f hq3]⟩⟩
  obtain ⟨hq0, hq1, hq2, hq3⟩ := q9; replace hq1 := hq1.symm; replace hq2 := hq2.symm; subst hq0; subst hq1; subst hq2
  obtain ⟨c, hc, rfl, hiy⟩ := ixB_t (by omega) hq3
  refine ww_aload_n C dX1_fits_14 rfl 0 rfl rfl ?_
  refine ww_iload_n C dX1_fits_15 rfl 3 rfl ?_
  refine cv_X1_172 (As := [.int t]) (rest := [.int (nI c), .int (nI k), .ref g]) C dX1_fits_16 (ct_X1_edge (Cx.fl C) (Cx.ok C)) (rc_X1 (Cx.ok C) Ha) rfl rfl (Nat.le_of_ble_eq_true rfl) (by decide) (by omega) (by omega) (fun v9 z9 h9 q9 => ?_) (fun E9 a9 z9 h9 q9 => ?_)
  rotate_left
  · skip
    obtain ⟨hq0, hq1, hq2, hq3⟩ := q9; replace hq0 := hq0.symm; replace hq1 := hq1.symm; replace hq2 := hq2.symm; subst hq0; subst hq1; subst hq2
    exact wx_out C (fun x hx => nomatch hx) ⟨rfl, rfl, Or.inl ⟨rfl, by simp only [aFit, hix, hiy, ixO_f hq3]⟩⟩
  obtain ⟨hq0, hq1, hq2, hq3⟩ := q9; replace hq1 := hq1.symm; replace hq2 := hq2.symm; subst hq0; subst hq1; subst hq2
  obtain ⟨u, hu, rfl, hit⟩ := ixB_t (by omega) hq3
  refine cv_X1_175_r (As := [.int (nI k), .int (nI c), .int (nI u)]) (rest := []) C dX1_fits_19 (ct_X3_fits (Cx.fl C) (Cx.ok C) hz hG hB hk (by omega) hu) (rc_X3 (Cx.ok C) Hg) rfl rfl (Nat.le_of_ble_eq_true rfl) (by decide) (Nat.zero_le _) (Nat.zero_le _) ?_
  have han : aFit B (nI k) (nI c) (nI u) = (bI (ftN B k c u), 0) := by simp only [aFit, hix, hiy, hit]
  exact ww_zret C dX1_fits_22 (nar_bI _) ⟨by rw [han], rfl, rfl, by rw [han]⟩
set_option maxHeartbeats 2000000 in
theorem ct_X1_edgeAgainst {l : Launch} {Γ : Gm} (hl : l.flags = flags0) (hΓ : GOK Γ) {z : ZR} {h : AH} {a tp g ah : Nat} {er : Int32} {A : Nat → Nat} {B : GB} {rn dn : Int32} {x y t : Int32} (hz : zle (cst Γ) z) (Ha : rd z h a (.inr (0, [.ref tp, .int er, .ref g, .ref ah]))) (hG : GmP Γ z h g A B rn dn) (hB : BO B) : Ct l Γ yX1_edgeAgainst cX1_edgeAgainst 4 (some .int) 9 3 18 [.ref a, .int x, .int y, .int t] z h (AnP z h (aAga B x y t)) := by
  refine Ct.of hl hΓ (by decide +kernel) (Nat.le_of_ble_eq_true rfl) (fun X e1 e2 C => ?_)
  subst e1; subst e2
  have C : Cx X cX1_edgeAgainst 4 "RingDomino" "edgeAgainst" (some .int) [] 9 := C
  have Hg := hG.1
  have hzz := BO.z hB
  have hbl := BO.l hB
  have hbt := hB.2.1
  show WW X (AnP z h (aAga B x y t)) z h 3 18 0 [(0, .ref a), (1, .int x), (2, .int y), (3, .int t)] []
  refine ww_aload_n C dX1_edgeAgainst_0 rfl 0 rfl rfl ?_
  refine gf_X1_50_X1 C dX1_edgeAgainst_1 Ha rfl ?_
  refine ww_aload_n C dX1_edgeAgainst_4 rfl 0 rfl rfl ?_
  refine ww_iload_n C dX1_edgeAgainst_5 rfl 1 rfl ?_
  refine cv_X1_106 (As := [.int x]) (rest := [.ref g]) C dX1_edgeAgainst_6 (ct_X1_tile (Cx.fl C) (Cx.ok C) Ha hG) (rc_X1 (Cx.ok C) Ha) rfl rfl (Nat.le_of_ble_eq_true rfl) (by decide) (by omega) (by omega) (fun v9 z9 h9 q9 => ?_) (fun E9 a9 z9 h9 q9 => ?_)
  rotate_left
  · skip
    obtain ⟨hq0, hq1, hq2, hq3⟩ := q9; replace hq0 := hq0.symm; replace hq1 := hq1.symm; replace hq2 := hq2.symm; subst hq0; subst hq1; subst hq2
    exact wx_out C (fun x hx => nomatch hx) ⟨rfl, rfl, Or.inl ⟨rfl, by simp only [aAga, ixO_f hq3]⟩⟩
  obtain ⟨hq0, hq1, hq2, hq3⟩ := q9; replace hq1 := hq1.symm; replace hq2 := hq2.symm; subst hq0; subst hq1; subst hq2
  obtain ⟨k, hk, rfl, hix⟩ := ixB_t (by omega) hq3
  refine ww_aload_n C dX1_edgeAgainst_9 rfl 0 rfl rfl ?_
  refine ww_iload_n C dX1_edgeAgainst_10 rfl 2 rfl ?_
  refine cv_X1_138 (As := [.int y]) (rest := [.int (nI k), .ref g]) C dX1_edgeAgainst_11 (ct_X1_cell (Cx.fl C) (Cx.ok C) Ha hG hB) (rc_X1 (Cx.ok C) Ha) rfl rfl (Nat.le_of_ble_eq_true rfl) (by decide) (by omega) (by omega) (fun v9 z9 h9 q9 => ?_) (fun E9 a9 z9 h9 q9 => ?_)
  rotate_left
  · skip
    obtain ⟨hq0, hq1, hq2, hq3⟩ := q9; replace hq0 := hq0.symm; replace hq1 := hq1.symm; replace hq2 := hq2.symm; subst hq0; subst hq1; subst hq2
    exact wx_out C (fun x hx => nomatch hx) ⟨rfl, rfl, Or.inl ⟨rfl, by simp only [aAga, hix, ixO_f hq3]⟩⟩
  obtain ⟨hq0, hq1, hq2, hq3⟩ := q9; replace hq1 := hq1.symm; replace hq2 := hq2.symm; subst hq0; subst hq1; subst hq2
  obtain ⟨c, hc, rfl, hiy⟩ := ixB_t (by omega) hq3
  refine ww_aload_n C dX1_edgeAgainst_14 rfl 0 rfl rfl ?_
  refine ww_iload_n C dX1_edgeAgainst_15 rfl 3 rfl ?_
  refine cv_X1_172 (As := [.int t]) (rest := [.int (nI c), .int (nI k), .ref g]) C dX1_edgeAgainst_16 (ct_X1_edge (Cx.fl C) (Cx.ok C)) (rc_X1 (Cx.ok C) Ha) rfl rfl (Nat.le_of_ble_eq_true rfl) (by decide) (by omega) (by omega) (fun v9 z9 h9 q9 => ?_) (fun E9 a9 z9 h9 q9 => ?_)
  rotate_left
  · skip
    obtain ⟨hq0, hq1, hq2, hq3⟩ := q9; replace hq0 := hq0.symm; replace hq1 := hq1.symm; replace hq2 := hq2.symm; subst hq0; subst hq1; subst hq2
    exact wx_out C (fun x hx => nomatch hx) ⟨rfl, rfl, Or.inl ⟨rfl, by simp only [aAga, hix, hiy, ixO_f hq3]⟩⟩
  obtain ⟨hq0, hq1, hq2, hq3⟩ := q9; replace hq1 := hq1.symm; replace hq2 := hq2.symm; subst hq0; subst hq1; subst hq2
  obtain ⟨u, hu, rfl, hit⟩ := ixB_t (by omega) hq3
  refine cv_X1_179_r (As := [.int (nI k), .int (nI c), .int (nI u)]) (rest := []) C dX1_edgeAgainst_19 (ct_X3_against (Cx.fl C) (Cx.ok C) hz hG hB hk (by omega) hu) (rc_X3 (Cx.ok C) Hg) rfl rfl (Nat.le_of_ble_eq_true rfl) (by decide) (Nat.zero_le _) (Nat.zero_le _) ?_
  have han : aAga B (nI k) (nI c) (nI u) = (oI (agN B k c u), 0) := by simp only [aAga, hix, hiy, hit]
  exact ww_iret C dX1_edgeAgainst_22 ⟨by rw [han], rfl, rfl, by rw [han]⟩
set_option maxHeartbeats 2000000 in
theorem ct_X1_looksToProve {l : Launch} {Γ : Gm} (hl : l.flags = flags0) (hΓ : GOK Γ) {z : ZR} {h : AH} {a tp g ah : Nat} {er : Int32} {A : Nat → Nat} {B : GB} {rn dn : Int32} {x : Int32} (hz : zle (cst Γ) z) (Ha : rd z h a (.inr (0, [.ref tp, .int er, .ref g, .ref ah]))) (hG : GmP Γ z h g A B rn dn) (hB : BO B) : Ct l Γ yX1_looksToProve cX1_looksToProve 2 (some .int) 9 2 12 [.ref a, .int x] z h (AnP z h (aLok B x)) := by
  refine Ct.of hl hΓ (by decide +kernel) (Nat.le_of_ble_eq_true rfl) (fun X e1 e2 C => ?_)
  subst e1; subst e2
  have C : Cx X cX1_looksToProve 2 "RingDomino" "looksToProve" (some .int) [] 9 := C
  have Hg := hG.1
  have hzz := BO.z hB
  have hbl := BO.l hB
  have hbt := hB.2.1
  show WW X (AnP z h (aLok B x)) z h 2 12 0 [(0, .ref a), (1, .int x)] []
  refine ww_aload_n C dX1_looksToProve_0 rfl 0 rfl rfl ?_
  refine gf_X1_50_X1 C dX1_looksToProve_1 Ha rfl ?_
  refine ww_aload_n C dX1_looksToProve_4 rfl 0 rfl rfl ?_
  refine ww_iload_n C dX1_looksToProve_5 rfl 1 rfl ?_
  refine cv_X1_106 (As := [.int x]) (rest := [.ref g]) C dX1_looksToProve_6 (ct_X1_tile (Cx.fl C) (Cx.ok C) Ha hG) (rc_X1 (Cx.ok C) Ha) rfl rfl (Nat.le_of_ble_eq_true rfl) (by decide) (by omega) (by omega) (fun v9 z9 h9 q9 => ?_) (fun E9 a9 z9 h9 q9 => ?_)
  rotate_left
  · skip
    obtain ⟨hq0, hq1, hq2, hq3⟩ := q9; replace hq0 := hq0.symm; replace hq1 := hq1.symm; replace hq2 := hq2.symm; subst hq0; subst hq1; subst hq2
    exact wx_out C (fun x hx => nomatch hx) ⟨rfl, rfl, Or.inl ⟨rfl, by simp only [aLok, ixO_f hq3]⟩⟩
  obtain ⟨hq0, hq1, hq2, hq3⟩ := q9; replace hq1 := hq1.symm; replace hq2 := hq2.symm; subst hq0; subst hq1; subst hq2
  obtain ⟨k, hk, rfl, hix⟩ := ixB_t (by omega) hq3
  refine cv_X1_186_r (As := [.int (nI k)]) (rest := []) C dX1_looksToProve_9 (ct_X3_isLeft (Cx.fl C) (Cx.ok C) hz hG hB hk) (rc_X3 (Cx.ok C) Hg) rfl rfl (Nat.le_of_ble_eq_true rfl) (by decide) (Nat.zero_le _) (Nat.zero_le _) ?_
  refine cs_X1_59 (As := [.int (bI (lfN B k))]) (rest := []) C dX1_looksToProve_12 (ct_X1_requireState (Cx.fl C) (Cx.ok C)) rfl rfl (Nat.le_of_ble_eq_true rfl) (by decide) (by omega) (by omega) (fun z9 h9 q9 => ?_) (fun E9 a9 z9 h9 q9 => ?_)
  rotate_left
  · skip
    obtain ⟨hq0, hq1, hq2, hq3⟩ := q9; replace hq0 := hq0.symm; replace hq1 := hq1.symm; replace hq2 := hq2.symm; subst hq0; subst hq1; subst hq2
    exact wx_out C (fun x hx => nomatch hx) ⟨rfl, rfl, Or.inr ⟨rfl, by simp only [aLok, hix, hq3]; rfl⟩⟩
  obtain ⟨hq1, hq2, hq3⟩ := q9; replace hq1 := hq1.symm; replace hq2 := hq2.symm; subst hq1; subst hq2
  refine ww_aload_n C dX1_looksToProve_15 rfl 0 rfl rfl ?_
  refine gf_X1_50_X1 C dX1_looksToProve_16 Ha rfl ?_
  refine ww_iload_n C dX1_looksToProve_19 rfl 1 rfl ?_
  refine cv_X1_189_r (As := [.int (nI k)]) (rest := []) C dX1_looksToProve_20 (ct_X3_looks (Cx.fl C) (Cx.ok C) hz hG hB hk) (rc_X3 (Cx.ok C) Hg) rfl rfl (Nat.le_of_ble_eq_true rfl) (by decide) (Nat.zero_le _) (Nat.zero_le _) ?_
  have han : aLok B (nI k) = (nI (lkN B k), 0) := by simp only [aLok, hix, hq3]; rfl
  exact ww_iret C dX1_looksToProve_23 ⟨by rw [han], rfl, rfl, by rw [han]⟩
set_option maxHeartbeats 2000000 in
theorem ct_X1_groups {l : Launch} {Γ : Gm} (hl : l.flags = flags0) (hΓ : GOK Γ) {z : ZR} {h : AH} {a tp g ah : Nat} {er : Int32} {A : Nat → Nat} {B : GB} {rn dn : Int32} (hz : zle (cst Γ) z) (Ha : rd z h a (.inr (0, [.ref tp, .int er, .ref g, .ref ah]))) (hG : GmP Γ z h g A B rn dn) (hB : BO B) : Ct l Γ yX1_groups cX1_groups 1 (some .int) 8 2 98 [.ref a] z h (RdP z h (some (.int (nI (grp B (Bz B)).1)))) := by
  refine Ct.of hl hΓ (by decide +kernel) (Nat.le_of_ble_eq_true rfl) (fun X e1 e2 C => ?_)
  subst e1; subst e2
  have C : Cx X cX1_groups 1 "RingDomino" "groups" (some .int) [] 8 := C
  have Hg := hG.1
  have hzz := BO.z hB
  have hbl := BO.l hB
  have hbt := hB.2.1
  show WW X (RdP z h (some (.int (nI (grp B (Bz B)).1)))) z h 2 98 0 [(0, .ref a)] []
  refine ww_aload_n C dX1_groups_0 rfl 0 rfl rfl ?_
  refine gf_X1_50_X1 C dX1_groups_1 Ha rfl ?_
  refine cv_X1_135_r (As := []) (rest := []) C dX1_groups_4 (ct_X3_groups (Cx.fl C) (Cx.ok C) hG hB) (rc_X3 (Cx.ok C) Hg) rfl rfl (Nat.le_of_ble_eq_true rfl) (by decide) (by omega) (by omega) ?_
  exact ww_iret C dX1_groups_7 (RdP.i (by rfl))
end COM4
