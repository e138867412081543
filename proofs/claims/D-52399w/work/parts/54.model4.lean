section MO4
set_option maxRecDepth 100000
def liC (B : GB) (x : Int32) : Nat := match ixO x (Bt B) with
  | none => 1
  | some k => match Bp B k with
    | none => 2
    | some _ => 0
def okA (B : GB) (x y t : Int32) : Bool := ixB x (Bt B) && (ixB y (Bz B) && ixB t 6)
theorem aCel_n {B : GB} {x : Int32} (h : liC B x ≠ 0) : aCel B x = (nI 0, liC B x) := by
  unfold liC at h ⊢
  unfold aCel
  cases hx : ixO x (Bt B) with
  | none => rfl
  | some k =>
    rw [hx] at h
    simp only at h ⊢
    cases hp : Bp B k with
    | none => rfl
    | some y => rw [hp] at h; exact absurd rfl h
theorem aTur_n {B : GB} {x : Int32} (h : liC B x ≠ 0) : aTur B x = (nI 0, liC B x) := by
  unfold liC at h ⊢
  unfold aTur
  cases hx : ixO x (Bt B) with
  | none => rfl
  | some k =>
    rw [hx] at h
    simp only at h ⊢
    cases hp : Bp B k with
    | none => rfl
    | some y => rw [hp] at h; exact absurd rfl h
theorem liC_t {B : GB} {x : Int32} (hn : Bt B < 2 ^ 31) (h : liC B x = 0) : ∃ k y, k < Bt B ∧ x = nI k ∧ Bp B k = some y ∧ ixO x (Bt B) = some k := by
  cases hb : ixB x (Bt B) with
  | false => unfold liC at h; rw [ixB_f hb] at h; cases h
  | true =>
    obtain ⟨k, h1, h2, h3⟩ := ixB_t hn hb
    unfold liC at h
    rw [h3] at h
    simp only at h
    cases hp : Bp B k with
    | none => rw [hp] at h; cases h
    | some y => exact ⟨k, y, h1, h2, hp, h3⟩
theorem aCel_t {B : GB} {x : Int32} (hn : Bt B < 2 ^ 31) (h : liC B x = 0) : ∃ k y, k < Bt B ∧ x = nI k ∧ Bp B k = some y ∧ aCel B x = (nI y, 0) := by
  obtain ⟨k, y, h1, h2, h3, h4⟩ := liC_t hn h
  exact ⟨k, y, h1, h2, h3, by unfold aCel; rw [h4]; simp only [h3]⟩
theorem aTur_t {B : GB} {x : Int32} (hn : Bt B < 2 ^ 31) (h : liC B x = 0) : ∃ k y, k < Bt B ∧ x = nI k ∧ Bp B k = some y ∧ aTur B x = (nI (Bu B k), 0) := by
  obtain ⟨k, y, h1, h2, h3, h4⟩ := liC_t hn h
  exact ⟨k, y, h1, h2, h3, by unfold aTur; rw [h4]; simp only [h3]⟩
theorem okA_t {B : GB} {x y t : Int32} (hB : BO B) (h : okA B x y t = true) : ∃ k c u, k < Bt B ∧ c < Bz B ∧ u < 6 ∧ x = nI k ∧ y = nI c ∧ t = nI u ∧ ixO x (Bt B) = some k ∧ ixO y (Bz B) = some c ∧ ixO t 6 = some u := by
  unfold okA at h
  simp only [Bool.and_eq_true] at h
  obtain ⟨k, a1, a2, a3⟩ := ixB_t (by have := hB.2.1; omega) h.1
  obtain ⟨c, b1, b2, b3⟩ := ixB_t (by have := hB.z; omega) h.2.1
  obtain ⟨u, d1, d2, d3⟩ := ixB_t (by decide) h.2.2
  exact ⟨k, c, u, a1, b1, d1, a2, b2, d2, a3, b3, d3⟩
theorem aFit_t {B : GB} {x y t : Int32} (hB : BO B) (h : okA B x y t = true) : ∃ k c u, k < Bt B ∧ c < Bz B ∧ u < 6 ∧ x = nI k ∧ y = nI c ∧ t = nI u ∧ aFit B x y t = (bI (ftN B k c u), 0) := by
  obtain ⟨k, c, u, h1, h2, h3, h4, h5, h6, h7, h8, h9⟩ := okA_t hB h
  exact ⟨k, c, u, h1, h2, h3, h4, h5, h6, by unfold aFit; rw [h7]; simp only [h8, h9]⟩
theorem aAga_t {B : GB} {x y t : Int32} (hB : BO B) (h : okA B x y t = true) : ∃ k c u, k < Bt B ∧ c < Bz B ∧ u < 6 ∧ x = nI k ∧ y = nI c ∧ t = nI u ∧ aAga B x y t = (oI (agN B k c u), 0) := by
  obtain ⟨k, c, u, h1, h2, h3, h4, h5, h6, h7, h8, h9⟩ := okA_t hB h
  exact ⟨k, c, u, h1, h2, h3, h4, h5, h6, by unfold aAga; rw [h7]; simp only [h8, h9]⟩
theorem okA_f {B : GB} {x y t : Int32} (h : okA B x y t = false) : ixO x (Bt B) = none ∨ ixO y (Bz B) = none ∨ ixO t 6 = none := by
  unfold okA at h
  simp only [Bool.and_eq_false_iff] at h
  rcases h with h | h | h
  · exact Or.inl (ixB_f h)
  · exact Or.inr (Or.inl (ixB_f h))
  · exact Or.inr (Or.inr (ixB_f h))
theorem aFit_n {B : GB} {x y t : Int32} (h : okA B x y t = false) : aFit B x y t = (nI 0, 1) := by
  unfold aFit
  rcases okA_f h with h | h | h
  · rw [h]
  · cases ixO x (Bt B) <;> simp only [h]
  · cases ixO x (Bt B) <;> cases ixO y (Bz B) <;> simp only [h]
theorem aAga_n {B : GB} {x y t : Int32} (h : okA B x y t = false) : aAga B x y t = (nI 0, 1) := by
  unfold aAga
  rcases okA_f h with h | h | h
  · rw [h]
  · cases ixO x (Bt B) <;> simp only [h]
  · cases ixO x (Bt B) <;> cases ixO y (Bz B) <;> simp only [h]
set_option maxHeartbeats 2000000 in
theorem ct_X4_lies {l : Launch} {Γ : Gm} (hl : l.flags = flags0) (hΓ : GOK Γ) {z : ZR} {h : AH} {B : GB} {M : MS} {D : Nat → Nat} {x : Int32} (hz : zle (cst Γ) z) (hX : Mx Γ h D M) (hb : MBd M 30 40 B) (hC : BC B) : Ct l Γ yX4_lies cX4_lies 2 (some .boolean) 3 0 0 [.ref (D 0), .int x] z h (Rv (fun v z' h' => v = .int (bI (decide (liC B x = 0))) ∧ z' = z ∧ h' = up h (D 0) (cMd (upd M.1 0 (nI (liC B x))) D))) := by
  refine Ct.of hl hΓ (by decide +kernel) (Nat.le_of_ble_eq_true rfl) (fun X e1 e2 C => ?_)
  subst e1; subst e2
  have C : Cx X cX4_lies 2 "RingDominoModel" "lies" (some .boolean) [] 3 := C
  have hB := hC.1
  obtain ⟨⟨⟨c1, c2⟩, ⟨r1, r2⟩⟩, t1, bl1, bu1, bp1, bn1⟩ := id hB
  have hzz := BO.z hB
  have hz0 : 0 < Bz B := Nat.mul_pos (by omega) (by omega)
  have X0 := hX.m
  have hR := Mx.n (z := z) hX hb
  have hP : MrP (xG X) z h (D 0) (D 10) B := ⟨_, D, Or.inl X0, hR⟩
  obtain ⟨o, nn, rn, nu, tu, S, Ht, Hn, hnu, Hs, Ha, Hc, Hu, htu⟩ := id hR
  show WW X (Rv (fun v z' h' => v = .int (bI (decide (liC B x = 0))) ∧ z' = z ∧ h' = up h (D 0) (cMd (upd M.1 0 (nI (liC B x))) D))) z h 0 0 0 [(0, .ref (D 0)), (1, .int x)] []
  refine ww_aload_n C dX4_lies_0 rfl 0 rfl rfl ?_
  refine ww_aload_n C dX4_lies_1 rfl 0 rfl rfl ?_
  refine ww_iload_n C dX4_lies_2 rfl 1 rfl ?_
  refine cv_X4_400_r (As := [.int x]) (rest := [.ref (D 0)]) C dX4_lies_3 (ct_X4_isTile (Cx.fl C) (Cx.ok C) hz hP hC) (rc_X4 (Cx.ok C) (Or.inl X0)) rfl rfl (Nat.le_of_ble_eq_true rfl) (by decide) (Nat.zero_le _) (Nat.zero_le _) ?_
  refine ww_if_ne_b (tgt := 13) C dX4_lies_6 (by decide) (fun c_6 => ?_) (fun c_6 => ?_)
  · skip
    obtain ⟨c, hc, hxc, hix⟩ := ixB_t (by omega) c_6
    subst hxc
    refine ww_aload_n C dX4_lies_13 rfl 0 rfl rfl ?_
    refine gf_X4_48_X4 C dX4_lies_14 (Or.inl X0) rfl ?_
    refine gf_X4_293_X6 C dX4_lies_17 Hs rfl ?_
    refine ww_iload_n C dX4_lies_20 rfl 1 rfl ?_
    refine ww_iald C dX4_lies_21 Hc (by omega) (by decide) ?_
    refine ww_iconst C dX4_lies_22 cI_m1 ?_
    refine ww_icmp_ne_o (tgt := 30) C dX4_lies_23 (by decide) (fun y q => Nat.lt_trans (bp1 c y q) (by decide)) (fun c_23 => ?_) (fun c_23 => ?_)
    · skip
      have hl : liC B (nI c) = 0 := by unfold liC; rw [hix]; obtain ⟨y, hy⟩ := Option.ne_none_iff_exists'.mp c_23; simp only [hy]; try rfl
      refine ww_iconst C dX4_lies_30 cI_0 ?_
      refine pf_X4_65_X4 (fs' := [.int (nI 0), .ref (D 1), .int (M.1 1), .int (M.1 2), .ref (D 2), .ref (D 3), .ref (D 4), .ref (D 5), .int (M.1 3), .int (M.1 4), .int (M.1 5), .int (M.1 6), .int (M.1 7), .ref (D 6), .ref (D 7), .ref (D 8), .ref (D 9), .ref (D 10), .ref (D 11), .ref (D 12), .ref (D 13), .int (M.1 8), .int (M.1 9), .int (M.1 10)]) C dX4_lies_31 X0 rfl rfl (Nat.le_of_ble_eq_true rfl) rfl ?_
      refine ww_gen (fun h1 hE1 => ?_)
      have X0_h1 : h1 (D 0) = some (.inr (3, [.int (nI 0), .ref (D 1), .int (M.1 1), .int (M.1 2), .ref (D 2), .ref (D 3), .ref (D 4), .ref (D 5), .int (M.1 3), .int (M.1 4), .int (M.1 5), .int (M.1 6), .int (M.1 7), .ref (D 6), .ref (D 7), .ref (D 8), .ref (D 9), .ref (D 10), .ref (D 11), .ref (D 12), .ref (D 13), .int (M.1 8), .int (M.1 9), .int (M.1 10)])) := by rw [hE1]; exact up_s
      refine ww_aload_n C dX4_lies_34 rfl 0 rfl rfl ?_
      refine gf_X4_65_X4 C dX4_lies_35 (Or.inl X0_h1) rfl ?_
      have hup : upd M.1 0 (nI 0) 0 = nI 0 := rfl
      refine ww_tern_if_ne_n C dX4_lies_38 dX4_lies_41 dX4_lies_42 dX4_lies_45 (by decide) ?_
      exact ww_zret C dX4_lies_46 (nar_bI _) ⟨by rw [hl]; try rfl, rfl, by rw [hE1, hl]; try rfl⟩
    · skip
      have hl : liC B (nI c) = 2 := by unfold liC; rw [hix]; simp only [c_23]; try rfl
      refine ww_iconst C dX4_lies_26 cI_2 ?_
      refine ww_goto (tgt := 31) C dX4_lies_27 (by decide) ?_
      refine pf_X4_65_X4 (fs' := [.int (nI 2), .ref (D 1), .int (M.1 1), .int (M.1 2), .ref (D 2), .ref (D 3), .ref (D 4), .ref (D 5), .int (M.1 3), .int (M.1 4), .int (M.1 5), .int (M.1 6), .int (M.1 7), .ref (D 6), .ref (D 7), .ref (D 8), .ref (D 9), .ref (D 10), .ref (D 11), .ref (D 12), .ref (D 13), .int (M.1 8), .int (M.1 9), .int (M.1 10)]) C dX4_lies_31 X0 rfl rfl (Nat.le_of_ble_eq_true rfl) rfl ?_
      refine ww_gen (fun h2 hE2 => ?_)
      have X0_h2 : h2 (D 0) = some (.inr (3, [.int (nI 2), .ref (D 1), .int (M.1 1), .int (M.1 2), .ref (D 2), .ref (D 3), .ref (D 4), .ref (D 5), .int (M.1 3), .int (M.1 4), .int (M.1 5), .int (M.1 6), .int (M.1 7), .ref (D 6), .ref (D 7), .ref (D 8), .ref (D 9), .ref (D 10), .ref (D 11), .ref (D 12), .ref (D 13), .int (M.1 8), .int (M.1 9), .int (M.1 10)])) := by rw [hE2]; exact up_s
      refine ww_aload_n C dX4_lies_34 rfl 0 rfl rfl ?_
      refine gf_X4_65_X4 C dX4_lies_35 (Or.inl X0_h2) rfl ?_
      have hup : upd M.1 0 (nI 2) 0 = nI 2 := rfl
      refine ww_tern_if_ne_n C dX4_lies_38 dX4_lies_41 dX4_lies_42 dX4_lies_45 (by decide) ?_
      exact ww_zret C dX4_lies_46 (nar_bI _) ⟨by rw [hl]; try rfl, rfl, by rw [hE2, hl]; try rfl⟩
  · skip
    have hl : liC B x = 1 := by unfold liC; rw [ixB_f c_6]
    refine ww_iconst C dX4_lies_9 cI_1 ?_
    refine ww_goto (tgt := 31) C dX4_lies_10 (by decide) ?_
    refine pf_X4_65_X4 (fs' := [.int (nI 1), .ref (D 1), .int (M.1 1), .int (M.1 2), .ref (D 2), .ref (D 3), .ref (D 4), .ref (D 5), .int (M.1 3), .int (M.1 4), .int (M.1 5), .int (M.1 6), .int (M.1 7), .ref (D 6), .ref (D 7), .ref (D 8), .ref (D 9), .ref (D 10), .ref (D 11), .ref (D 12), .ref (D 13), .int (M.1 8), .int (M.1 9), .int (M.1 10)]) C dX4_lies_31 X0 rfl rfl (Nat.le_of_ble_eq_true rfl) rfl ?_
    refine ww_gen (fun h3 hE3 => ?_)
    have X0_h3 : h3 (D 0) = some (.inr (3, [.int (nI 1), .ref (D 1), .int (M.1 1), .int (M.1 2), .ref (D 2), .ref (D 3), .ref (D 4), .ref (D 5), .int (M.1 3), .int (M.1 4), .int (M.1 5), .int (M.1 6), .int (M.1 7), .ref (D 6), .ref (D 7), .ref (D 8), .ref (D 9), .ref (D 10), .ref (D 11), .ref (D 12), .ref (D 13), .int (M.1 8), .int (M.1 9), .int (M.1 10)])) := by rw [hE3]; exact up_s
    refine ww_aload_n C dX4_lies_34 rfl 0 rfl rfl ?_
    refine gf_X4_65_X4 C dX4_lies_35 (Or.inl X0_h3) rfl ?_
    have hup : upd M.1 0 (nI 1) 0 = nI 1 := rfl
    refine ww_tern_if_ne_n C dX4_lies_38 dX4_lies_41 dX4_lies_42 dX4_lies_45 (by decide) ?_
    exact ww_zret C dX4_lies_46 (nar_bI _) ⟨by rw [hl]; try rfl, rfl, by rw [hE3, hl]; try rfl⟩
set_option maxHeartbeats 2000000 in
theorem ct_X4_cellOf {l : Launch} {Γ : Gm} (hl : l.flags = flags0) (hΓ : GOK Γ) {z : ZR} {h : AH} {B : GB} {M : MS} {D : Nat → Nat} {x : Int32} (hz : zle (cst Γ) z) (hX : Mx Γ h D M) (hb : MBd M 30 40 B) (hC : BC B) : Ct l Γ yX4_cellOf cX4_cellOf 2 (some .int) 4 0 0 [.ref (D 0), .int x] z h (Rv (Mq Γ z h D M (aCel B x))) := by
  refine Ct.of hl hΓ (by decide +kernel) (Nat.le_of_ble_eq_true rfl) (fun X e1 e2 C => ?_)
  subst e1; subst e2
  have C : Cx X cX4_cellOf 2 "RingDominoModel" "cellOf" (some .int) [] 4 := C
  have hB := hC.1
  obtain ⟨⟨⟨c1, c2⟩, ⟨r1, r2⟩⟩, t1, bl1, bu1, bp1, bn1⟩ := id hB
  have hzz := BO.z hB
  have hz0 : 0 < Bz B := Nat.mul_pos (by omega) (by omega)
  have X0 := hX.m
  have hR := Mx.n (z := z) hX hb
  have hP : MrP (xG X) z h (D 0) (D 10) B := ⟨_, D, Or.inl X0, hR⟩
  obtain ⟨o, nn, rn, nu, tu, S, Ht, Hn, hnu, Hs, Ha, Hc, Hu, htu⟩ := id hR
  show WW X (Rv (Mq (xG X) z h D M (aCel B x))) z h 0 0 0 [(0, .ref (D 0)), (1, .int x)] []
  refine ww_aload_n C dX4_cellOf_0 rfl 0 rfl rfl ?_
  refine ww_iload_n C dX4_cellOf_1 rfl 1 rfl ?_
  refine cv_X4_403_q (As := [.int x]) (rest := []) C dX4_cellOf_2 (ct_X4_lies (Cx.fl C) (Cx.ok C) hz hX hb hC) (rc_X4 (Cx.ok C) (Or.inl X0)) rfl rfl (Nat.le_of_ble_eq_true rfl) (by decide) (Nat.zero_le _) (Nat.zero_le _) (fun v z1 h1 q => ?_)
  obtain ⟨rfl, hq1, hE0⟩ := q; replace hq1 := hq1.symm; subst hq1
  have hX1 : Mx (xG X) h1 D (upd M.1 0 (nI (liC B x)), M.2) := by rw [hE0]; exact hX.thr _
  have hb1 : MBd (upd M.1 0 (nI (liC B x)), M.2) 30 40 B := hb.thr
  have hR1 := Mx.n (z := z) hX1 hb1
  obtain ⟨o1, nn1, rn1, nu1, tu1, S1, Ht1, Hn1, hnu1, Hs1, Ha1, Hc1, Hu1, htu1⟩ := id hR1
  have X1 := hX1.m
  refine ww_if_eq_b (tgt := 20) C dX4_cellOf_5 (by decide) (fun c_5 => ?_) (fun c_5 => ?_)
  · skip
    have hl : liC B x ≠ 0 := of_decide_eq_false c_5
    refine ww_iconst C dX4_cellOf_20 cI_0 ?_
    exact ww_iret C dX4_cellOf_21 (Mq.of hX (by rw [aCel_n hl]; try rfl) (by rw [hE0, aCel_n hl]; try rfl))
  · skip
    have hl : liC B x = 0 := of_decide_eq_true c_5
    obtain ⟨k, y, hk, hxk, hy, han⟩ := aCel_t (by omega) hl
    have hxx := hxk; subst hxk
    refine ww_aload_n C dX4_cellOf_8 rfl 0 rfl rfl ?_
    refine gf_X4_48_X4 C dX4_cellOf_9 (Or.inl X1) rfl ?_
    refine gf_X4_293_X6 C dX4_cellOf_12 Hs1 rfl ?_
    refine ww_iload_n C dX4_cellOf_15 rfl 1 rfl ?_
    refine ww_iald C dX4_cellOf_16 Hc1 (by omega) (by decide) ?_
    refine ww_st (st' := [.int (nI y)]) (by rw [hy]; rfl) ?_
    refine ww_goto (tgt := 21) C dX4_cellOf_17 (by decide) ?_
    exact ww_iret C dX4_cellOf_21 (Mq.of hX (by rw [han]) (by rw [hE0, hl, han]))
set_option maxHeartbeats 2000000 in
theorem ct_X4_turnOf {l : Launch} {Γ : Gm} (hl : l.flags = flags0) (hΓ : GOK Γ) {z : ZR} {h : AH} {B : GB} {M : MS} {D : Nat → Nat} {x : Int32} (hz : zle (cst Γ) z) (hX : Mx Γ h D M) (hb : MBd M 30 40 B) (hC : BC B) : Ct l Γ yX4_turnOf cX4_turnOf 2 (some .int) 4 0 0 [.ref (D 0), .int x] z h (Rv (Mq Γ z h D M (aTur B x))) := by
  refine Ct.of hl hΓ (by decide +kernel) (Nat.le_of_ble_eq_true rfl) (fun X e1 e2 C => ?_)
  subst e1; subst e2
  have C : Cx X cX4_turnOf 2 "RingDominoModel" "turnOf" (some .int) [] 4 := C
  have hB := hC.1
  obtain ⟨⟨⟨c1, c2⟩, ⟨r1, r2⟩⟩, t1, bl1, bu1, bp1, bn1⟩ := id hB
  have hzz := BO.z hB
  have hz0 : 0 < Bz B := Nat.mul_pos (by omega) (by omega)
  have X0 := hX.m
  have hR := Mx.n (z := z) hX hb
  have hP : MrP (xG X) z h (D 0) (D 10) B := ⟨_, D, Or.inl X0, hR⟩
  obtain ⟨o, nn, rn, nu, tu, S, Ht, Hn, hnu, Hs, Ha, Hc, Hu, htu⟩ := id hR
  show WW X (Rv (Mq (xG X) z h D M (aTur B x))) z h 0 0 0 [(0, .ref (D 0)), (1, .int x)] []
  refine ww_aload_n C dX4_turnOf_0 rfl 0 rfl rfl ?_
  refine ww_iload_n C dX4_turnOf_1 rfl 1 rfl ?_
  refine cv_X4_403_q (As := [.int x]) (rest := []) C dX4_turnOf_2 (ct_X4_lies (Cx.fl C) (Cx.ok C) hz hX hb hC) (rc_X4 (Cx.ok C) (Or.inl X0)) rfl rfl (Nat.le_of_ble_eq_true rfl) (by decide) (Nat.zero_le _) (Nat.zero_le _) (fun v z1 h1 q => ?_)
  obtain ⟨rfl, hq1, hE0⟩ := q; replace hq1 := hq1.symm; subst hq1
  have hX1 : Mx (xG X) h1 D (upd M.1 0 (nI (liC B x)), M.2) := by rw [hE0]; exact hX.thr _
  have hb1 : MBd (upd M.1 0 (nI (liC B x)), M.2) 30 40 B := hb.thr
  have hR1 := Mx.n (z := z) hX1 hb1
  obtain ⟨o1, nn1, rn1, nu1, tu1, S1, Ht1, Hn1, hnu1, Hs1, Ha1, Hc1, Hu1, htu1⟩ := id hR1
  have X1 := hX1.m
  refine ww_if_eq_b (tgt := 20) C dX4_turnOf_5 (by decide) (fun c_5 => ?_) (fun c_5 => ?_)
  · skip
    have hl : liC B x ≠ 0 := of_decide_eq_false c_5
    refine ww_iconst C dX4_turnOf_20 cI_0 ?_
    exact ww_iret C dX4_turnOf_21 (Mq.of hX (by rw [aTur_n hl]; try rfl) (by rw [hE0, aTur_n hl]; try rfl))
  · skip
    have hl : liC B x = 0 := of_decide_eq_true c_5
    obtain ⟨k, y, hk, hxk, hy, han⟩ := aTur_t (by omega) hl
    have hxx := hxk; subst hxk
    refine ww_aload_n C dX4_turnOf_8 rfl 0 rfl rfl ?_
    refine gf_X4_48_X4 C dX4_turnOf_9 (Or.inl X1) rfl ?_
    refine gf_X4_283_X6 C dX4_turnOf_12 Hs1 rfl ?_
    refine ww_iload_n C dX4_turnOf_15 rfl 1 rfl ?_
    refine ww_iald C dX4_turnOf_16 Hu1 (by omega) (by decide) ?_
    refine ww_st (st' := [.int (nI (Bu B k))]) (by rw [htu1 k y hy]) ?_
    refine ww_goto (tgt := 21) C dX4_turnOf_17 (by decide) ?_
    exact ww_iret C dX4_turnOf_21 (Mq.of hX (by rw [han]) (by rw [hE0, hl, han]))
set_option maxHeartbeats 2000000 in
theorem ct_X4_isAsked {l : Launch} {Γ : Gm} (hl : l.flags = flags0) (hΓ : GOK Γ) {z : ZR} {h : AH} {B : GB} {M : MS} {D : Nat → Nat} {x y t : Int32} (hz : zle (cst Γ) z) (hX : Mx Γ h D M) (hb : MBd M 30 40 B) (hC : BC B) : Ct l Γ yX4_isAsked cX4_isAsked 5 (some .boolean) 3 0 0 [.ref (D 0), .int x, .int y, .int t] z h (Rv (fun v z' h' => v = .int (bI (okA B x y t)) ∧ z' = z ∧ h' = up h (D 0) (cMd (upd M.1 0 (nI (if okA B x y t then 0 else 1))) D))) := by
  refine Ct.of hl hΓ (by decide +kernel) (Nat.le_of_ble_eq_true rfl) (fun X e1 e2 C => ?_)
  subst e1; subst e2
  have C : Cx X cX4_isAsked 5 "RingDominoModel" "isAsked" (some .boolean) [] 3 := C
  have hB := hC.1
  obtain ⟨⟨⟨c1, c2⟩, ⟨r1, r2⟩⟩, t1, bl1, bu1, bp1, bn1⟩ := id hB
  have hzz := BO.z hB
  have hz0 : 0 < Bz B := Nat.mul_pos (by omega) (by omega)
  have X0 := hX.m
  have hR := Mx.n (z := z) hX hb
  have hP : MrP (xG X) z h (D 0) (D 10) B := ⟨_, D, Or.inl X0, hR⟩
  obtain ⟨o, nn, rn, nu, tu, S, Ht, Hn, hnu, Hs, Ha, Hc, Hu, htu⟩ := id hR
  show WW X (Rv (fun v z' h' => v = .int (bI (okA B x y t)) ∧ z' = z ∧ h' = up h (D 0) (cMd (upd M.1 0 (nI (if okA B x y t then 0 else 1))) D))) z h 0 0 0 [(0, .ref (D 0)), (1, .int x), (2, .int y), (3, .int t)] []
  refine ww_aload_n C dX4_isAsked_0 rfl 0 rfl rfl ?_
  refine ww_iload_n C dX4_isAsked_1 rfl 1 rfl ?_
  refine cv_X4_400_r (As := [.int x]) (rest := []) C dX4_isAsked_2 (ct_X4_isTile (Cx.fl C) (Cx.ok C) hz hP hC) (rc_X4 (Cx.ok C) (Or.inl X0)) rfl rfl (Nat.le_of_ble_eq_true rfl) (by decide) (Nat.zero_le _) (Nat.zero_le _) ?_
  refine ww_if_eq_b (tgt := 27) C dX4_isAsked_5 (by decide) (fun c_5 => ?_) (fun c_5 => ?_)
  · skip
    have hok : okA B x y t = false := by unfold okA; rw [c_5]; rfl
    refine ww_iconst C dX4_isAsked_27 cI_0 ?_
    refine ww_istore (lv' := [(4, .int (nI 0)), (0, .ref (D 0)), (1, .int x), (2, .int y), (3, .int t)]) C dX4_isAsked_28 (by decide) rfl ?_
    refine ww_aload_n C dX4_isAsked_30 rfl 1 rfl rfl ?_
    refine ww_iload C dX4_isAsked_31 0 rfl ?_
    refine ww_if_eq_t (tgt := 40) C dX4_isAsked_33 (by decide) rfl ?_
    refine ww_iconst C dX4_isAsked_40 cI_1 ?_
    refine pf_X4_65_X4 (fs' := [.int (nI 1), .ref (D 1), .int (M.1 1), .int (M.1 2), .ref (D 2), .ref (D 3), .ref (D 4), .ref (D 5), .int (M.1 3), .int (M.1 4), .int (M.1 5), .int (M.1 6), .int (M.1 7), .ref (D 6), .ref (D 7), .ref (D 8), .ref (D 9), .ref (D 10), .ref (D 11), .ref (D 12), .ref (D 13), .int (M.1 8), .int (M.1 9), .int (M.1 10)]) C dX4_isAsked_41 X0 rfl rfl (Nat.le_of_ble_eq_true rfl) rfl ?_
    refine ww_gen (fun h1 hE1 => ?_)
    have X0_h1 : h1 (D 0) = some (.inr (3, [.int (nI 1), .ref (D 1), .int (M.1 1), .int (M.1 2), .ref (D 2), .ref (D 3), .ref (D 4), .ref (D 5), .int (M.1 3), .int (M.1 4), .int (M.1 5), .int (M.1 6), .int (M.1 7), .ref (D 6), .ref (D 7), .ref (D 8), .ref (D 9), .ref (D 10), .ref (D 11), .ref (D 12), .ref (D 13), .int (M.1 8), .int (M.1 9), .int (M.1 10)])) := by rw [hE1]; exact up_s
    refine ww_iload C dX4_isAsked_44 0 rfl ?_
    exact ww_zret C dX4_isAsked_46 nar_z0 ⟨by rw [hok]; rfl, rfl, by rw [hE1, hok]; rfl⟩
  · skip
    refine ww_aload_n C dX4_isAsked_8 rfl 0 rfl rfl ?_
    refine ww_iload_n C dX4_isAsked_9 rfl 2 rfl ?_
    refine cv_X4_388_r (As := [.int y]) (rest := []) C dX4_isAsked_10 (ct_X4_isCell (Cx.fl C) (Cx.ok C) hz hP hC) (rc_X4 (Cx.ok C) (Or.inl X0)) rfl rfl (Nat.le_of_ble_eq_true rfl) (by decide) (Nat.zero_le _) (Nat.zero_le _) ?_
    refine ww_if_eq_b (tgt := 27) C dX4_isAsked_13 (by decide) (fun c_13 => ?_) (fun c_13 => ?_)
    · skip
      have hok : okA B x y t = false := by unfold okA; rw [c_5, c_13]; rfl
      refine ww_iconst C dX4_isAsked_27 cI_0 ?_
      refine ww_istore (lv' := [(4, .int (nI 0)), (0, .ref (D 0)), (1, .int x), (2, .int y), (3, .int t)]) C dX4_isAsked_28 (by decide) rfl ?_
      refine ww_aload_n C dX4_isAsked_30 rfl 1 rfl rfl ?_
      refine ww_iload C dX4_isAsked_31 0 rfl ?_
      refine ww_if_eq_t (tgt := 40) C dX4_isAsked_33 (by decide) rfl ?_
      refine ww_iconst C dX4_isAsked_40 cI_1 ?_
      refine pf_X4_65_X4 (fs' := [.int (nI 1), .ref (D 1), .int (M.1 1), .int (M.1 2), .ref (D 2), .ref (D 3), .ref (D 4), .ref (D 5), .int (M.1 3), .int (M.1 4), .int (M.1 5), .int (M.1 6), .int (M.1 7), .ref (D 6), .ref (D 7), .ref (D 8), .ref (D 9), .ref (D 10), .ref (D 11), .ref (D 12), .ref (D 13), .int (M.1 8), .int (M.1 9), .int (M.1 10)]) C dX4_isAsked_41 X0 rfl rfl (Nat.le_of_ble_eq_true rfl) rfl ?_
      refine ww_gen (fun h2 hE2 => ?_)
      have X0_h2 : h2 (D 0) = some (.inr (3, [.int (nI 1), .ref (D 1), .int (M.1 1), .int (M.1 2), .ref (D 2), .ref (D 3), .ref (D 4), .ref (D 5), .int (M.1 3), .int (M.1 4), .int (M.1 5), .int (M.1 6), .int (M.1 7), .ref (D 6), .ref (D 7), .ref (D 8), .ref (D 9), .ref (D 10), .ref (D 11), .ref (D 12), .ref (D 13), .int (M.1 8), .int (M.1 9), .int (M.1 10)])) := by rw [hE2]; exact up_s
      refine ww_iload C dX4_isAsked_44 0 rfl ?_
      exact ww_zret C dX4_isAsked_46 nar_z0 ⟨by rw [hok]; rfl, rfl, by rw [hE2, hok]; rfl⟩
    · skip
      refine ww_iload_n C dX4_isAsked_16 rfl 3 rfl ?_
      refine cs_X4_394_r (As := [.int t]) (rest := []) C dX4_isAsked_17 (ct_X4_isEdge (Cx.fl C) (Cx.ok C)) rfl rfl (Nat.le_of_ble_eq_true rfl) (by decide) (Nat.zero_le _) (Nat.zero_le _) ?_
      refine ww_tern_eq_b C dX4_isAsked_20 dX4_isAsked_23 dX4_isAsked_24 dX4_isAsked_27 ?_
      refine ww_istore (lv' := [(4, .int (bI (ixB t 6))), (0, .ref (D 0)), (1, .int x), (2, .int y), (3, .int t)]) C dX4_isAsked_28 (by decide) rfl ?_
      refine ww_aload_n C dX4_isAsked_30 rfl 1 rfl rfl ?_
      refine ww_iload C dX4_isAsked_31 0 rfl ?_
      have hok : okA B x y t = ixB t 6 := by unfold okA; rw [c_5, c_13]; rfl
      refine ww_if_eq_b (tgt := 40) C dX4_isAsked_33 (by decide) (fun c_33 => ?_) (fun c_33 => ?_)
      · skip
        have c_20 := c_33
        refine ww_iconst C dX4_isAsked_40 cI_1 ?_
        refine pf_X4_65_X4 (fs' := [.int (nI 1), .ref (D 1), .int (M.1 1), .int (M.1 2), .ref (D 2), .ref (D 3), .ref (D 4), .ref (D 5), .int (M.1 3), .int (M.1 4), .int (M.1 5), .int (M.1 6), .int (M.1 7), .ref (D 6), .ref (D 7), .ref (D 8), .ref (D 9), .ref (D 10), .ref (D 11), .ref (D 12), .ref (D 13), .int (M.1 8), .int (M.1 9), .int (M.1 10)]) C dX4_isAsked_41 X0 rfl rfl (Nat.le_of_ble_eq_true rfl) rfl ?_
        refine ww_gen (fun h3 hE3 => ?_)
        have X0_h3 : h3 (D 0) = some (.inr (3, [.int (nI 1), .ref (D 1), .int (M.1 1), .int (M.1 2), .ref (D 2), .ref (D 3), .ref (D 4), .ref (D 5), .int (M.1 3), .int (M.1 4), .int (M.1 5), .int (M.1 6), .int (M.1 7), .ref (D 6), .ref (D 7), .ref (D 8), .ref (D 9), .ref (D 10), .ref (D 11), .ref (D 12), .ref (D 13), .int (M.1 8), .int (M.1 9), .int (M.1 10)])) := by rw [hE3]; exact up_s
        refine ww_iload C dX4_isAsked_44 0 rfl ?_
        exact ww_zret C dX4_isAsked_46 (nar_bI _) ⟨by rw [hok], rfl, by rw [hE3, hok, c_20]; rfl⟩
      · skip
        have c_20 := c_33
        refine ww_iconst C dX4_isAsked_36 cI_0 ?_
        refine ww_goto (tgt := 41) C dX4_isAsked_37 (by decide) ?_
        refine pf_X4_65_X4 (fs' := [.int (nI 0), .ref (D 1), .int (M.1 1), .int (M.1 2), .ref (D 2), .ref (D 3), .ref (D 4), .ref (D 5), .int (M.1 3), .int (M.1 4), .int (M.1 5), .int (M.1 6), .int (M.1 7), .ref (D 6), .ref (D 7), .ref (D 8), .ref (D 9), .ref (D 10), .ref (D 11), .ref (D 12), .ref (D 13), .int (M.1 8), .int (M.1 9), .int (M.1 10)]) C dX4_isAsked_41 X0 rfl rfl (Nat.le_of_ble_eq_true rfl) rfl ?_
        refine ww_gen (fun h4 hE4 => ?_)
        have X0_h4 : h4 (D 0) = some (.inr (3, [.int (nI 0), .ref (D 1), .int (M.1 1), .int (M.1 2), .ref (D 2), .ref (D 3), .ref (D 4), .ref (D 5), .int (M.1 3), .int (M.1 4), .int (M.1 5), .int (M.1 6), .int (M.1 7), .ref (D 6), .ref (D 7), .ref (D 8), .ref (D 9), .ref (D 10), .ref (D 11), .ref (D 12), .ref (D 13), .int (M.1 8), .int (M.1 9), .int (M.1 10)])) := by rw [hE4]; exact up_s
        refine ww_iload C dX4_isAsked_44 0 rfl ?_
        exact ww_zret C dX4_isAsked_46 (nar_bI _) ⟨by rw [hok], rfl, by rw [hE4, hok, c_20]; rfl⟩
set_option maxHeartbeats 2000000 in
theorem ct_X4_fits {l : Launch} {Γ : Gm} (hl : l.flags = flags0) (hΓ : GOK Γ) {z : ZR} {h : AH} {B : GB} {M : MS} {D : Nat → Nat} {x y t : Int32} (hz : zle (cst Γ) z) (hX : Mx Γ h D M) (hb : MBd M 30 40 B) (hC : BC B) : Ct l Γ yX4_fits cX4_fits 4 (some .boolean) 6 0 0 [.ref (D 0), .int x, .int y, .int t] z h (Rv (Mq Γ z h D M (aFit B x y t))) := by
  refine Ct.of hl hΓ (by decide +kernel) (Nat.le_of_ble_eq_true rfl) (fun X e1 e2 C => ?_)
  subst e1; subst e2
  have C : Cx X cX4_fits 4 "RingDominoModel" "fits" (some .boolean) [] 6 := C
  have hB := hC.1
  obtain ⟨⟨⟨c1, c2⟩, ⟨r1, r2⟩⟩, t1, bl1, bu1, bp1, bn1⟩ := id hB
  have hzz := BO.z hB
  have hz0 : 0 < Bz B := Nat.mul_pos (by omega) (by omega)
  have X0 := hX.m
  have hR := Mx.n (z := z) hX hb
  have hP : MrP (xG X) z h (D 0) (D 10) B := ⟨_, D, Or.inl X0, hR⟩
  obtain ⟨o, nn, rn, nu, tu, S, Ht, Hn, hnu, Hs, Ha, Hc, Hu, htu⟩ := id hR
  show WW X (Rv (Mq (xG X) z h D M (aFit B x y t))) z h 0 0 0 [(0, .ref (D 0)), (1, .int x), (2, .int y), (3, .int t)] []
  refine ww_aload_n C dX4_fits_0 rfl 0 rfl rfl ?_
  refine ww_iload_n C dX4_fits_1 rfl 1 rfl ?_
  refine ww_iload_n C dX4_fits_2 rfl 2 rfl ?_
  refine ww_iload_n C dX4_fits_3 rfl 3 rfl ?_
  refine cv_X4_406_q (As := [.int x, .int y, .int t]) (rest := []) C dX4_fits_4 (ct_X4_isAsked (Cx.fl C) (Cx.ok C) hz hX hb hC) (rc_X4 (Cx.ok C) (Or.inl X0)) rfl rfl (Nat.le_of_ble_eq_true rfl) (by decide) (Nat.zero_le _) (Nat.zero_le _) (fun v z1 h1 q => ?_)
  obtain ⟨rfl, hq1, hE0⟩ := q; replace hq1 := hq1.symm; subst hq1
  have hX1 : Mx (xG X) h1 D (upd M.1 0 (nI (if okA B x y t then 0 else 1)), M.2) := by rw [hE0]; exact hX.thr _
  have hb1 : MBd (upd M.1 0 (nI (if okA B x y t then 0 else 1)), M.2) 30 40 B := hb.thr
  have hR1 := Mx.n (z := z) hX1 hb1
  have X1 := hX1.m
  have hP1 : MrP (xG X) z h1 (D 0) (D 10) B := ⟨_, D, Or.inl X1, hR1⟩
  refine ww_if_eq_b (tgt := 28) C dX4_fits_7 (by decide) (fun c_7 => ?_) (fun c_7 => ?_)
  · skip
    refine ww_iconst C dX4_fits_28 cI_0 ?_
    exact ww_zret C dX4_fits_29 nar_z0 (Mq.of hX (by rw [aFit_n c_7]; try rfl) (by rw [hE0, aFit_n c_7, c_7]; try rfl))
  · skip
    obtain ⟨k, c, u, hk, hc, hu, ex, ey, et, han⟩ := aFit_t hB c_7
    subst ex; subst ey; subst et
    refine ww_aload_n C dX4_fits_10 rfl 0 rfl rfl ?_
    refine ww_aload_n C dX4_fits_11 rfl 0 rfl rfl ?_
    refine gf_X4_48_X4 C dX4_fits_12 (Or.inl X1) rfl ?_
    refine ww_iload_n C dX4_fits_15 rfl 1 rfl ?_
    refine ww_iload_n C dX4_fits_16 rfl 2 rfl ?_
    refine ww_iload_n C dX4_fits_17 rfl 3 rfl ?_
    refine cv_X4_310_r (As := [.ref (D 10), .int (nI k), .int (nI c), .int (nI u)]) (rest := []) C dX4_fits_18 (ct_X4_fits_2 (Cx.fl C) (Cx.ok C) hz hP1 hC hk (by omega) hu) (rc_X4 (Cx.ok C) (Or.inl X1)) rfl rfl (Nat.le_of_ble_eq_true rfl) (by decide) (Nat.zero_le _) (Nat.zero_le _) ?_
    refine ww_tern_eq_b C dX4_fits_21 dX4_fits_24 dX4_fits_25 dX4_fits_28 ?_
    exact ww_zret C dX4_fits_29 (nar_bI _) (Mq.of hX (by rw [han]) (by rw [hE0, han, c_7]; try rfl))
set_option maxHeartbeats 2000000 in
theorem ct_X4_edgeAgainst {l : Launch} {Γ : Gm} (hl : l.flags = flags0) (hΓ : GOK Γ) {z : ZR} {h : AH} {B : GB} {M : MS} {D : Nat → Nat} {x y t : Int32} (hz : zle (cst Γ) z) (hX : Mx Γ h D M) (hb : MBd M 30 40 B) (hC : BC B) : Ct l Γ yX4_edgeAgainst cX4_edgeAgainst 4 (some .int) 5 0 0 [.ref (D 0), .int x, .int y, .int t] z h (Rv (Mq Γ z h D M (aAga B x y t))) := by
  refine Ct.of hl hΓ (by decide +kernel) (Nat.le_of_ble_eq_true rfl) (fun X e1 e2 C => ?_)
  subst e1; subst e2
  have C : Cx X cX4_edgeAgainst 4 "RingDominoModel" "edgeAgainst" (some .int) [] 5 := C
  have hB := hC.1
  obtain ⟨⟨⟨c1, c2⟩, ⟨r1, r2⟩⟩, t1, bl1, bu1, bp1, bn1⟩ := id hB
  have hzz := BO.z hB
  have hz0 : 0 < Bz B := Nat.mul_pos (by omega) (by omega)
  have X0 := hX.m
  have hR := Mx.n (z := z) hX hb
  have hP : MrP (xG X) z h (D 0) (D 10) B := ⟨_, D, Or.inl X0, hR⟩
  obtain ⟨o, nn, rn, nu, tu, S, Ht, Hn, hnu, Hs, Ha, Hc, Hu, htu⟩ := id hR
  show WW X (Rv (Mq (xG X) z h D M (aAga B x y t))) z h 0 0 0 [(0, .ref (D 0)), (1, .int x), (2, .int y), (3, .int t)] []
  refine ww_aload_n C dX4_edgeAgainst_0 rfl 0 rfl rfl ?_
  refine ww_iload_n C dX4_edgeAgainst_1 rfl 1 rfl ?_
  refine ww_iload_n C dX4_edgeAgainst_2 rfl 2 rfl ?_
  refine ww_iload_n C dX4_edgeAgainst_3 rfl 3 rfl ?_
  refine cv_X4_406_q (As := [.int x, .int y, .int t]) (rest := []) C dX4_edgeAgainst_4 (ct_X4_isAsked (Cx.fl C) (Cx.ok C) hz hX hb hC) (rc_X4 (Cx.ok C) (Or.inl X0)) rfl rfl (Nat.le_of_ble_eq_true rfl) (by decide) (Nat.zero_le _) (Nat.zero_le _) (fun v z1 h1 q => ?_)
  obtain ⟨rfl, hq1, hE0⟩ := q; replace hq1 := hq1.symm; subst hq1
  have hX1 : Mx (xG X) h1 D (upd M.1 0 (nI (if okA B x y t then 0 else 1)), M.2) := by rw [hE0]; exact hX.thr _
  have hb1 : MBd (upd M.1 0 (nI (if okA B x y t then 0 else 1)), M.2) 30 40 B := hb.thr
  have hR1 := Mx.n (z := z) hX1 hb1
  have X1 := hX1.m
  have hP1 : MrP (xG X) z h1 (D 0) (D 10) B := ⟨_, D, Or.inl X1, hR1⟩
  refine ww_if_eq_b (tgt := 24) C dX4_edgeAgainst_7 (by decide) (fun c_7 => ?_) (fun c_7 => ?_)
  · skip
    refine ww_iconst C dX4_edgeAgainst_24 cI_0 ?_
    exact ww_iret C dX4_edgeAgainst_25 (Mq.of hX (by rw [aAga_n c_7]; try rfl) (by rw [hE0, aAga_n c_7, c_7]; try rfl))
  · skip
    obtain ⟨k, c, u, hk, hc, hu, ex, ey, et, han⟩ := aAga_t hB c_7
    subst ex; subst ey; subst et
    refine ww_aload_n C dX4_edgeAgainst_10 rfl 0 rfl rfl ?_
    refine ww_aload_n C dX4_edgeAgainst_11 rfl 0 rfl rfl ?_
    refine gf_X4_48_X4 C dX4_edgeAgainst_12 (Or.inl X1) rfl ?_
    refine ww_iload_n C dX4_edgeAgainst_15 rfl 1 rfl ?_
    refine ww_iload_n C dX4_edgeAgainst_16 rfl 2 rfl ?_
    refine ww_iload_n C dX4_edgeAgainst_17 rfl 3 rfl ?_
    refine cv_X4_303_r (As := [.ref (D 10), .int (nI k), .int (nI c), .int (nI u)]) (rest := []) C dX4_edgeAgainst_18 (ct_X4_against (Cx.fl C) (Cx.ok C) hz hP1 hC hk (by omega) hu) (rc_X4 (Cx.ok C) (Or.inl X1)) rfl rfl (Nat.le_of_ble_eq_true rfl) (by decide) (Nat.zero_le _) (Nat.zero_le _) ?_
    refine ww_goto (tgt := 25) C dX4_edgeAgainst_21 (by decide) ?_
    exact ww_iret C dX4_edgeAgainst_25 (Mq.of hX (by rw [han]) (by rw [hE0, han, c_7]; try rfl))
end MO4
