section MO7
set_option maxRecDepth 100000
def fitM (M : MS) (b a : Nat) (B : GB) (k : Nat) : MS := match fwN B k with
  | none => M
  | some w => putM M b a k (w / 6) (w % 6)
/-- all but the board's state stays -/
def Mgo (M M' : MS) : Prop := (∀ j, (j = 1 ∨ j = 2 ∨ (20 ≤ j ∧ j < 25) ∨ j = 31) → M'.1 j = M.1 j) ∧ ∀ i, (i = 1 ∨ (20 ≤ i ∧ i < 30)) → M'.2.1 i = M.2.1 i
theorem Mgo.rf {M : MS} : Mgo M M := ⟨fun _ _ => rfl, fun _ _ => rfl⟩
theorem Mgo.thr {M M1 : MS} (a : Mgo M M1) {v : Int32} : Mgo M (upd M1.1 0 v, M1.2) := ⟨fun j hj => (upd_ne (by omega)).trans (a.1 j hj), a.2⟩
theorem Mgo.put {M : MS} {v : Int32} {k x t : Nat} : Mgo M (putM (upd M.1 0 v, M.2) 30 40 k x t) := by
  refine ⟨fun j hj => ?_, fun i hi => ?_⟩
  · show upd (upd M.1 0 v) 30 _ j = _; rw [upd_ne (by omega), upd_ne (by omega)]
  · show va_up (va_up (va_up M.2.1 40 _) 41 _) 42 _ i = _; rw [va_ne (by omega), va_ne (by omega), va_ne (by omega)]
theorem Mgo.tak {M : MS} {v : Int32} {k x : Nat} : Mgo M (takM (upd M.1 0 v, M.2) 30 40 k x) := by
  refine ⟨fun j hj => ?_, fun i hi => ?_⟩
  · show upd (upd M.1 0 v) 30 _ j = _; rw [upd_ne (by omega), upd_ne (by omega)]
  · show va_up (va_up M.2.1 40 _) 41 _ i = _; rw [va_ne (by omega), va_ne (by omega)]
def Mu (Γ : Gm) (z : ZR) (h : AH) (D : Nat → Nat) (M : MS) (B' : GB) (q : Int32 × Nat) : Value → ZR → AH → Prop := fun v z' h' => v = .int q.1 ∧ z' = z ∧ ∃ M', Mgo M M' ∧ MBd M' 30 40 B' ∧ M'.1 0 = nI q.2 ∧ Mx Γ h' D M' ∧ FrD h h' D
theorem Mu.of {Γ : Gm} {z : ZR} {h h' : AH} {D : Nat → Nat} {M : MS} {B B' : GB} {q : Int32 × Nat} {x : Int32} (hX : Mx Γ h D M) (hb : MBd M 30 40 B) (hB : B' = B) (h1 : x = q.1) (h2 : h' = up h (D 0) (cMd (upd M.1 0 (nI q.2)) D)) : Mu Γ z h D M B' q (.int x) z h' := by
  subst h2; subst hB
  exact ⟨by rw [h1], rfl, (upd M.1 0 (nI q.2), M.2), Mgo.rf.thr, hb.thr, rfl, hX.thr _, FrD.rf.w (by decide)⟩
def uFit (B : GB) (x : Int32) : (Int32 × Nat) × GB := match ixO x (Bt B) with
  | none => ((nI 0, 1), B)
  | some k => match fwN B k with
    | none => ((nI 0, 2), B)
    | some w => ((nI (w / 6), 0), putB B k (w / 6) (w % 6))
def uPut (B : GB) (x y t : Int32) : (Int32 × Nat) × GB := match ixO x (Bt B) with
  | none => ((nI 0, 1), B)
  | some k => match ixO y (Bz B) with
    | none => ((nI 0, 1), B)
    | some c => match ixO t 6 with
      | none => ((nI 0, 1), B)
      | some u => match ftN B k c u with
        | false => ((nI 0, 2), B)
        | true => ((nI (poN (putB B k c u)) - nI (poN B), 0), putB B k c u)
theorem uPut_n {B : GB} {x y t : Int32} (h : okA B x y t = false) : uPut B x y t = ((nI 0, 1), B) := by
  unfold uPut
  rcases okA_f h with h | h | h
  · rw [h]
  · cases ixO x (Bt B) <;> simp only [h]
  · cases ixO x (Bt B) <;> cases ixO y (Bz B) <;> simp only [h]
def uTak (B : GB) (x : Int32) : (Int32 × Nat) × GB := match ixO x (Bt B) with
  | none => ((nI 0, 1), B)
  | some k => match Bp B k with
    | none => ((nI 0, 2), B)
    | some _ => ((nI (poN B) - nI (poN (takB B k)), 0), takB B k)
theorem uTak_n {B : GB} {x : Int32} (h : liC B x ≠ 0) : uTak B x = ((nI 0, liC B x), B) := by
  unfold liC at h ⊢
  unfold uTak
  cases hx : ixO x (Bt B) with
  | none => rfl
  | some k =>
    rw [hx] at h
    simp only at h ⊢
    cases hp : Bp B k with
    | none => rfl
    | some y => rw [hp] at h; exact absurd rfl h
set_option maxHeartbeats 2000000 in
theorem ct_X4_isFitted {l : Launch} {Γ : Gm} (hl : l.flags = flags0) (hΓ : GOK Γ) {z : ZR} {h : AH} {B : GB} {M : MS} {D : Nat → Nat} {k : Nat} (hz : zle (cst Γ) z) (hX : Mx Γ h D M) (hb : MBd M 30 40 B) (hC : BC B) (hk : k < Bt B) : Ct l Γ yX4_isFitted cX4_isFitted 4 (some .boolean) 7 0 0 [.ref (D 0), .ref (D 10), .int (nI k)] z h (Rv (fun v z' h' => v = .int (bI (fwN B k).isSome) ∧ z' = z ∧ Mx Γ h' D (fitM M 30 40 B k) ∧ FrD h h' D)) := by
  refine Ct.of hl hΓ (by decide +kernel) (Nat.le_of_ble_eq_true rfl) (fun X e1 e2 C => ?_)
  subst e1; subst e2
  have C : Cx X cX4_isFitted 4 "RingDominoModel" "isFitted" (some .boolean) [] 7 := C
  have hB := hC.1
  have t1 : Bt B ≤ 16 := hB.2.1
  have hzz := BO.z hB
  have X0 := hX.m
  have hP : MrP (xG X) z h (D 0) (D 10) B := ⟨_, D, Or.inl X0, Mx.n hX hb⟩
  have Xs : h (D 10) = some (cSt (fun i => D (40 + i)) (M.1 30) (M.1 31)) := hX.1 10 (by decide)
  show WW X (Rv (fun v z' h' => v = .int (bI (fwN B k).isSome) ∧ z' = z ∧ Mx (xG X) h' D (fitM M 30 40 B k) ∧ FrD h h' D)) z h 0 0 0 [(0, .ref (D 0)), (1, .ref (D 10)), (2, .int (nI k))] []
  refine ww_aload_n C dX4_isFitted_0 rfl 0 rfl rfl ?_
  refine ww_aload_n C dX4_isFitted_1 rfl 1 rfl rfl ?_
  refine ww_iload_n C dX4_isFitted_2 rfl 2 rfl ?_
  refine cv_X4_355_r (As := [.ref (D 10), .int (nI k)]) (rest := []) C dX4_isFitted_3 (ct_X4_firstWay (Cx.fl C) (Cx.ok C) hz hP hC hk) (rc_X4 (Cx.ok C) (Or.inl X0)) rfl rfl (Nat.le_of_ble_eq_true rfl) (by decide) (Nat.zero_le _) (Nat.zero_le _) ?_
  refine ww_istore_n (lv' := [(3, .int (oI (fwN B k))), (0, .ref (D 0)), (1, .ref (D 10)), (2, .int (nI k))]) C dX4_isFitted_6 rfl (by decide) rfl ?_
  refine ww_iload_n C dX4_isFitted_7 rfl 0 rfl ?_
  refine ww_iconst C dX4_isFitted_8 cI_m1 ?_
  refine ww_icmp_ne_o (tgt := 14) C dX4_isFitted_9 (by decide) (fw_lt hB) (fun c_9 => ?_) (fun c_9 => ?_)
  · skip
    obtain ⟨y, hy⟩ := Option.ne_none_iff_exists'.mp c_9
    have hyl := (ff_lt _ _ _ hy).1
    refine ww_lv (lv' := [(3, .int (nI y)), (0, .ref (D 0)), (1, .ref (D 10)), (2, .int (nI k))]) (by rw [hy]; rfl) ?_
    refine ww_aload_n C dX4_isFitted_14 rfl 2 rfl rfl ?_
    refine ww_iload_n C dX4_isFitted_15 rfl 3 rfl ?_
    refine ww_iload_n C dX4_isFitted_16 rfl 0 rfl ?_
    refine ww_bipush C dX4_isFitted_17 cB_6 ?_
    refine ww_idivn C dX4_isFitted_19 (by omega) (by decide) (by decide) ?_
    refine ww_iload_n C dX4_isFitted_20 rfl 0 rfl ?_
    refine ww_bipush C dX4_isFitted_21 cB_6 ?_
    refine ww_iremn C dX4_isFitted_23 (by omega) (by decide) (by decide) ?_
    refine cv_X4_364_q (As := [.int (nI k), .int (nI (y / 6)), .int (nI (y % 6))]) (rest := []) C dX4_isFitted_24 (ct_X6_put (Cx.fl C) (Cx.ok C) hX (by omega) (by omega)) (rc_X6 (Cx.ok C) (Or.inl Xs)) rfl rfl (Nat.le_of_ble_eq_true rfl) (by decide) (Nat.zero_le _) (Nat.zero_le _) (fun z9 h9 q => ?_)
    obtain ⟨hq1, hq2, hq3⟩ := q; replace hq1 := hq1.symm; subst hq1
    refine ww_iconst C dX4_isFitted_27 cI_1 ?_
    exact ww_zret C dX4_isFitted_28 nar_z1 ⟨by rw [hy]; rfl, rfl, by unfold fitM; rw [hy]; exact hq2, hq3⟩
  · skip
    refine ww_iconst C dX4_isFitted_12 cI_0 ?_
    exact ww_zret C dX4_isFitted_13 nar_z0 ⟨by rw [c_9]; rfl, rfl, by unfold fitM; rw [c_9]; exact hX, FrD.rf⟩
set_option maxHeartbeats 2000000 in
theorem ct_X4_isFitted_a {l : Launch} {Γ : Gm} (hl : l.flags = flags0) (hΓ : GOK Γ) {z : ZR} {h : AH} {B : GB} {M : MS} {D : Nat → Nat} {k : Nat} (hz : zle (cst Γ) z) (hX : Mx Γ h D M) (hb : MBd M 32 43 B) (hC : BC B) (hk : k < Bt B) : Ct l Γ yX4_isFitted cX4_isFitted 4 (some .boolean) 7 0 0 [.ref (D 0), .ref (D 11), .int (nI k)] z h (Rv (fun v z' h' => v = .int (bI (fwN B k).isSome) ∧ z' = z ∧ Mx Γ h' D (fitM M 32 43 B k) ∧ FrD h h' D)) := by
  refine Ct.of hl hΓ (by decide +kernel) (Nat.le_of_ble_eq_true rfl) (fun X e1 e2 C => ?_)
  subst e1; subst e2
  have C : Cx X cX4_isFitted 4 "RingDominoModel" "isFitted" (some .boolean) [] 7 := C
  have hB := hC.1
  have t1 : Bt B ≤ 16 := hB.2.1
  have hzz := BO.z hB
  have X0 := hX.m
  have hP : MrP (xG X) z h (D 0) (D 11) B := ⟨_, D, Or.inl X0, Mx.a hX hb⟩
  have Xs : h (D 11) = some (cSt (fun i => D (43 + i)) (M.1 32) (M.1 33)) := hX.1 11 (by decide)
  show WW X (Rv (fun v z' h' => v = .int (bI (fwN B k).isSome) ∧ z' = z ∧ Mx (xG X) h' D (fitM M 32 43 B k) ∧ FrD h h' D)) z h 0 0 0 [(0, .ref (D 0)), (1, .ref (D 11)), (2, .int (nI k))] []
  refine ww_aload_n C dX4_isFitted_0 rfl 0 rfl rfl ?_
  refine ww_aload_n C dX4_isFitted_1 rfl 1 rfl rfl ?_
  refine ww_iload_n C dX4_isFitted_2 rfl 2 rfl ?_
  refine cv_X4_355_r (As := [.ref (D 11), .int (nI k)]) (rest := []) C dX4_isFitted_3 (ct_X4_firstWay (Cx.fl C) (Cx.ok C) hz hP hC hk) (rc_X4 (Cx.ok C) (Or.inl X0)) rfl rfl (Nat.le_of_ble_eq_true rfl) (by decide) (Nat.zero_le _) (Nat.zero_le _) ?_
  refine ww_istore_n (lv' := [(3, .int (oI (fwN B k))), (0, .ref (D 0)), (1, .ref (D 11)), (2, .int (nI k))]) C dX4_isFitted_6 rfl (by decide) rfl ?_
  refine ww_iload_n C dX4_isFitted_7 rfl 0 rfl ?_
  refine ww_iconst C dX4_isFitted_8 cI_m1 ?_
  refine ww_icmp_ne_o (tgt := 14) C dX4_isFitted_9 (by decide) (fw_lt hB) (fun c_9 => ?_) (fun c_9 => ?_)
  · skip
    obtain ⟨y, hy⟩ := Option.ne_none_iff_exists'.mp c_9
    have hyl := (ff_lt _ _ _ hy).1
    refine ww_lv (lv' := [(3, .int (nI y)), (0, .ref (D 0)), (1, .ref (D 11)), (2, .int (nI k))]) (by rw [hy]; rfl) ?_
    refine ww_aload_n C dX4_isFitted_14 rfl 2 rfl rfl ?_
    refine ww_iload_n C dX4_isFitted_15 rfl 3 rfl ?_
    refine ww_iload_n C dX4_isFitted_16 rfl 0 rfl ?_
    refine ww_bipush C dX4_isFitted_17 cB_6 ?_
    refine ww_idivn C dX4_isFitted_19 (by omega) (by decide) (by decide) ?_
    refine ww_iload_n C dX4_isFitted_20 rfl 0 rfl ?_
    refine ww_bipush C dX4_isFitted_21 cB_6 ?_
    refine ww_iremn C dX4_isFitted_23 (by omega) (by decide) (by decide) ?_
    refine cv_X4_364_q (As := [.int (nI k), .int (nI (y / 6)), .int (nI (y % 6))]) (rest := []) C dX4_isFitted_24 (ct_X6_put_a (Cx.fl C) (Cx.ok C) hX (by omega) (by omega)) (rc_X6 (Cx.ok C) (Or.inl Xs)) rfl rfl (Nat.le_of_ble_eq_true rfl) (by decide) (Nat.zero_le _) (Nat.zero_le _) (fun z9 h9 q => ?_)
    obtain ⟨hq1, hq2, hq3⟩ := q; replace hq1 := hq1.symm; subst hq1
    refine ww_iconst C dX4_isFitted_27 cI_1 ?_
    exact ww_zret C dX4_isFitted_28 nar_z1 ⟨by rw [hy]; rfl, rfl, by unfold fitM; rw [hy]; exact hq2, hq3⟩
  · skip
    refine ww_iconst C dX4_isFitted_12 cI_0 ?_
    exact ww_zret C dX4_isFitted_13 nar_z0 ⟨by rw [c_9]; rfl, rfl, by unfold fitM; rw [c_9]; exact hX, FrD.rf⟩
set_option maxHeartbeats 2000000 in
theorem ct_X4_fitTile {l : Launch} {Γ : Gm} (hl : l.flags = flags0) (hΓ : GOK Γ) {z : ZR} {h : AH} {B : GB} {M : MS} {D : Nat → Nat} {x : Int32} (hz : zle (cst Γ) z) (hX : Mx Γ h D M) (hb : MBd M 30 40 B) (hC : BC B) : Ct l Γ yX4_fitTile cX4_fitTile 2 (some .int) 8 0 0 [.ref (D 0), .int x] z h (Rv (Mu Γ z h D M (uFit B x).2 (uFit B x).1)) := by
  refine Ct.of hl hΓ (by decide +kernel) (Nat.le_of_ble_eq_true rfl) (fun X e1 e2 C => ?_)
  subst e1; subst e2
  have C : Cx X cX4_fitTile 2 "RingDominoModel" "fitTile" (some .int) [] 8 := C
  have hB := hC.1
  obtain ⟨⟨⟨c1, c2⟩, ⟨r1, r2⟩⟩, t1, bl1, bu1, bp1, bn1⟩ := id hB
  have hzz := BO.z hB
  have hz0 : 0 < Bz B := Nat.mul_pos (by omega) (by omega)
  have X0 := hX.m
  have hR := Mx.n (z := z) hX hb
  have hP : MrP (xG X) z h (D 0) (D 10) B := ⟨_, D, Or.inl X0, hR⟩
  obtain ⟨o, nn, rn, nu, tu, S, Ht, Hn, hnu, Hs, Ha, Hc, Hu, htu⟩ := id hR
  show WW X (Rv (Mu (xG X) z h D M (uFit B x).2 (uFit B x).1)) z h 0 0 0 [(0, .ref (D 0)), (1, .int x)] []
  refine ww_aload_n C dX4_fitTile_0 rfl 0 rfl rfl ?_
  refine ww_iconst C dX4_fitTile_1 cI_0 ?_
  refine pf_X4_65_X4 (fs' := [.int (nI 0), .ref (D 1), .int (M.1 1), .int (M.1 2), .ref (D 2), .ref (D 3), .ref (D 4), .ref (D 5), .int (M.1 3), .int (M.1 4), .int (M.1 5), .int (M.1 6), .int (M.1 7), .ref (D 6), .ref (D 7), .ref (D 8), .ref (D 9), .ref (D 10), .ref (D 11), .ref (D 12), .ref (D 13), .int (M.1 8), .int (M.1 9), .int (M.1 10)]) C dX4_fitTile_2 X0 rfl rfl (Nat.le_of_ble_eq_true rfl) rfl ?_
  refine ww_gen (fun h1 hE1 => ?_)
  have X0_h1 : h1 (D 0) = some (.inr (3, [.int (nI 0), .ref (D 1), .int (M.1 1), .int (M.1 2), .ref (D 2), .ref (D 3), .ref (D 4), .ref (D 5), .int (M.1 3), .int (M.1 4), .int (M.1 5), .int (M.1 6), .int (M.1 7), .ref (D 6), .ref (D 7), .ref (D 8), .ref (D 9), .ref (D 10), .ref (D 11), .ref (D 12), .ref (D 13), .int (M.1 8), .int (M.1 9), .int (M.1 10)])) := by rw [hE1]; exact up_s
  have hX1 : Mx (xG X) h1 D (upd M.1 0 (nI 0), M.2) := by rw [hE1]; exact hX.thr _
  have hb1 : MBd (upd M.1 0 (nI 0), M.2) 30 40 B := hb.thr
  have hR1 := Mx.n (z := z) hX1 hb1
  have hP1 : MrP (xG X) z h1 (D 0) (D 10) B := ⟨_, D, Or.inl hX1.m, hR1⟩
  obtain ⟨o1, nn1, rn1, nu1, tu1, S1, Ht1, Hn1, hnu1, Hs1, Ha1, Hc1, Hu1, htu1⟩ := id hR1
  have hE0 : h1 = up h (D 0) (cMd (upd M.1 0 (nI 0)) D) := hE1
  have X1 := hX1.m
  refine ww_aload_n C dX4_fitTile_5 rfl 0 rfl rfl ?_
  refine ww_iload_n C dX4_fitTile_6 rfl 1 rfl ?_
  refine cv_X4_400_r (As := [.int x]) (rest := []) C dX4_fitTile_7 (ct_X4_isTile (Cx.fl C) (Cx.ok C) hz hP1 hC) (rc_X4 (Cx.ok C) (Or.inl X1)) rfl rfl (Nat.le_of_ble_eq_true rfl) (by decide) (Nat.zero_le _) (Nat.zero_le _) ?_
  refine ww_if_ne_b (tgt := 19) C dX4_fitTile_10 (by decide) (fun c_10 => ?_) (fun c_10 => ?_)
  · skip
    obtain ⟨c, hc, hxc, hix⟩ := ixB_t (by omega) c_10
    subst hxc
    refine ww_aload_n C dX4_fitTile_19 rfl 0 rfl rfl ?_
    refine ww_aload_n C dX4_fitTile_20 rfl 0 rfl rfl ?_
    refine gf_X4_48_X4 C dX4_fitTile_21 (Or.inl X1) rfl ?_
    refine ww_iload_n C dX4_fitTile_24 rfl 1 rfl ?_
    refine cv_X4_371_q (As := [.ref (D 10), .int (nI c)]) (rest := []) C dX4_fitTile_25 (ct_X4_isFitted (Cx.fl C) (Cx.ok C) hz hX1 hb1 hC hc) (rc_X4 (Cx.ok C) (Or.inl X1)) rfl rfl (Nat.le_of_ble_eq_true rfl) (by decide) (Nat.zero_le _) (Nat.zero_le _) (fun v z8 h8 q => ?_)
    obtain ⟨rfl, hq3, hX8, hF8⟩ := q; replace hq3 := hq3.symm; subst hq3
    have X8 := hX8.m
    refine ww_if_eq_b (tgt := 43) C dX4_fitTile_28 (by decide) (fun c_28 => ?_) (fun c_28 => ?_)
    · skip
      have hf0 : fwN B c = none := by cases hb : fwN B c with | none => rfl | some r => rw [hb] at c_28; cases c_28
      unfold fitM at hX8 X8; rw [hf0] at hX8 X8
      refine ww_aload_n C dX4_fitTile_43 rfl 0 rfl rfl ?_
      refine ww_iconst C dX4_fitTile_44 cI_2 ?_
      refine cv_X4_254_q (As := [.int (nI 2)]) (rest := []) C dX4_fitTile_45 (ct_X4_no (Cx.fl C) (Cx.ok C) X8) (rc_X4 (Cx.ok C) (Or.inl X8)) rfl rfl (Nat.le_of_ble_eq_true rfl) (by decide) (Nat.zero_le _) (Nat.zero_le _) (fun v z9 h9 q => ?_)
      obtain ⟨rfl, hq1, hq2⟩ := q; replace hq1 := hq1.symm; subst hq1
      have hXn := hX8.thr (nI 2)
      rw [← hq2] at hXn
      exact ww_iret C dX4_fitTile_48 ⟨by unfold uFit; rw [hix]; simp only [hf0]; try rfl, rfl, _, (Mgo.rf.thr).thr, by unfold uFit; rw [hix]; simp only [hf0]; exact hb, by unfold uFit; rw [hix]; simp only [hf0]; rfl, hXn, by rw [hq2]; exact (FrD.tr (by rw [hE0]; exact FrD.rf.w (by decide)) hF8).w (by decide)⟩
    · skip
      obtain ⟨y, hy⟩ := Option.isSome_iff_exists.mp c_28
      have hyl := (ff_lt _ _ _ hy).1
      have hfy : ftN B c (y / 6) (y % 6) = true := (ff_lt _ _ _ hy).2
      obtain ⟨hl0, hp0⟩ := ftN_d hfy
      unfold fitM at hX8 X8; rw [hy] at hX8 X8
      have hb8 := MBd_put hb1 (Or.inl ⟨rfl, rfl⟩) (k := c) (x := y / 6) (t := y % 6) (by omega) hl0
      have hR8 := Mx.n (z := z) hX8 hb8
      obtain ⟨o8, nn8, rn8, nu8, tu8, S8, Ht8, Hn8, hnu8, Hs8, Ha8, Hc8, Hu8, htu8⟩ := id hR8
      refine ww_aload_n C dX4_fitTile_31 rfl 0 rfl rfl ?_
      refine gf_X4_48_X4 C dX4_fitTile_32 (Or.inl X8) rfl ?_
      refine gf_X4_293_X6 C dX4_fitTile_35 Hs8 rfl ?_
      refine ww_iload_n C dX4_fitTile_38 rfl 1 rfl ?_
      refine ww_iald C dX4_fitTile_39 Hc8 (by omega) (by decide) ?_
      refine ww_st (st' := [.int (nI (y / 6))]) (by rw [show Bp (putB B c (y / 6) (y % 6)) c = some (y / 6) from if_pos rfl]; rfl) ?_
      refine ww_goto (tgt := 48) C dX4_fitTile_40 (by decide) ?_
      exact ww_iret C dX4_fitTile_48 ⟨by unfold uFit; rw [hix]; simp only [hy]; try rfl, rfl, _, Mgo.put, by unfold uFit; rw [hix]; simp only [hy]; exact hb8, by unfold uFit; rw [hix]; simp only [hy]; rfl, hX8, FrD.tr (by rw [hE0]; exact FrD.rf.w (by decide)) hF8⟩
  · skip
    have hix := ixB_f c_10
    refine ww_aload_n C dX4_fitTile_13 rfl 0 rfl rfl ?_
    refine ww_iconst C dX4_fitTile_14 cI_1 ?_
    refine cv_X4_254_q (As := [.int (nI 1)]) (rest := []) C dX4_fitTile_15 (ct_X4_no (Cx.fl C) (Cx.ok C) X1) (rc_X4 (Cx.ok C) (Or.inl X1)) rfl rfl (Nat.le_of_ble_eq_true rfl) (by decide) (Nat.zero_le _) (Nat.zero_le _) (fun v z9 h9 q => ?_)
    obtain ⟨rfl, hq1, hq2⟩ := q; replace hq1 := hq1.symm; subst hq1
    exact ww_iret C dX4_fitTile_18 (Mu.of hX hb (by unfold uFit; rw [hix]; try rfl) (by unfold uFit; rw [hix]; try rfl) (by rw [hq2, hE0, up_up, upd_upd]; unfold uFit; rw [hix]; try rfl))
set_option maxHeartbeats 2000000 in
theorem ct_X4_putTile {l : Launch} {Γ : Gm} (hl : l.flags = flags0) (hΓ : GOK Γ) {z : ZR} {h : AH} {B : GB} {M : MS} {D : Nat → Nat} {x y t : Int32} (hz : zle (cst Γ) z) (hX : Mx Γ h D M) (hb : MBd M 30 40 B) (hC : BC B) : Ct l Γ yX4_putTile cX4_putTile 5 (some .int) 9 0 0 [.ref (D 0), .int x, .int y, .int t] z h (Rv (Mu Γ z h D M (uPut B x y t).2 (uPut B x y t).1)) := by
  refine Ct.of hl hΓ (by decide +kernel) (Nat.le_of_ble_eq_true rfl) (fun X e1 e2 C => ?_)
  subst e1; subst e2
  have C : Cx X cX4_putTile 5 "RingDominoModel" "putTile" (some .int) [] 9 := C
  have hB := hC.1
  obtain ⟨⟨⟨c1, c2⟩, ⟨r1, r2⟩⟩, t1, bl1, bu1, bp1, bn1⟩ := id hB
  have hzz := BO.z hB
  have hz0 : 0 < Bz B := Nat.mul_pos (by omega) (by omega)
  have X0 := hX.m
  have hR := Mx.n (z := z) hX hb
  have hP : MrP (xG X) z h (D 0) (D 10) B := ⟨_, D, Or.inl X0, hR⟩
  obtain ⟨o, nn, rn, nu, tu, S, Ht, Hn, hnu, Hs, Ha, Hc, Hu, htu⟩ := id hR
  show WW X (Rv (Mu (xG X) z h D M (uPut B x y t).2 (uPut B x y t).1)) z h 0 0 0 [(0, .ref (D 0)), (1, .int x), (2, .int y), (3, .int t)] []
  refine ww_aload_n C dX4_putTile_0 rfl 0 rfl rfl ?_
  refine ww_iload_n C dX4_putTile_1 rfl 1 rfl ?_
  refine ww_iload_n C dX4_putTile_2 rfl 2 rfl ?_
  refine ww_iload_n C dX4_putTile_3 rfl 3 rfl ?_
  refine cv_X4_406_q (As := [.int x, .int y, .int t]) (rest := []) C dX4_putTile_4 (ct_X4_isAsked (Cx.fl C) (Cx.ok C) hz hX hb hC) (rc_X4 (Cx.ok C) (Or.inl X0)) rfl rfl (Nat.le_of_ble_eq_true rfl) (by decide) (Nat.zero_le _) (Nat.zero_le _) (fun v z1 h1 q => ?_)
  obtain ⟨rfl, hq1, hE0⟩ := q; replace hq1 := hq1.symm; subst hq1
  refine ww_if_ne_b (tgt := 12) C dX4_putTile_7 (by decide) (fun c_7 => ?_) (fun c_7 => ?_)
  · skip
    rw [c_7] at hE0
    have hE0 : h1 = up h (D 0) (cMd (upd M.1 0 (nI 0)) D) := hE0
    have hX1 : Mx (xG X) h1 D (upd M.1 0 (nI 0), M.2) := by rw [hE0]; exact hX.thr _
    have hb1 : MBd (upd M.1 0 (nI 0), M.2) 30 40 B := hb.thr
    have hR1 := Mx.n (z := z) hX1 hb1
    have X1 := hX1.m
    have hP1 : MrP (xG X) z h1 (D 0) (D 10) B := ⟨_, D, Or.inl X1, hR1⟩
    obtain ⟨o1, nn1, rn1, nu1, tu1, S1, Ht1, Hn1, hnu1, Hs1, Ha1, Hc1, Hu1, htu1⟩ := id hR1
    obtain ⟨k, c, u, hk, hc, hu, ex, ey, et, i1, i2, i3⟩ := okA_t hB c_7
    subst ex; subst ey; subst et
    refine ww_aload_n C dX4_putTile_12 rfl 0 rfl rfl ?_
    refine ww_aload_n C dX4_putTile_13 rfl 0 rfl rfl ?_
    refine gf_X4_48_X4 C dX4_putTile_14 (Or.inl X1) rfl ?_
    refine ww_iload_n C dX4_putTile_17 rfl 1 rfl ?_
    refine ww_iload_n C dX4_putTile_18 rfl 2 rfl ?_
    refine ww_iload_n C dX4_putTile_19 rfl 3 rfl ?_
    refine cv_X4_310_r (As := [.ref (D 10), .int (nI k), .int (nI c), .int (nI u)]) (rest := []) C dX4_putTile_20 (ct_X4_fits_2 (Cx.fl C) (Cx.ok C) hz hP1 hC hk (by omega) hu) (rc_X4 (Cx.ok C) (Or.inl X1)) rfl rfl (Nat.le_of_ble_eq_true rfl) (by decide) (Nat.zero_le _) (Nat.zero_le _) ?_
    refine ww_if_ne_b (tgt := 32) C dX4_putTile_23 (by decide) (fun c_23 => ?_) (fun c_23 => ?_)
    · skip
      obtain ⟨hl0, hp0⟩ := ftN_d c_23
      refine ww_aload_n C dX4_putTile_32 rfl 0 rfl rfl ?_
      refine ww_aload_n C dX4_putTile_33 rfl 0 rfl rfl ?_
      refine gf_X4_48_X4 C dX4_putTile_34 (Or.inl X1) rfl ?_
      refine cv_X4_349_r (As := [.ref (D 10)]) (rest := []) C dX4_putTile_37 (ct_X4_points_2 (Cx.fl C) (Cx.ok C) hz hP1 hC) (rc_X4 (Cx.ok C) (Or.inl X1)) rfl rfl (Nat.le_of_ble_eq_true rfl) (by decide) (Nat.zero_le _) (Nat.zero_le _) ?_
      refine ww_istore (lv' := [(4, .int (nI (poN B))), (0, .ref (D 0)), (1, .int (nI k)), (2, .int (nI c)), (3, .int (nI u))]) C dX4_putTile_40 (by decide) rfl ?_
      refine ww_aload_n C dX4_putTile_42 rfl 1 rfl rfl ?_
      refine gf_X4_48_X4 C dX4_putTile_43 (Or.inl X1) rfl ?_
      refine ww_iload_n C dX4_putTile_46 rfl 2 rfl ?_
      refine ww_iload_n C dX4_putTile_47 rfl 3 rfl ?_
      refine ww_iload_n C dX4_putTile_48 rfl 4 rfl ?_
      refine cv_X4_364_q (As := [.int (nI k), .int (nI c), .int (nI u)]) (rest := []) C dX4_putTile_49 (ct_X6_put (Cx.fl C) (Cx.ok C) hX1 (by omega) (by omega)) (rc_X6 (Cx.ok C) Hs1) rfl rfl (Nat.le_of_ble_eq_true rfl) (by decide) (Nat.zero_le _) (Nat.zero_le _) (fun z9 h9 q => ?_)
      obtain ⟨hq1, hX9, hF9⟩ := q; replace hq1 := hq1.symm; subst hq1
      have hb9 := MBd_put hb1 (Or.inl ⟨rfl, rfl⟩) (k := k) (x := c) (t := u) hc hl0
      have hC9 := BC_put hC hk hc hu hl0 hp0
      have X9 := hX9.m
      have hP9 : MrP (xG X) z h9 (D 0) (D 10) (putB B k c u) := ⟨_, D, Or.inl X9, Mx.n hX9 hb9⟩
      refine ww_aload_n C dX4_putTile_52 rfl 1 rfl rfl ?_
      refine ww_aload_n C dX4_putTile_53 rfl 1 rfl rfl ?_
      refine gf_X4_48_X4 C dX4_putTile_54 (Or.inl X9) rfl ?_
      refine cv_X4_349_r (As := [.ref (D 10)]) (rest := []) C dX4_putTile_57 (ct_X4_points_2 (Cx.fl C) (Cx.ok C) hz hP9 hC9) (rc_X4 (Cx.ok C) (Or.inl X9)) rfl rfl (Nat.le_of_ble_eq_true rfl) (by decide) (Nat.zero_le _) (Nat.zero_le _) ?_
      refine ww_iload C dX4_putTile_60 0 rfl ?_
      refine ww_isub C dX4_putTile_62 ?_
      exact ww_iret C dX4_putTile_63 ⟨by unfold uPut; rw [i1]; simp only [i2, i3, c_23]; try rfl, rfl, _, Mgo.put, by unfold uPut; rw [i1]; simp only [i2, i3, c_23]; exact hb9, by unfold uPut; rw [i1]; simp only [i2, i3, c_23]; rfl, hX9, FrD.tr (by rw [hE0]; exact FrD.rf.w (by decide)) hF9⟩
    · skip
      refine ww_aload_n C dX4_putTile_26 rfl 0 rfl rfl ?_
      refine ww_iconst C dX4_putTile_27 cI_2 ?_
      refine cv_X4_254_q (As := [.int (nI 2)]) (rest := []) C dX4_putTile_28 (ct_X4_no (Cx.fl C) (Cx.ok C) X1) (rc_X4 (Cx.ok C) (Or.inl X1)) rfl rfl (Nat.le_of_ble_eq_true rfl) (by decide) (Nat.zero_le _) (Nat.zero_le _) (fun v z9 h9 q => ?_)
      obtain ⟨rfl, hq1, hq2⟩ := q; replace hq1 := hq1.symm; subst hq1
      exact ww_iret C dX4_putTile_31 (Mu.of hX hb (by unfold uPut; rw [i1]; simp only [i2, i3, c_23]; try rfl) (by unfold uPut; rw [i1]; simp only [i2, i3, c_23]; try rfl) (by rw [hq2, hE0, up_up, upd_upd]; unfold uPut; rw [i1]; simp only [i2, i3, c_23]; try rfl))
  · skip
    rw [c_7] at hE0
    have hn := uPut_n c_7
    refine ww_iconst C dX4_putTile_10 cI_0 ?_
    exact ww_iret C dX4_putTile_11 (Mu.of hX hb (by rw [hn]) (by rw [hn]) (by rw [hE0, hn]; try rfl))
set_option maxHeartbeats 2000000 in
theorem ct_X4_takeTile {l : Launch} {Γ : Gm} (hl : l.flags = flags0) (hΓ : GOK Γ) {z : ZR} {h : AH} {B : GB} {M : MS} {D : Nat → Nat} {x : Int32} (hz : zle (cst Γ) z) (hX : Mx Γ h D M) (hb : MBd M 30 40 B) (hC : BC B) : Ct l Γ yX4_takeTile cX4_takeTile 3 (some .int) 9 0 0 [.ref (D 0), .int x] z h (Rv (Mu Γ z h D M (uTak B x).2 (uTak B x).1)) := by
  refine Ct.of hl hΓ (by decide +kernel) (Nat.le_of_ble_eq_true rfl) (fun X e1 e2 C => ?_)
  subst e1; subst e2
  have C : Cx X cX4_takeTile 3 "RingDominoModel" "takeTile" (some .int) [] 9 := C
  have hB := hC.1
  obtain ⟨⟨⟨c1, c2⟩, ⟨r1, r2⟩⟩, t1, bl1, bu1, bp1, bn1⟩ := id hB
  have hzz := BO.z hB
  have hz0 : 0 < Bz B := Nat.mul_pos (by omega) (by omega)
  have X0 := hX.m
  have hR := Mx.n (z := z) hX hb
  have hP : MrP (xG X) z h (D 0) (D 10) B := ⟨_, D, Or.inl X0, hR⟩
  obtain ⟨o, nn, rn, nu, tu, S, Ht, Hn, hnu, Hs, Ha, Hc, Hu, htu⟩ := id hR
  show WW X (Rv (Mu (xG X) z h D M (uTak B x).2 (uTak B x).1)) z h 0 0 0 [(0, .ref (D 0)), (1, .int x)] []
  refine ww_aload_n C dX4_takeTile_0 rfl 0 rfl rfl ?_
  refine ww_iload_n C dX4_takeTile_1 rfl 1 rfl ?_
  refine cv_X4_403_q (As := [.int x]) (rest := []) C dX4_takeTile_2 (ct_X4_lies (Cx.fl C) (Cx.ok C) hz hX hb hC) (rc_X4 (Cx.ok C) (Or.inl X0)) rfl rfl (Nat.le_of_ble_eq_true rfl) (by decide) (Nat.zero_le _) (Nat.zero_le _) (fun v z1 h1 q => ?_)
  obtain ⟨rfl, hq1, hE0⟩ := q; replace hq1 := hq1.symm; subst hq1
  refine ww_if_ne_b (tgt := 10) C dX4_takeTile_5 (by decide) (fun c_5 => ?_) (fun c_5 => ?_)
  · skip
    have hl : liC B x = 0 := of_decide_eq_true c_5
    rw [hl] at hE0
    obtain ⟨k, y, hk, hxk, hy, hix⟩ := liC_t (by omega) hl
    subst hxk
    have hX1 : Mx (xG X) h1 D (upd M.1 0 (nI 0), M.2) := by rw [hE0]; exact hX.thr _
    have hb1 : MBd (upd M.1 0 (nI 0), M.2) 30 40 B := hb.thr
    have hR1 := Mx.n (z := z) hX1 hb1
    have X1 := hX1.m
    have hP1 : MrP (xG X) z h1 (D 0) (D 10) B := ⟨_, D, Or.inl X1, hR1⟩
    obtain ⟨o1, nn1, rn1, nu1, tu1, S1, Ht1, Hn1, hnu1, Hs1, Ha1, Hc1, Hu1, htu1⟩ := id hR1
    refine ww_aload_n C dX4_takeTile_10 rfl 0 rfl rfl ?_
    refine ww_aload_n C dX4_takeTile_11 rfl 0 rfl rfl ?_
    refine gf_X4_48_X4 C dX4_takeTile_12 (Or.inl X1) rfl ?_
    refine cv_X4_349_r (As := [.ref (D 10)]) (rest := []) C dX4_takeTile_15 (ct_X4_points_2 (Cx.fl C) (Cx.ok C) hz hP1 hC) (rc_X4 (Cx.ok C) (Or.inl X1)) rfl rfl (Nat.le_of_ble_eq_true rfl) (by decide) (Nat.zero_le _) (Nat.zero_le _) ?_
    refine ww_istore_n (lv' := [(2, .int (nI (poN B))), (0, .ref (D 0)), (1, .int (nI k))]) C dX4_takeTile_18 rfl (by decide) rfl ?_
    refine ww_aload_n C dX4_takeTile_19 rfl 1 rfl rfl ?_
    refine gf_X4_48_X4 C dX4_takeTile_20 (Or.inl X1) rfl ?_
    refine ww_iload_n C dX4_takeTile_23 rfl 2 rfl ?_
    refine cv_X4_378_q (As := [.int (nI k)]) (rest := []) C dX4_takeTile_24 (ct_X6_take (Cx.fl C) (Cx.ok C) (x := y) hX1 (by omega) (bp1 k y hy) (by show M.2.1 41 k = _; rw [hb.2.2.2.2.2.2.1]; show oI (Bp B k) = _; rw [hy]; rfl)) (rc_X6 (Cx.ok C) Hs1) rfl rfl (Nat.le_of_ble_eq_true rfl) (by decide) (Nat.zero_le _) (Nat.zero_le _) (fun z9 h9 q => ?_)
    obtain ⟨hq1, hX9, hF9⟩ := q; replace hq1 := hq1.symm; subst hq1
    have hb9 := MBd_tak hb1 hC (Or.inl ⟨rfl, rfl⟩) hy
    have hC9 := BC_tak hC hy
    have X9 := hX9.m
    have hP9 : MrP (xG X) z h9 (D 0) (D 10) (takB B k) := ⟨_, D, Or.inl X9, Mx.n hX9 hb9⟩
    refine ww_iload_n C dX4_takeTile_27 rfl 0 rfl ?_
    refine ww_aload_n C dX4_takeTile_28 rfl 1 rfl rfl ?_
    refine ww_aload_n C dX4_takeTile_29 rfl 1 rfl rfl ?_
    refine gf_X4_48_X4 C dX4_takeTile_30 (Or.inl X9) rfl ?_
    refine cv_X4_349_r (As := [.ref (D 10)]) (rest := [.int (nI (poN B))]) C dX4_takeTile_33 (ct_X4_points_2 (Cx.fl C) (Cx.ok C) hz hP9 hC9) (rc_X4 (Cx.ok C) (Or.inl X9)) rfl rfl (Nat.le_of_ble_eq_true rfl) (by decide) (Nat.zero_le _) (Nat.zero_le _) ?_
    refine ww_isub C dX4_takeTile_36 ?_
    exact ww_iret C dX4_takeTile_37 ⟨by unfold uTak; rw [hix]; simp only [hy]; try rfl, rfl, _, Mgo.tak, by unfold uTak; rw [hix]; simp only [hy]; exact hb9, by unfold uTak; rw [hix]; simp only [hy]; rfl, hX9, FrD.tr (by rw [hE0]; exact FrD.rf.w (by decide)) hF9⟩
  · skip
    have hl : liC B x ≠ 0 := of_decide_eq_false c_5
    have hn := uTak_n hl
    refine ww_iconst C dX4_takeTile_8 cI_0 ?_
    exact ww_iret C dX4_takeTile_9 (Mu.of hX hb (by rw [hn]) (by rw [hn]) (by rw [hE0, hn]; try rfl))
end MO7
