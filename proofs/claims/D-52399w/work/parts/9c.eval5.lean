section EV5
set_option maxRecDepth 100000
def cTk (B : GB) (k : Nat) : Bool × GB := match Bp B k with
  | none => (false, B)
  | some _ => (true, takB B k)
def cFt (B : GB) (k : Nat) : Bool × GB := match fwN B k with
  | none => (false, B)
  | some w => (true, putB B k (w / 6) (w % 6))
def cPt (B : GB) (k x t : Nat) : Bool × GB := match ftN B k x t with
  | false => (false, B)
  | true => (true, putB B k x t)
theorem rmd_ge {x : Int32} {m : Nat} (h0 : 0 < m) (hm : m < 2 ^ 15) (hr : ¬ x - x / nI m * nI m < 0) : x - x / nI m * nI m = nI (fmN x m) := by
  by_cases hx : 0 ≤ x.toInt
  · exact fm_ge h0 hm hx
  · have hx : x.toInt < 0 := by omega
    by_cases hz : x - x / nI m * nI m = 0
    · rw [hz, fm_0 h0 hm hx hz]; rfl
    · exfalso
      have h1 := fm_n h0 hm hx hz
      have h2 := rm_toInt (x := x) h0 hm
      rw [fm_tm h0 hx] at h2
      have h3 := fm_i (x := x) h0
      have h4 := fm_lt (x := x) h0
      rw [Int32.lt_iff_toInt_lt] at hr
      have h5 : (0 : Int32).toInt = 0 := rfl
      rw [h5, h2] at hr
      split at hr
      · rename_i q
        apply hz
        apply Int32.toInt_inj.mp
        rw [h2, if_pos q]; rfl
      · omega
theorem rmd_lt {x : Int32} {m : Nat} (h0 : 0 < m) (hm : m < 2 ^ 15) (hr : x - x / nI m * nI m < 0) : x - x / nI m * nI m + nI m = nI (fmN x m) := by
  have hx : x.toInt < 0 := by
    rcases Int.lt_or_le x.toInt 0 with q | q
    · exact q
    · exfalso
      have h1 := fm_ge h0 hm q
      have h4 := fm_lt (x := x) h0
      rw [h1] at hr
      exact nI_pos (by omega) hr
  exact fm_n h0 hm hx (fun q => by rw [q] at hr; exact Int32.lt_irrefl hr)
set_option maxHeartbeats 2000000 in
theorem ct_X1_remainder {l : Launch} {Γ : Gm} (hl : l.flags = flags0) (hΓ : GOK Γ) {z : ZR} {h : AH} {x : Int32} {m : Nat} {d9 : Nat} (h0 : 0 < m) (hm : m < 2 ^ 15) (hd9 : 1 ≤ d9) : Ct l Γ yX1_remainder cX1_remainder 3 (some .int) d9 0 0 [.int x, .int (nI m)] z h (RdP z h (some (.int (nI (fmN x m))))) := by
  refine Ct.of hl hΓ (by decide +kernel) (Nat.le_of_ble_eq_true rfl) (fun X e1 e2 C => ?_)
  subst e1; subst e2
  have C : Cx X cX1_remainder 3 "RingDomino" "remainder" (some .int) [] d9 := C
  have hne : ¬ nI m = 0 := nI_ne0 h0 (by omega)
  show WW X (RdP z h (some (.int (nI (fmN x m))))) z h 0 0 0 [(0, .int x), (1, .int (nI m))] []
  refine ww_iload_n C dX1_remainder_0 rfl 0 rfl ?_
  refine ww_iload_n C dX1_remainder_1 rfl 1 rfl ?_
  refine ww_irem C dX1_remainder_2 hne ?_
  refine ww_istore_n (lv' := [(2, .int (x - x / (nI m) * (nI m))), (0, .int x), (1, .int (nI m))]) C dX1_remainder_3 rfl (by decide) rfl ?_
  refine ww_iload_n C dX1_remainder_4 rfl 0 rfl ?_
  refine ww_if_ge (tgt := 14) C dX1_remainder_5 (by decide) (fun c_5 => ?_) (fun c_5 => ?_)
  · skip
    refine ww_iload_n C dX1_remainder_14 rfl 0 rfl ?_
    exact ww_iret C dX1_remainder_15 (RdP.i (by exact rmd_ge h0 hm (Int32.not_lt.mpr c_5)))
  · skip
    refine ww_iload_n C dX1_remainder_8 rfl 0 rfl ?_
    refine ww_iload_n C dX1_remainder_9 rfl 2 rfl ?_
    refine ww_iadd C dX1_remainder_10 ?_
    refine ww_goto (tgt := 15) C dX1_remainder_11 (by decide) ?_
    exact ww_iret C dX1_remainder_15 (RdP.i (by exact rmd_lt h0 hm (Int32.not_le.mp c_5)))
set_option maxHeartbeats 2000000 in
theorem ct_X28_carry {l : Launch} {Γ : Gm} (hl : l.flags = flags0) (hΓ : GOK Γ) {z : ZR} {h : AH} {s g o : Nat} {A : Nat → Nat} {B : GB} {G : GG} {rn dn : Int32} {k cr c1 c2 c3 te : Nat} {d9 : Nat} (hz : zle (cst Γ) z) (hM : GmM Γ z h g A B G rn dn) (hC : BC B) (hk : k < Bt B) (Ho : rd z h o (.inr (15, [.ref cr, .int (nI k), .ref c1, .ref c2, .ref c3, .ref te]))) (hd9 : 8 ≤ d9) : CtY l Γ yX28_carry cX28_carry 3 (some .boolean) d9 0 0 [.ref s, .ref g, .ref o] z h (Rv (fun v z' h' => v = .int (bI (cTk B k).1) ∧ zle z z' ∧ h' = (if (cTk B k).1 then gmH Γ h A G (cTk B k).2 else h))) := by
  refine CtY.of hl hΓ (by decide +kernel) (Nat.le_of_ble_eq_true rfl) (fun X e1 e2 C => ?_)
  subst e1; subst e2
  have C : Cx X cX28_carry 3 "RingDomino$Craft$2" "carry" (some .boolean) [] d9 := C
  have hB := hC.1
  have hG := GmM.p hz hM
  have Hg := hM.1
  have hcc : (3 ≤ Bc B ∧ Bc B ≤ 7) ∧ (3 ≤ Br B ∧ Br B ≤ 7) := hB.1
  have hzz := BO.z hB
  have bp1 := hB.2.2.2.2.1
  show WW X (Rv (fun v z' h' => v = .int (bI (cTk B k).1) ∧ zle z z' ∧ h' = (if (cTk B k).1 then gmH (xG X) h A G (cTk B k).2 else h))) z h 0 0 0 [(0, .ref s), (1, .ref g), (2, .ref o)] []
  refine ww_aload_n C dX28_carry_0 rfl 1 rfl rfl ?_
  refine ww_aload_n C dX28_carry_1 rfl 2 rfl rfl ?_
  refine gf_X28_7_X17 C dX28_carry_2 Ho rfl ?_
  refine cv_X28_13_r (As := [.int (nI k)]) (rest := []) C dX28_carry_5 (ct_X3_isPlaced (Cx.fl C) (Cx.ok C) hz hG hB hk) (rc_X3 (Cx.ok C) (Or.inl Hg)) rfl rfl (Nat.le_of_ble_eq_true rfl) (by omega) (Nat.zero_le _) (Nat.zero_le _) ?_
  cases hp : Bp B k with
  | none =>
    have hc : cTk B k = (false, B) := by unfold cTk; rw [hp]
    refine ww_if_eq_t (tgt := 26) C dX28_carry_8 (by decide) rfl ?_
    refine ww_iconst C dX28_carry_26 cI_0 ?_
    exact ww_zret C dX28_carry_27 nar_z0 ⟨by rw [hc]; rfl, zle.rf, by rw [hc]; rfl⟩
  | some y =>
    have hc : cTk B k = (true, takB B k) := by unfold cTk; rw [hp]
    refine ww_if_eq_f (tgt := 26) C dX28_carry_8 (by decide) (fun q => by cases q) ?_
    refine ww_aload_n C dX28_carry_11 rfl 1 rfl rfl ?_
    refine ww_aload_n C dX28_carry_12 rfl 2 rfl rfl ?_
    refine gf_X28_7_X17 C dX28_carry_13 Ho rfl ?_
    refine cv_X28_19_q (As := [.int (nI k)]) (rest := []) C dX28_carry_16 (ct_X3_take (Cx.fl C) (Cx.ok C) hz hM hB hk hp) (rc_X3 (Cx.ok C) (Or.inl Hg)) rfl rfl (Nat.le_of_ble_eq_true rfl) (by omega) (Nat.zero_le _) (Nat.zero_le _) (fun v9 z9 h9 q9 => ?_)
    obtain ⟨rfl, hz9, hh9⟩ := q9; replace hz9 := hz9.symm; subst hz9
    refine ww_tern_if_eq_n C dX28_carry_19 dX28_carry_22 dX28_carry_23 dX28_carry_26 (by decide) ?_
    exact ww_zret C dX28_carry_27 (nar_bI _) ⟨by rw [hc]; rfl, zle.rf, by rw [hc]; exact hh9⟩
set_option maxHeartbeats 2000000 in
theorem ct_X29_carry {l : Launch} {Γ : Gm} (hl : l.flags = flags0) (hΓ : GOK Γ) {z : ZR} {h : AH} {s g o : Nat} {A : Nat → Nat} {B : GB} {G : GG} {rn dn : Int32} {k cr c1 c2 c3 te : Nat} {d9 : Nat} (hz : zle (cst Γ) z) (hM : GmM Γ z h g A B G rn dn) (hC : BC B) (hk : k < Bt B) (Ho : rd z h o (.inr (15, [.ref cr, .int (nI k), .ref c1, .ref c2, .ref c3, .ref te]))) (hd9 : 9 ≤ d9) : CtY l Γ yX29_carry cX29_carry 4 (some .boolean) d9 2 3 [.ref s, .ref g, .ref o] z h (Rv (fun v z' h' => v = .int (bI (cFt B k).1) ∧ zle z z' ∧ h' = (if (cFt B k).1 then gmH Γ h A G (cFt B k).2 else h))) := by
  refine CtY.of hl hΓ (by decide +kernel) (Nat.le_of_ble_eq_true rfl) (fun X e1 e2 C => ?_)
  subst e1; subst e2
  have C : Cx X cX29_carry 4 "RingDomino$Craft$3" "carry" (some .boolean) [] d9 := C
  have hB := hC.1
  have hG := GmM.p hz hM
  have Hg := hM.1
  have hcc : (3 ≤ Bc B ∧ Bc B ≤ 7) ∧ (3 ≤ Br B ∧ Br B ≤ 7) := hB.1
  have hzz := BO.z hB
  have bp1 := hB.2.2.2.2.1
  show WW X (Rv (fun v z' h' => v = .int (bI (cFt B k).1) ∧ zle z z' ∧ h' = (if (cFt B k).1 then gmH (xG X) h A G (cFt B k).2 else h))) z h 2 3 0 [(0, .ref s), (1, .ref g), (2, .ref o)] []
  refine ww_aload_n C dX29_carry_0 rfl 1 rfl rfl ?_
  refine ww_aload_n C dX29_carry_1 rfl 2 rfl rfl ?_
  refine gf_X29_7_X17 C dX29_carry_2 Ho rfl ?_
  refine cv_X29_13_q (As := [.int (nI k)]) (rest := []) C dX29_carry_5 (ct_X3_firstWay (Cx.fl C) (Cx.ok C) hz hM hB hk) (rc_X3 (Cx.ok C) (Or.inl Hg)) rfl rfl (Nat.le_of_ble_eq_true rfl) (by omega) (by decide) (by decide) (fun v z2 h2 q => ?_)
  obtain ⟨ow, rfl, hq1, hq2, hq3⟩ := q; replace hq1 := hq1.symm; subst hq1
  refine ww_astore_n (lv' := [(3, .ref ow), (0, .ref s), (1, .ref g), (2, .ref o)]) C dX29_carry_8 rfl (by decide) rfl rfl ?_
  refine ww_aload_n C dX29_carry_9 rfl 0 rfl rfl ?_
  have hz2 := hz.tr hq2
  have hM2 := hM.zm hq2
  have Ho := Ho.mono hq2 hle.rf
  cases hf : fwN B k with
  | none =>
    have hc : cFt B k = (false, B) := by unfold cFt; rw [hf]
    rw [hf] at hq3
    have How : rd z2 h ow (.inr (30, [va_rf none])) := Or.inr hq3
    refine cv_X29_19_r (As := []) (rest := []) C dX29_carry_10 (ct_J31_isPresent (Cx.fl C) (Cx.ok C) How) (rc_J31 (Cx.ok C) How) rfl rfl (Nat.le_of_ble_eq_true rfl) (by omega) (Nat.zero_le _) (Nat.zero_le _) ?_
    refine ww_if_eq_t (tgt := 38) C dX29_carry_13 (by decide) rfl ?_
    refine ww_iconst C dX29_carry_38 cI_0 ?_
    exact ww_zret C dX29_carry_39 nar_z0 ⟨by rw [hc]; rfl, hq2, by rw [hc]; rfl⟩
  | some y =>
    have hc : cFt B k = (true, putB B k (y / 6) (y % 6)) := by unfold cFt; rw [hf]
    rw [hf] at hq3; obtain ⟨wy, hq3, hq4⟩ := hq3
    have How : rd z2 h ow (.inr (30, [va_rf (some wy)])) := Or.inr hq3
    have hyl := (ff_lt _ _ _ hf).1
    refine cv_X29_19_r (As := []) (rest := []) C dX29_carry_10 (ct_J31_isPresent (Cx.fl C) (Cx.ok C) How) (rc_J31 (Cx.ok C) How) rfl rfl (Nat.le_of_ble_eq_true rfl) (by omega) (Nat.zero_le _) (Nat.zero_le _) ?_
    refine ww_if_eq_f (tgt := 38) C dX29_carry_13 (by decide) (fun q => by cases q) ?_
    refine ww_aload_n C dX29_carry_16 rfl 2 rfl rfl ?_
    refine ww_aload_n C dX29_carry_17 rfl 3 rfl rfl ?_
    refine gf_X29_7_X17 C dX29_carry_18 Ho rfl ?_
    refine ww_aload_n C dX29_carry_21 rfl 0 rfl rfl ?_
    refine cv_X29_25_r (As := []) (rest := [.int (nI k), .ref g]) C dX29_carry_22 (ct_J31_get (Cx.fl C) (Cx.ok C) How) (rc_J31 (Cx.ok C) How) rfl rfl (Nat.le_of_ble_eq_true rfl) (by omega) (Nat.zero_le _) (Nat.zero_le _) ?_
    refine ww_castS (ci := 22) C q2381 rfl dX29_carry_25 (rc_X25 (Cx.ok C) (Or.inr hq4)) ?_
    refine cv_X29_31_q (As := [.int (nI k), .ref wy]) (rest := []) C dX29_carry_28 (ct_X3_put_2 (Cx.fl C) (Cx.ok C) hz2 hM2 hB hk (by omega) (by omega) (Or.inr hq4)) (rc_X3 (Cx.ok C) (Or.inl Hg)) rfl rfl (Nat.le_of_ble_eq_true rfl) (by omega) (Nat.zero_le _) (Nat.zero_le _) (fun v9 z9 h9 q9 => ?_)
    obtain ⟨rfl, hz9, hh9⟩ := q9; replace hz9 := hz9.symm; subst hz9
    refine ww_tern_if_eq_n C dX29_carry_31 dX29_carry_34 dX29_carry_35 dX29_carry_38 (by decide) ?_
    exact ww_zret C dX29_carry_39 (nar_bI _) ⟨by rw [hc]; rfl, hq2, by rw [hc]; exact hh9⟩
set_option maxHeartbeats 2000000 in
theorem ct_X26_carry {l : Launch} {Γ : Gm} (hl : l.flags = flags0) (hΓ : GOK Γ) {z : ZR} {h : AH} {s g o : Nat} {A : Nat → Nat} {B : GB} {G : GG} {rn dn : Int32} {k cr c1 c2 c3 te : Nat} {xc xr xt : Int32} {dy : Nat} {d9 : Nat} (hz : zle (cst Γ) z) (hM : GmM Γ z h g A B G rn dn) (hC : BC B) (hk : k < Bt B) (Ho : rd z h o (.inr (15, [.ref cr, .int (nI k), .ref c1, .ref c2, .ref c3, .ref te]))) (hS1 : SmC l Γ dy z h c1 g xc) (hS2 : SmC l Γ dy z h c2 g xr) (hS3 : SmC l Γ dy z h c3 g xt) (hd9 : dy + 9 ≤ d9) : CtY l Γ yX26_carry cX26_carry 5 (some .boolean) d9 0 0 [.ref s, .ref g, .ref o] z h (Rv (fun v z' h' => v = .int (bI (cPt B k (fmN xr (Br B) * Bc B + fmN xc (Bc B)) (fmN xt 6)).1) ∧ zle z z' ∧ h' = (if (cPt B k (fmN xr (Br B) * Bc B + fmN xc (Bc B)) (fmN xt 6)).1 then gmH Γ h A G (cPt B k (fmN xr (Br B) * Bc B + fmN xc (Bc B)) (fmN xt 6)).2 else h))) := by
  refine CtY.of hl hΓ (by decide +kernel) (Nat.le_of_ble_eq_true rfl) (fun X e1 e2 C => ?_)
  subst e1; subst e2
  have C : Cx X cX26_carry 5 "RingDomino$Craft$1" "carry" (some .boolean) [] d9 := C
  have hB := hC.1
  have hG := GmM.p hz hM
  have Hg := hM.1
  have hcc : (3 ≤ Bc B ∧ Bc B ≤ 7) ∧ (3 ≤ Br B ∧ Br B ≤ 7) := hB.1
  have hzz := BO.z hB
  have bp1 := hB.2.2.2.2.1
  have f1 := fm_lt (x := xr) (m := Br B) (by omega)
  have f2 := fm_lt (x := xc) (m := Bc B) (by omega)
  have f3 := fm_lt (x := xt) (m := 6) (by omega)
  have hcz := cel_lt f1 f2
  show WW X (Rv (fun v z' h' => v = .int (bI (cPt B k (fmN xr (Br B) * Bc B + fmN xc (Bc B)) (fmN xt 6)).1) ∧ zle z z' ∧ h' = (if (cPt B k (fmN xr (Br B) * Bc B + fmN xc (Bc B)) (fmN xt 6)).1 then gmH (xG X) h A G (cPt B k (fmN xr (Br B) * Bc B + fmN xc (Bc B)) (fmN xt 6)).2 else h))) z h 0 0 0 [(0, .ref s), (1, .ref g), (2, .ref o)] []
  refine ww_aload_n C dX26_carry_0 rfl 1 rfl rfl ?_
  refine gf_X26_9_X3 C dX26_carry_1 (Or.inl Hg) rfl ?_
  refine ww_aload_n C dX26_carry_4 rfl 2 rfl rfl ?_
  refine gf_X26_15_X17 C dX26_carry_5 Ho rfl ?_
  refine ww_aload_n C dX26_carry_8 rfl 1 rfl rfl ?_
  refine sm_X26_21 C dX26_carry_9 hS2 rfl (Nat.le_of_ble_eq_true rfl) (by omega) ?_
  refine ww_aload_n C dX26_carry_12 rfl 1 rfl rfl ?_
  refine gf_X26_27_X3 C dX26_carry_13 (Or.inl Hg) rfl ?_
  refine cs_X26_30_r (As := [.int xr, .int (nI (Br B))]) (rest := [.int (nI (Bc B))]) C dX26_carry_16 (ct_X1_remainder (Cx.fl C) (Cx.ok C) (x := xr) (m := Br B) (by omega) (by omega) (Nat.le_refl 1)) rfl rfl (Nat.le_of_ble_eq_true rfl) (by omega) (Nat.zero_le _) (Nat.zero_le _) ?_
  refine ww_imuln C dX26_carry_19 ?_
  refine ww_aload_n C dX26_carry_20 rfl 2 rfl rfl ?_
  refine gf_X26_34_X17 C dX26_carry_21 Ho rfl ?_
  refine ww_aload_n C dX26_carry_24 rfl 1 rfl rfl ?_
  refine sm_X26_21 C dX26_carry_25 hS1 rfl (Nat.le_of_ble_eq_true rfl) (by omega) ?_
  refine ww_aload_n C dX26_carry_28 rfl 1 rfl rfl ?_
  refine gf_X26_9_X3 C dX26_carry_29 (Or.inl Hg) rfl ?_
  refine cs_X26_30_r (As := [.int xc, .int (nI (Bc B))]) (rest := [.int (nI ((Bc B) * (fmN xr (Br B))))]) C dX26_carry_32 (ct_X1_remainder (Cx.fl C) (Cx.ok C) (x := xc) (m := Bc B) (by omega) (by omega) (Nat.le_refl 1)) rfl rfl (Nat.le_of_ble_eq_true rfl) (by omega) (Nat.zero_le _) (Nat.zero_le _) ?_
  refine ww_iaddn C dX26_carry_35 ?_
  refine ww_st (st' := [.int (nI (fmN xr (Br B) * Bc B + fmN xc (Bc B)))]) (by rw [Nat.mul_comm (Bc B)]) ?_
  refine ww_istore_n (lv' := [(3, .int (nI (fmN xr (Br B) * Bc B + fmN xc (Bc B)))), (0, .ref s), (1, .ref g), (2, .ref o)]) C dX26_carry_36 rfl (by decide) rfl ?_
  refine ww_aload_n C dX26_carry_37 rfl 3 rfl rfl ?_
  refine gf_X26_37_X17 C dX26_carry_38 Ho rfl ?_
  refine ww_aload_n C dX26_carry_41 rfl 2 rfl rfl ?_
  refine sm_X26_21 C dX26_carry_42 hS3 rfl (Nat.le_of_ble_eq_true rfl) (by omega) ?_
  refine ww_bipush C dX26_carry_45 cB_6 ?_
  refine cs_X26_30_r (As := [.int xt, .int (nI 6)]) (rest := []) C dX26_carry_47 (ct_X1_remainder (Cx.fl C) (Cx.ok C) (x := xt) (m := 6) (by omega) (by omega) (Nat.le_refl 1)) rfl rfl (Nat.le_of_ble_eq_true rfl) (by omega) (Nat.zero_le _) (Nat.zero_le _) ?_
  refine ww_istore (lv' := [(4, .int (nI (fmN xt 6))), (3, .int (nI (fmN xr (Br B) * Bc B + fmN xc (Bc B)))), (0, .ref s), (1, .ref g), (2, .ref o)]) C dX26_carry_50 (by decide) rfl ?_
  refine ww_aload_n C dX26_carry_52 rfl 3 rfl rfl ?_
  refine ww_aload_n C dX26_carry_53 rfl 4 rfl rfl ?_
  refine gf_X26_40_X17 C dX26_carry_54 Ho rfl ?_
  refine ww_iload_n C dX26_carry_57 rfl 1 rfl ?_
  refine ww_iload C dX26_carry_58 0 rfl ?_
  refine cv_X26_43_r (As := [.int (nI k), .int (nI (fmN xr (Br B) * Bc B + fmN xc (Bc B))), .int (nI (fmN xt 6))]) (rest := []) C dX26_carry_60 (ct_X3_fits (Cx.fl C) (Cx.ok C) hz hG hB hk (by omega) f3) (rc_X3 (Cx.ok C) (Or.inl Hg)) rfl rfl (Nat.le_of_ble_eq_true rfl) (by omega) (Nat.zero_le _) (Nat.zero_le _) ?_
  refine ww_if_eq_b (tgt := 84) C dX26_carry_63 (by decide) (fun c_63 => ?_) (fun c_63 => ?_)
  · skip
    have hc : cPt B k (fmN xr (Br B) * Bc B + fmN xc (Bc B)) (fmN xt 6) = (false, B) := by unfold cPt; rw [c_63]
    refine ww_iconst C dX26_carry_84 cI_0 ?_
    exact ww_zret C dX26_carry_85 nar_z0 ⟨by rw [hc]; rfl, zle.rf, by rw [hc]; rfl⟩
  · skip
    have hc : cPt B k (fmN xr (Br B) * Bc B + fmN xc (Bc B)) (fmN xt 6) = (true, putB B k (fmN xr (Br B) * Bc B + fmN xc (Bc B)) (fmN xt 6)) := by unfold cPt; rw [c_63]
    refine ww_aload_n C dX26_carry_66 rfl 3 rfl rfl ?_
    refine ww_aload_n C dX26_carry_67 rfl 4 rfl rfl ?_
    refine gf_X26_40_X17 C dX26_carry_68 Ho rfl ?_
    refine ww_iload_n C dX26_carry_71 rfl 1 rfl ?_
    refine ww_iload C dX26_carry_72 0 rfl ?_
    refine cv_X26_47_q (As := [.int (nI k), .int (nI (fmN xr (Br B) * Bc B + fmN xc (Bc B))), .int (nI (fmN xt 6))]) (rest := []) C dX26_carry_74 (ct_X3_put (Cx.fl C) (Cx.ok C) hz hM hB hk (by omega) f3) (rc_X3 (Cx.ok C) (Or.inl Hg)) rfl rfl (Nat.le_of_ble_eq_true rfl) (by omega) (Nat.zero_le _) (Nat.zero_le _) (fun v9 z9 h9 q9 => ?_)
    obtain ⟨rfl, hz9, hh9⟩ := q9; replace hz9 := hz9.symm; subst hz9
    refine ww_tern_if_eq_n C dX26_carry_77 dX26_carry_80 dX26_carry_81 dX26_carry_84 (by decide) ?_
    exact ww_zret C dX26_carry_85 (nar_bI _) ⟨by rw [hc]; rfl, zle.rf, by rw [hc]; exact hh9⟩
end EV5
