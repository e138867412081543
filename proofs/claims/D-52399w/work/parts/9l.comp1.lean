section COM1
set_option maxRecDepth 100000
def TpF (tp ba : Nat) (h h' : AH) : Prop := ∀ q, q ≠ tp → q ≠ ba → h' q = h q
/-- the Component's feed: the plain answer q, or IllegalStateException where it says 1 -/
def FdP (Γ : Gm) (z : ZR) (h : AH) (tp ba : Nat) (t : TP) (q : (Int32 × Nat) × TP) : Oc → ZR → AH → Prop := Rvx (fun v z' h' => v = .int q.1.1 ∧ z' = z ∧ q.1.2 = 0 ∧ ∃ f', TpC Γ h' tp ba f' q.2 ∧ TpF tp ba h h') (fun E _ z' h' => E = "java/lang/IllegalStateException" ∧ z' = z ∧ h' = h ∧ q = ((nI 0, 1), t))
def TrP (Γ : Gm) (z : ZR) (h : AH) (tp ba : Nat) (t : TP) (x : Int32) : Oc → ZR → AH → Prop := Rvx (fun v z' h' => v = .int x ∧ z' = z ∧ (decide (nI 0 ≤ x) && decide (x ≤ nI t.2)) = true ∧ h' = up h tp (.inr (1, [.ref ba, .int x]))) (fun E _ z' h' => E = "java/lang/IllegalArgumentException" ∧ z' = z ∧ h' = h ∧ (decide (nI 0 ≤ x) && decide (x ≤ nI t.2)) = false)
set_option maxHeartbeats 2000000 in
theorem ct_X1_requireFrom {l : Launch} {Γ : Gm} (hl : l.flags = flags0) (hΓ : GOK Γ) {z : ZR} {h : AH} {lo hi x : Int32}  : Ct l Γ yX1_requireFrom cX1_requireFrom 3 none 7 1 6 [.int lo, .int hi, .int x] z h (RqP z h (decide (lo ≤ x) && decide (x ≤ hi)) "java/lang/IllegalArgumentException") := by
  refine Ct.of hl hΓ (by decide +kernel) (Nat.le_of_ble_eq_true rfl) (fun X e1 e2 C => ?_)
  subst e1; subst e2
  have C : Cx X cX1_requireFrom 3 "RingDomino" "requireFrom" none [] 7 := C
  show WW X (RqP z h (decide (lo ≤ x) && decide (x ≤ hi)) "java/lang/IllegalArgumentException") z h 1 6 0 [(0, .int lo), (1, .int hi), (2, .int x)] []
  refine ww_iload_n C dX1_requireFrom_0 rfl 2 rfl ?_
  refine ww_iload_n C dX1_requireFrom_1 rfl 0 rfl ?_
  refine ww_icmp_lt (tgt := 14) C dX1_requireFrom_2 (by decide) (fun c_2 => ?_) (fun c_2 => ?_)
  · skip
    refine ww_iconst C dX1_requireFrom_14 cI_0 ?_
    refine ww_st (st' := [.int (bI false)]) (by rfl) ?_
    have hbb : (decide (lo ≤ x) && decide (x ≤ hi)) = false := by rw [decide_eq_false (Int32.not_le.mpr c_2), Bool.false_and]
    refine cs_X1_13 (As := [.int (bI false)]) (rest := []) C dX1_requireFrom_15 (ct_X1_require (Cx.fl C) (Cx.ok C) (b := false)) rfl rfl (Nat.le_of_ble_eq_true rfl) (by decide) (by decide) (by decide) (fun z9 h9 q9 => ?_) (fun E9 a9 z9 h9 q9 => ?_)
    rotate_left
    · skip
      obtain ⟨hq0, hq1, hq2, hq3⟩ := q9; replace hq0 := hq0.symm; replace hq1 := hq1.symm; replace hq2 := hq2.symm; subst hq0; subst hq1; subst hq2
      exact wx_out C (fun x hx => nomatch hx) ⟨rfl, rfl, rfl, hbb.trans hq3⟩
    obtain ⟨hq1, hq2, hq3⟩ := q9; replace hq1 := hq1.symm; replace hq2 := hq2.symm; subst hq1; subst hq2
    exact ww_vret C dX1_requireFrom_18 ⟨rfl, rfl, hbb.trans hq3⟩
  · skip
    refine ww_iload_n C dX1_requireFrom_5 rfl 2 rfl ?_
    refine ww_iload_n C dX1_requireFrom_6 rfl 1 rfl ?_
    refine ww_icmp_gt (tgt := 14) C dX1_requireFrom_7 (by decide) (fun c_7 => ?_) (fun c_7 => ?_)
    · skip
      refine ww_iconst C dX1_requireFrom_14 cI_0 ?_
      refine ww_st (st' := [.int (bI false)]) (by rfl) ?_
      have hbb : (decide (lo ≤ x) && decide (x ≤ hi)) = false := by rw [decide_eq_false (Int32.not_le.mpr c_7), Bool.and_false]
      refine cs_X1_13 (As := [.int (bI false)]) (rest := []) C dX1_requireFrom_15 (ct_X1_require (Cx.fl C) (Cx.ok C) (b := false)) rfl rfl (Nat.le_of_ble_eq_true rfl) (by decide) (by decide) (by decide) (fun z9 h9 q9 => ?_) (fun E9 a9 z9 h9 q9 => ?_)
      rotate_left
      · skip
        obtain ⟨hq0, hq1, hq2, hq3⟩ := q9; replace hq0 := hq0.symm; replace hq1 := hq1.symm; replace hq2 := hq2.symm; subst hq0; subst hq1; subst hq2
        exact wx_out C (fun x hx => nomatch hx) ⟨rfl, rfl, rfl, hbb.trans hq3⟩
      obtain ⟨hq1, hq2, hq3⟩ := q9; replace hq1 := hq1.symm; replace hq2 := hq2.symm; subst hq1; subst hq2
      exact ww_vret C dX1_requireFrom_18 ⟨rfl, rfl, hbb.trans hq3⟩
    · skip
      refine ww_iconst C dX1_requireFrom_10 cI_1 ?_
      refine ww_goto (tgt := 15) C dX1_requireFrom_11 (by decide) ?_
      refine ww_st (st' := [.int (bI true)]) (by rfl) ?_
      have hbb : (decide (lo ≤ x) && decide (x ≤ hi)) = true := by rw [decide_eq_true (Int32.not_lt.mp c_2), decide_eq_true (Int32.not_lt.mp c_7)]; rfl
      refine cs_X1_13 (As := [.int (bI true)]) (rest := []) C dX1_requireFrom_15 (ct_X1_require (Cx.fl C) (Cx.ok C) (b := true)) rfl rfl (Nat.le_of_ble_eq_true rfl) (by decide) (by decide) (by decide) (fun z9 h9 q9 => ?_) (fun E9 a9 z9 h9 q9 => ?_)
      rotate_left
      · skip
        obtain ⟨hq0, hq1, hq2, hq3⟩ := q9; replace hq0 := hq0.symm; replace hq1 := hq1.symm; replace hq2 := hq2.symm; subst hq0; subst hq1; subst hq2
        exact wx_out C (fun x hx => nomatch hx) ⟨rfl, rfl, rfl, hbb.trans hq3⟩
      obtain ⟨hq1, hq2, hq3⟩ := q9; replace hq1 := hq1.symm; replace hq2 := hq2.symm; subst hq1; subst hq2
      exact ww_vret C dX1_requireFrom_18 ⟨rfl, rfl, hbb.trans hq3⟩
set_option maxHeartbeats 2000000 in
theorem ct_X1_feed {l : Launch} {Γ : Gm} (hl : l.flags = flags0) (hΓ : GOK Γ) {z : ZR} {h : AH} {a tp ba g ah : Nat} {er : Int32} {f : Nat → Int32} {t : TP} {x1 x2 x3 x4 x5 : Int32} (Ha : h a = some (.inr (0, [.ref tp, .int er, .ref g, .ref ah]))) (hT : TpC Γ h tp ba f t) (ht : TPo t) : Ct l Γ yX1_feed cX1_feed 6 (some .int) 7 1 6 [.ref a, .int x1, .int x2, .int x3, .int x4, .int x5] z h (FdP Γ z h tp ba t (aFd t x1 x2 x3 x4 x5)) := by
  refine Ct.of hl hΓ (by decide +kernel) (Nat.le_of_ble_eq_true rfl) (fun X e1 e2 C => ?_)
  subst e1; subst e2
  have C : Cx X cX1_feed 6 "RingDomino" "feed" (some .int) [] 7 := C
  obtain ⟨T1, T2, T3⟩ := id hT
  have T1 : h tp = some (.inr (1, [.ref ba, .int (nI t.2)])) := T1
  have T2 : h ba = some (.inl (gA (xG X) 1, (2000, .inl f))) := T2
  have h20 := ht.1
  have na1 : a ≠ tp := ne_ob Ha T1 (by simp)
  have na2 : a ≠ ba := ne_ob Ha T2 (by simp)
  show WW X (FdP (xG X) z h tp ba t (aFd t x1 x2 x3 x4 x5)) z h 1 6 0 [(0, .ref a), (1, .int x1), (2, .int x2), (3, .int x3), (4, .int x4), (5, .int x5)] []
  refine ww_aload_n C dX1_feed_0 rfl 0 rfl rfl ?_
  refine gf_X1_39_X1 C dX1_feed_1 (Or.inl Ha) rfl ?_
  refine gf_X1_57_X2 C dX1_feed_4 (Or.inl T1) rfl ?_
  refine ww_bipush C dX1_feed_7 cB_20 ?_
  refine ww_iaddn C dX1_feed_9 ?_
  refine ww_sipush C dX1_feed_10 cS_2000 ?_
  refine ww_tern_icmp_gt_n C dX1_feed_13 dX1_feed_16 dX1_feed_17 dX1_feed_20 (by omega) (by decide) ?_
  refine cs_X1_59 (As := [.int (bI (decide ((t.2 + 20) ≤ 2000)))]) (rest := []) C dX1_feed_21 (ct_X1_requireState (Cx.fl C) (Cx.ok C)) rfl rfl (Nat.le_of_ble_eq_true rfl) (by decide) (by decide) (by decide) (fun z9 h9 q9 => ?_) (fun E9 a9 z9 h9 q9 => ?_)
  rotate_left
  · skip
    obtain ⟨hq0, hq1, hq2, hq3⟩ := q9; replace hq0 := hq0.symm; replace hq1 := hq1.symm; replace hq2 := hq2.symm; subst hq0; subst hq1; subst hq2
    exact wx_out C (fun x hx => nomatch hx) ⟨rfl, rfl, rfl, by unfold aFd; rw [if_neg (of_decide_eq_false hq3)]⟩
  obtain ⟨hq1, hq2, hq3⟩ := q9; replace hq1 := hq1.symm; replace hq2 := hq2.symm; subst hq1; subst hq2
  have hsz : t.2 + 20 ≤ 2000 := of_decide_eq_true hq3
  have hF0 : TpF tp ba h h := fun _ _ _ => rfl
  refine ww_aload_n C dX1_feed_24 rfl 0 rfl rfl ?_
  refine gf_X1_39_X1 C dX1_feed_25 (Or.inl Ha) rfl ?_
  refine ww_iload_n C dX1_feed_28 rfl 1 rfl ?_
  have hs0 := fdN_2 (t := t) (v := (wdV x1 x2 x3 x4 x5)) 0
  refine cv_X1_62_q (As := [.int x1]) (rest := []) C dX1_feed_29 (ct_X2_put (Cx.fl C) (Cx.ok C) (t := fdN t (wdV x1 x2 x3 x4 x5) 0) (x := x1) hT (by omega)) (rc_X2 (Cx.ok C) (Or.inl hT.1)) rfl rfl (Nat.le_of_ble_eq_true rfl) (by decide) (Nat.zero_le _) (Nat.zero_le _) (fun z1 k1 q9 => ?_)
  obtain ⟨hq1, f1, hq2, hT1⟩ := q9; replace hq1 := hq1.symm; subst hq1
  have hT1 : TpC (xG X) k1 tp ba f1 (fdN t (wdV x1 x2 x3 x4 x5) 1) := hT1
  have hF1 : TpF tp ba h k1 := fun q n1 n2 => (by rw [hq2, up_n n1, up_n n2] : k1 q = _).trans (hF0 q n1 n2)
  have Ha1 : k1 a = some (.inr (0, [.ref tp, .int er, .ref g, .ref ah])) := by rw [hF1 a na1 na2]; exact Ha
  refine ww_aload_n C dX1_feed_32 rfl 0 rfl rfl ?_
  refine gf_X1_39_X1 C dX1_feed_33 (Or.inl Ha1) rfl ?_
  refine ww_iload_n C dX1_feed_36 rfl 2 rfl ?_
  have hs1 := fdN_2 (t := t) (v := (wdV x1 x2 x3 x4 x5)) 1
  refine cv_X1_62_q (As := [.int x2]) (rest := []) C dX1_feed_37 (ct_X2_put (Cx.fl C) (Cx.ok C) (t := fdN t (wdV x1 x2 x3 x4 x5) 1) (x := x2) hT1 (by omega)) (rc_X2 (Cx.ok C) (Or.inl hT1.1)) rfl rfl (Nat.le_of_ble_eq_true rfl) (by decide) (Nat.zero_le _) (Nat.zero_le _) (fun z2 k2 q9 => ?_)
  obtain ⟨hq1, f2, hq2, hT2⟩ := q9; replace hq1 := hq1.symm; subst hq1
  have hT2 : TpC (xG X) k2 tp ba f2 (fdN t (wdV x1 x2 x3 x4 x5) 2) := hT2
  have hF2 : TpF tp ba h k2 := fun q n1 n2 => (by rw [hq2, up_n n1, up_n n2] : k2 q = _).trans (hF1 q n1 n2)
  have Ha2 : k2 a = some (.inr (0, [.ref tp, .int er, .ref g, .ref ah])) := by rw [hF2 a na1 na2]; exact Ha
  refine ww_aload_n C dX1_feed_40 rfl 0 rfl rfl ?_
  refine gf_X1_39_X1 C dX1_feed_41 (Or.inl Ha2) rfl ?_
  refine ww_iload_n C dX1_feed_44 rfl 3 rfl ?_
  have hs2 := fdN_2 (t := t) (v := (wdV x1 x2 x3 x4 x5)) 2
  refine cv_X1_62_q (As := [.int x3]) (rest := []) C dX1_feed_45 (ct_X2_put (Cx.fl C) (Cx.ok C) (t := fdN t (wdV x1 x2 x3 x4 x5) 2) (x := x3) hT2 (by omega)) (rc_X2 (Cx.ok C) (Or.inl hT2.1)) rfl rfl (Nat.le_of_ble_eq_true rfl) (by decide) (Nat.zero_le _) (Nat.zero_le _) (fun z3 k3 q9 => ?_)
  obtain ⟨hq1, f3, hq2, hT3⟩ := q9; replace hq1 := hq1.symm; subst hq1
  have hT3 : TpC (xG X) k3 tp ba f3 (fdN t (wdV x1 x2 x3 x4 x5) 3) := hT3
  have hF3 : TpF tp ba h k3 := fun q n1 n2 => (by rw [hq2, up_n n1, up_n n2] : k3 q = _).trans (hF2 q n1 n2)
  have Ha3 : k3 a = some (.inr (0, [.ref tp, .int er, .ref g, .ref ah])) := by rw [hF3 a na1 na2]; exact Ha
  refine ww_aload_n C dX1_feed_48 rfl 0 rfl rfl ?_
  refine gf_X1_39_X1 C dX1_feed_49 (Or.inl Ha3) rfl ?_
  refine ww_iload C dX1_feed_52 4 rfl ?_
  have hs3 := fdN_2 (t := t) (v := (wdV x1 x2 x3 x4 x5)) 3
  refine cv_X1_62_q (As := [.int x4]) (rest := []) C dX1_feed_54 (ct_X2_put (Cx.fl C) (Cx.ok C) (t := fdN t (wdV x1 x2 x3 x4 x5) 3) (x := x4) hT3 (by omega)) (rc_X2 (Cx.ok C) (Or.inl hT3.1)) rfl rfl (Nat.le_of_ble_eq_true rfl) (by decide) (Nat.zero_le _) (Nat.zero_le _) (fun z4 k4 q9 => ?_)
  obtain ⟨hq1, f4, hq2, hT4⟩ := q9; replace hq1 := hq1.symm; subst hq1
  have hT4 : TpC (xG X) k4 tp ba f4 (fdN t (wdV x1 x2 x3 x4 x5) 4) := hT4
  have hF4 : TpF tp ba h k4 := fun q n1 n2 => (by rw [hq2, up_n n1, up_n n2] : k4 q = _).trans (hF3 q n1 n2)
  have Ha4 : k4 a = some (.inr (0, [.ref tp, .int er, .ref g, .ref ah])) := by rw [hF4 a na1 na2]; exact Ha
  refine ww_aload_n C dX1_feed_57 rfl 0 rfl rfl ?_
  refine gf_X1_39_X1 C dX1_feed_58 (Or.inl Ha4) rfl ?_
  refine ww_iload C dX1_feed_61 5 rfl ?_
  have hs4 := fdN_2 (t := t) (v := (wdV x1 x2 x3 x4 x5)) 4
  refine cv_X1_62_q (As := [.int x5]) (rest := []) C dX1_feed_63 (ct_X2_put (Cx.fl C) (Cx.ok C) (t := fdN t (wdV x1 x2 x3 x4 x5) 4) (x := x5) hT4 (by omega)) (rc_X2 (Cx.ok C) (Or.inl hT4.1)) rfl rfl (Nat.le_of_ble_eq_true rfl) (by decide) (Nat.zero_le _) (Nat.zero_le _) (fun z5 k5 q9 => ?_)
  obtain ⟨hq1, f5, hq2, hT5⟩ := q9; replace hq1 := hq1.symm; subst hq1
  have hT5 : TpC (xG X) k5 tp ba f5 (fdN t (wdV x1 x2 x3 x4 x5) 5) := hT5
  have hF5 : TpF tp ba h k5 := fun q n1 n2 => (by rw [hq2, up_n n1, up_n n2] : k5 q = _).trans (hF4 q n1 n2)
  have Ha5 : k5 a = some (.inr (0, [.ref tp, .int er, .ref g, .ref ah])) := by rw [hF5 a na1 na2]; exact Ha
  refine ww_aload_n C dX1_feed_66 rfl 0 rfl rfl ?_
  refine gf_X1_39_X1 C dX1_feed_67 (Or.inl Ha5) rfl ?_
  refine gf_X1_57_X2 C dX1_feed_70 (Or.inl hT5.1) rfl ?_
  have hfd : aFd t x1 x2 x3 x4 x5 = ((nI (t.2 + 20), 0), fdN t (wdV x1 x2 x3 x4 x5) 5) := if_pos hsz
  exact ww_iret C dX1_feed_73 ⟨by rw [hfd, fdN_2], rfl, by rw [hfd], f5, by rw [hfd]; exact hT5, hF5⟩
set_option maxHeartbeats 2000000 in
theorem ct_X1_trim {l : Launch} {Γ : Gm} (hl : l.flags = flags0) (hΓ : GOK Γ) {z : ZR} {h : AH} {a tp ba g ah : Nat} {er : Int32} {f : Nat → Int32} {t : TP} {x : Int32} (Ha : h a = some (.inr (0, [.ref tp, .int er, .ref g, .ref ah]))) (hT : TpC Γ h tp ba f t) (ht : TPo t) : Ct l Γ yX1_trim cX1_trim 2 (some .int) 8 1 6 [.ref a, .int x] z h (TrP Γ z h tp ba t x) := by
  refine Ct.of hl hΓ (by decide +kernel) (Nat.le_of_ble_eq_true rfl) (fun X e1 e2 C => ?_)
  subst e1; subst e2
  have C : Cx X cX1_trim 2 "RingDomino" "trim" (some .int) [] 8 := C
  obtain ⟨T1, T2, T3⟩ := id hT
  have T1 : h tp = some (.inr (1, [.ref ba, .int (nI t.2)])) := T1
  have T2 : h ba = some (.inl (gA (xG X) 1, (2000, .inl f))) := T2
  have h20 := ht.1
  have na1 : a ≠ tp := ne_ob Ha T1 (by simp)
  have na2 : a ≠ ba := ne_ob Ha T2 (by simp)
  show WW X (TrP (xG X) z h tp ba t x) z h 1 6 0 [(0, .ref a), (1, .int x)] []
  refine ww_iconst C dX1_trim_0 cI_0 ?_
  refine ww_aload_n C dX1_trim_1 rfl 0 rfl rfl ?_
  refine gf_X1_39_X1 C dX1_trim_2 (Or.inl Ha) rfl ?_
  refine gf_X1_57_X2 C dX1_trim_5 (Or.inl T1) rfl ?_
  refine ww_iload_n C dX1_trim_8 rfl 1 rfl ?_
  refine cs_X1_66 (As := [.int (nI 0), .int (nI t.2), .int x]) (rest := []) C dX1_trim_9 (ct_X1_requireFrom (Cx.fl C) (Cx.ok C)) rfl rfl (Nat.le_of_ble_eq_true rfl) (by decide) (by decide) (by decide) (fun z9 h9 q9 => ?_) (fun E9 a9 z9 h9 q9 => ?_)
  rotate_left
  · skip
    obtain ⟨hq0, hq1, hq2, hq3⟩ := q9; replace hq0 := hq0.symm; replace hq1 := hq1.symm; replace hq2 := hq2.symm; subst hq0; subst hq1; subst hq2
    exact wx_out C (fun x hx => nomatch hx) ⟨rfl, rfl, rfl, hq3⟩
  obtain ⟨hq1, hq2, hq3⟩ := q9; replace hq1 := hq1.symm; replace hq2 := hq2.symm; subst hq1; subst hq2
  refine ww_aload_n C dX1_trim_12 rfl 0 rfl rfl ?_
  refine gf_X1_39_X1 C dX1_trim_13 (Or.inl Ha) rfl ?_
  refine ww_iload_n C dX1_trim_16 rfl 1 rfl ?_
  refine pf_X1_57_X2 (fs' := [.ref ba, .int x]) C dX1_trim_17 T1 rfl rfl (Nat.le_of_ble_eq_true rfl) rfl ?_
  refine ww_gen (fun h1 hE1 => ?_)
  have T1_h1 : h1 tp = some (.inr (1, [.ref ba, .int x])) := by rw [hE1]; exact up_s
  refine ww_iload_n C dX1_trim_20 rfl 1 rfl ?_
  exact ww_iret C dX1_trim_21 ⟨rfl, rfl, hq3, hE1⟩
end COM1
