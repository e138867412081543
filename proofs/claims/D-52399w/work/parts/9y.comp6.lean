section COM6
set_option maxRecDepth 100000
/-- the second Game: any -/
def AhI (Γ : Gm) (z : ZR) (h : AH) (ah : Nat) (D : Nat → Nat) : Prop := ∃ B2 G2 rn2 dn2, GmM Γ z h ah D B2 G2 rn2 dn2 ∧ GmL Γ D G2 ∧ ∀ i, i < 4 → G2.2.1 i ≤ 32
def PlP (Γ : Gm) (z : ZR) (h : AH) (g : Nat) (A : Nat → Nat) (G : GG) (dn : Int32) (q : (Int32 × Nat) × GB × Int32) : Oc → ZR → AH → Prop := Rvx (fun v z' h' => v = .int q.1.1 ∧ z' = z ∧ q.1.2 = 0 ∧ GmM Γ z h' g A q.2.1 G q.2.2 (dn + q.1.1) ∧ FrG g A h h') (fun E _ z' h' => E = "java/lang/IllegalArgumentException" ∧ z' = z ∧ h' = h ∧ q.1.2 = 1)
def PaP (Γ : Gm) (z : ZR) (h : AH) (ah : Nat) (D : Nat → Nat) (q : Int32 × Nat) : Oc → ZR → AH → Prop := Rvx (fun v z' h' => v = .int q.1 ∧ z' = z ∧ q.2 = 0 ∧ ∃ D', AhI Γ z h' ah D' ∧ (∀ q, fpG Γ ah D' q → fpG Γ ah D q ∨ h q = none) ∧ ∀ q e, h q = some e → ¬ fpG Γ ah D q → h' q = some e ∧ ¬ fpG Γ ah D' q) (fun E _ z' h' => E = "java/lang/IllegalArgumentException" ∧ z' = z ∧ h' = h ∧ q.2 = 1)
theorem add_sub_c {a b : Int32} : a + b - a = b := by
  apply Int32.toBitVec_inj.mp
  simp only [Int32.toBitVec_add, Int32.toBitVec_sub]
  rw [BitVec.add_comm, BitVec.add_sub_cancel]
theorem or_ob {Γ : Gm} {z : ZR} {T : TD} {N o k : Nat} (h : OrO Γ z T N o k) : obZ z o := by
  obtain ⟨c1, c2, c3, te, h1, -⟩ := h
  exact ⟨15, _, _, _, _, h1, rfl, q3444⟩
theorem fr_fp {Γ : Gm} {g : Nat} {A : Nat → Nat} {h h' : AH} {q : Nat} {e : va_E} (hF : FrG g A h h') (nf : ¬ fpG Γ g A q) (hn : q ≠ gE Γ 0) (hq : h q = some e) : h' q = some e :=
  hF q e hq (fun f => nf (Or.inl f)) (fun f => nf (Or.inr (Or.inr (Or.inr (Or.inl f))))) (fp_ar (i := 2) (by decide) nf hn) (fp_ar (i := 3) (by decide) nf hn)
theorem plN_s {T : TD} {B : GB} {rn : Int32} {k : Nat} : (plN_ T (plN_ T B rn k).2 (rn + nI k) 1).2 = (plN_ T B rn (k + 1)).2 := by
  show (plR (plN_ T B rn k).2 (rn + nI k + nI 0) T T.1.1).2 = (plR (plN_ T B rn k).2 (rn + nI k) T T.1.1).2
  rw [nI_0, Int32.add_zero]
set_option maxHeartbeats 2000000 in
theorem ct_X1_playRounds {l : Launch} {Γ : Gm} (hl : l.flags = flags0) (hΓ : GOK Γ) {z : ZR} {h : AH} {a tp g ah N : Nat} {er : Int32} {A : Nat → Nat} {B : GB} {G : GG} {rn dn : Int32} {T : TD} {x : Int32} {d9 : Nat} (hz : zle (cst Γ) z) (Ha : rd z h a (.inr (0, [.ref tp, .int er, .ref g, .ref ah]))) (hM : GmM Γ z h g A B G rn dn) (hC : BC B) (hS : TdS B T) (hR : TdR T) (hG2 : G.2.2 = T.1.1) (hO : ∀ k, k < T.1.1 → OrO Γ z T N (A (200 + k)) k) (han : a ≠ g) (han4 : a ≠ A 4) (han6 : a ≠ A 6) (han8 : a ≠ A 8) (hd9 : 5 * N + 40 ≤ d9) : Ct l Γ yX1_playRounds cX1_playRounds 3 (some .int) d9 661 1046 [.ref a, .int x] z h (PlP Γ z h g A G dn (uPla T B rn x)) := by
  refine Ct.of hl hΓ (by decide +kernel) (Nat.le_of_ble_eq_true rfl) (fun X e1 e2 C => ?_)
  subst e1; subst e2
  have C : Cx X cX1_playRounds 3 "RingDomino" "playRounds" (some .int) [] d9 := C
  have hB := hC.1
  have hG := GmM.p hz hM
  have Hg := hM.1
  have ht16 := hS.1
  show WW X (PlP (xG X) z h g A G dn (uPla T B rn x)) z h 661 1046 0 [(0, .ref a), (1, .int x)] []
  refine ww_iconst C dX1_playRounds_0 cI_1 ?_
  refine ww_bipush C dX1_playRounds_1 cB_20 ?_
  refine ww_iload_n C dX1_playRounds_3 rfl 1 rfl ?_
  refine cs_X1_66 (As := [.int (nI 1), .int (nI 20), .int x]) (rest := []) C dX1_playRounds_4 (ct_X1_requireFrom (Cx.fl C) (Cx.ok C)) rfl rfl (Nat.le_of_ble_eq_true rfl) (by omega) (by omega) (by omega) (fun z9 h9 q9 => ?_) (fun E9 a9 z9 h9 q9 => ?_)
  rotate_left
  · skip
    obtain ⟨hq0, hq1, hq2, hq3⟩ := q9; replace hq0 := hq0.symm; replace hq1 := hq1.symm; replace hq2 := hq2.symm; subst hq0; subst hq1; subst hq2
    have hfr : frB x = false := hq3
    have hun : uPla T B rn x = ((nI 0, 1), B, rn) := by simp only [uPla, hfr]
    exact wx_out C (fun x hx => nomatch hx) ⟨rfl, rfl, rfl, by rw [hun]⟩
  obtain ⟨hq1, hq2, hq3⟩ := q9; replace hq1 := hq1.symm; replace hq2 := hq2.symm; subst hq1; subst hq2
  have hfr : frB x = true := hq3
  obtain ⟨c, hc1, hc2, rfl⟩ := frB_t hfr
  have hcl : (nI c).toNatClampNeg = c := nI_clamp (by omega)
  have hun : uPla T B rn (nI c) = ((nI (plN_ T B rn c).1, 0), (plN_ T B rn c).2, rn + nI c) := by simp only [uPla, hfr, hcl]
  refine ww_le (kc' := 660) (ns' := 1040) (by omega) (by omega) ?_
  refine ww_aload_n C dX1_playRounds_7 rfl 0 rfl rfl ?_
  refine gf_X1_50_X1 C dX1_playRounds_8 Ha rfl ?_
  refine gf_X1_217_X3 C dX1_playRounds_11 (Or.inl Hg) rfl ?_
  refine ww_istore_n (lv' := [(2, .int dn), (0, .ref a), (1, .int (nI c))]) C dX1_playRounds_14 rfl (by decide) rfl ?_
  refine ww_aload_n C dX1_playRounds_15 rfl 1 rfl rfl ?_
  refine gf_X1_50_X1 C dX1_playRounds_16 Ha rfl ?_
  refine ww_iload_n C dX1_playRounds_19 rfl 2 rfl ?_
  have hk1 : c * (1 + 2 * T.1.1) ≤ 660 := Nat.le_trans (Nat.mul_le_mul hc2 (show 1 + 2 * T.1.1 ≤ 33 by omega)) (by decide)
  have hk2 : c * (4 + 3 * T.1.1) ≤ 1040 := Nat.le_trans (Nat.mul_le_mul hc2 (show 4 + 3 * T.1.1 ≤ 52 by omega)) (by decide)
  refine cv_X1_220_q (As := [.int (nI c)]) (rest := []) C dX1_playRounds_20 (ct_X3_play (Cx.fl C) (Cx.ok C) (d9 := 5 * N + 30) hz hM hC hS hR hG2 hO (n := c) (by omega) (Nat.le_refl _)) (rc_X3 (Cx.ok C) (Or.inl Hg)) rfl rfl (Nat.le_of_ble_eq_true rfl) (by omega) hk1 hk2 (fun z2 k1 q => ?_)
  obtain ⟨hq, hM1, hF1⟩ := q; replace hq := hq.symm; subst hq
  refine ww_le (kc' := 0) (ns' := 0) (Nat.zero_le _) (Nat.zero_le _) ?_
  have Ha1 : rd z k1 a (.inr (0, [.ref tp, .int er, .ref g, .ref ah])) := Ha.imp (fun q => hF1 a _ q han han4 han6 han8) id
  refine ww_aload_n C dX1_playRounds_23 rfl 1 rfl rfl ?_
  refine gf_X1_50_X1 C dX1_playRounds_24 Ha1 rfl ?_
  refine gf_X1_217_X3 C dX1_playRounds_27 (Or.inl hM1.1) rfl ?_
  refine ww_iload_n C dX1_playRounds_30 rfl 0 rfl ?_
  refine ww_isub C dX1_playRounds_31 ?_
  exact ww_iret C dX1_playRounds_32 ⟨by rw [hun, add_sub_c], rfl, by rw [hun], by rw [hun]; exact hM1, hF1⟩
set_option maxHeartbeats 2000000 in
theorem ct_X1_pointsAfter {l : Launch} {Γ : Gm} (hl : l.flags = flags0) (hΓ : GOK Γ) {z : ZR} {h : AH} {a tp g ah N : Nat} {er : Int32} {A : Nat → Nat} {B : GB} {G : GG} {rn dn : Int32} {T : TD} {x : Int32} {d9 : Nat} (hz : zle (cst Γ) z) (Ha : rd z h a (.inr (0, [.ref tp, .int er, .ref g, .ref ah]))) (hM : GmM Γ z h g A B G rn dn) (hC : BC B) (hS : TdS B T) (hR : TdR T) (hG2 : G.2.2 = T.1.1) (hO : ∀ k, k < T.1.1 → OrO Γ z T N (A (200 + k)) k) {D : Nat → Nat} (hAh : AhI Γ z h ah D) (hdj : ∀ q, fpG Γ ah D q → ¬ fpG Γ g A q) (na : ¬ fpG Γ ah D a) (hd9 : 5 * N + 40 ≤ d9) : Ct l Γ yX1_pointsAfter cX1_pointsAfter 2 (some .int) d9 670 1302 [.ref a, .int x] z h (PaP Γ z h ah D (aPAf T B rn x)) := by
  refine Ct.of hl hΓ (by decide +kernel) (Nat.le_of_ble_eq_true rfl) (fun X e1 e2 C => ?_)
  subst e1; subst e2
  have C : Cx X cX1_pointsAfter 2 "RingDomino" "pointsAfter" (some .int) [] d9 := C
  have hB := hC.1
  have hG := GmM.p hz hM
  have Hg := hM.1
  have ht16 := hS.1
  show WW X (PaP (xG X) z h ah D (aPAf T B rn x)) z h 670 1302 0 [(0, .ref a), (1, .int x)] []
  refine ww_iconst C dX1_pointsAfter_0 cI_1 ?_
  refine ww_bipush C dX1_pointsAfter_1 cB_20 ?_
  refine ww_iload_n C dX1_pointsAfter_3 rfl 1 rfl ?_
  refine cs_X1_66 (As := [.int (nI 1), .int (nI 20), .int x]) (rest := []) C dX1_pointsAfter_4 (ct_X1_requireFrom (Cx.fl C) (Cx.ok C)) rfl rfl (Nat.le_of_ble_eq_true rfl) (by omega) (by omega) (by omega) (fun z9 h9 q9 => ?_) (fun E9 a9 z9 h9 q9 => ?_)
  rotate_left
  · skip
    obtain ⟨hq0, hq1, hq2, hq3⟩ := q9; replace hq0 := hq0.symm; replace hq1 := hq1.symm; replace hq2 := hq2.symm; subst hq0; subst hq1; subst hq2
    have hfr : frB x = false := hq3
    have hun : aPAf T B rn x = (nI 0, 1) := by simp only [aPAf, hfr]
    exact wx_out C (fun x hx => nomatch hx) ⟨rfl, rfl, rfl, by rw [hun]⟩
  obtain ⟨hq1, hq2, hq3⟩ := q9; replace hq1 := hq1.symm; replace hq2 := hq2.symm; subst hq1; subst hq2
  have hfr : frB x = true := hq3
  obtain ⟨c, hcl1, hcl2, rfl⟩ := frB_t hfr
  have hcl : (nI c).toNatClampNeg = c := nI_clamp (by omega)
  have hun : aPAf T B rn (nI c) = (nI (poN (plN_ T B rn c).2), 0) := by simp only [aPAf, hfr, hcl]
  refine ww_le (kc' := 668) (ns' := 1296) (by omega) (by omega) ?_
  refine ww_aload_n C dX1_pointsAfter_7 rfl 0 rfl rfl ?_
  refine gf_X1_54_X1 C dX1_pointsAfter_8 Ha rfl ?_
  refine ww_aload_n C dX1_pointsAfter_11 rfl 0 rfl rfl ?_
  refine gf_X1_50_X1 C dX1_pointsAfter_12 Ha rfl ?_
  refine ww_ow0 hz (fun ow0 => ?_)
  obtain ⟨B2, G2, rn2, dn2, hM2, hL2, hc2⟩ := id hAh
  refine cv_X1_223_q (As := [.ref g]) (rest := []) C dX1_pointsAfter_15 (ct_X3_copy (Cx.fl C) (Cx.ok C) hz hM2 hL2 hc2 hM hB (by omega) (fun k hk => or_ob (hO k (by omega))) hdj) (rc_X3 (Cx.ok C) (Or.inl hM2.1)) rfl rfl (Nat.le_of_ble_eq_true rfl) (by omega) (by omega) (by omega) (fun v9 z9 k1 q => ?_)
  obtain ⟨rfl, hq, D1, G1, hM1, hL1, hG1, hc1, hD1, hN1, hF1⟩ := q; replace hq := hq.symm; subst hq
  have hO1 : ∀ k, k < T.1.1 → OrO (xG X) z T N (D1 (200 + k)) k := fun k hk => by rw [hD1]; exact hO k hk
  have hG3 : G1.2.2 = T.1.1 := hG1.trans hG2
  have Ha1 : rd z k1 a (.inr (0, [.ref tp, .int er, .ref g, .ref ah])) := Ha.imp (fun q => (hF1 a _ q na).1) id
  refine ww_le (kc' := 660) (ns' := 1040) (by omega) (by omega) ?_
  refine ww_iload_n C dX1_pointsAfter_18 rfl 1 rfl ?_
  have hk1 : c * (1 + 2 * T.1.1) ≤ 660 := Nat.le_trans (Nat.mul_le_mul hcl2 (show 1 + 2 * T.1.1 ≤ 33 by omega)) (by decide)
  have hk2 : c * (4 + 3 * T.1.1) ≤ 1040 := Nat.le_trans (Nat.mul_le_mul hcl2 (show 4 + 3 * T.1.1 ≤ 52 by omega)) (by decide)
  refine cv_X1_220_q (As := [.int (nI c)]) (rest := []) C dX1_pointsAfter_19 (ct_X3_play (Cx.fl C) (Cx.ok C) (d9 := 5 * N + 30) hz hM1 hC hS hR hG3 hO1 (n := c) (by omega) (Nat.le_refl _)) (rc_X3 (Cx.ok C) (Or.inl hM1.1)) rfl rfl (Nat.le_of_ble_eq_true rfl) (by omega) hk1 hk2 (fun z2 k2 q => ?_)
  obtain ⟨hq, hM3, hF3⟩ := q; replace hq := hq.symm; subst hq
  refine ww_le (kc' := 0) (ns' := 0) (Nat.zero_le _) (Nat.zero_le _) ?_
  have hF2 : ∀ q e, h q = some e → ¬ fpG (xG X) ah D q → k2 q = some e ∧ ¬ fpG (xG X) ah D1 q := fun q e hq nf => ⟨fr_fp hF3 (hF1 q e hq nf).2 (ow0 q e hq) (hF1 q e hq nf).1, (hF1 q e hq nf).2⟩
  have Ha2 : rd z k2 a (.inr (0, [.ref tp, .int er, .ref g, .ref ah])) := Ha.imp (fun q => (hF2 a _ q na).1) id
  obtain ⟨hC3, hp1, hp2, -⟩ := plN_ok hC (rn := rn) hS c
  refine ww_aload_n C dX1_pointsAfter_22 rfl 0 rfl rfl ?_
  refine gf_X1_54_X1 C dX1_pointsAfter_23 Ha2 rfl ?_
  refine cv_X1_129_r (As := []) (rest := []) C dX1_pointsAfter_26 (ct_X3_points (Cx.fl C) (Cx.ok C) hz (GmM.p hz hM3) hC3.1) (rc_X3 (Cx.ok C) (Or.inl hM3.1)) rfl rfl (Nat.le_of_ble_eq_true rfl) (by omega) (Nat.zero_le _) (Nat.zero_le _) ?_
  exact ww_iret C dX1_pointsAfter_29 ⟨by rw [hun], rfl, by rw [hun], D1, ⟨_, _, _, _, hM3, hL1, hc1⟩, hN1, hF2⟩
set_option maxHeartbeats 2000000 in
theorem ct_X1_roundsUntilRing {l : Launch} {Γ : Gm} (hl : l.flags = flags0) (hΓ : GOK Γ) {z : ZR} {h : AH} {a tp g ah N : Nat} {er : Int32} {A : Nat → Nat} {B : GB} {G : GG} {rn dn : Int32} {T : TD} {d9 : Nat} (hz : zle (cst Γ) z) (Ha : rd z h a (.inr (0, [.ref tp, .int er, .ref g, .ref ah]))) (hM : GmM Γ z h g A B G rn dn) (hC : BC B) (hS : TdS B T) (hR : TdR T) (hG2 : G.2.2 = T.1.1) (hO : ∀ k, k < T.1.1 → OrO Γ z T N (A (200 + k)) k) {D : Nat → Nat} (hAh : AhI Γ z h ah D) (hdj : ∀ q, fpG Γ ah D q → ¬ fpG Γ g A q) (na : ¬ fpG Γ ah D a) (hd9 : 5 * N + 40 ≤ d9) : Ct l Γ yX1_roundsUntilRing cX1_roundsUntilRing 2 (some .int) d9 701 1348 [.ref a] z h (PaP Γ z h ah D (oI (ruN T B rn), 0)) := by
  refine Ct.of hl hΓ (by decide +kernel) (Nat.le_of_ble_eq_true rfl) (fun X e1 e2 C => ?_)
  subst e1; subst e2
  have C : Cx X cX1_roundsUntilRing 2 "RingDomino" "roundsUntilRing" (some .int) [] d9 := C
  have hB := hC.1
  have hG := GmM.p hz hM
  have Hg := hM.1
  have ht16 := hS.1
  show WW X (PaP (xG X) z h ah D (oI (ruN T B rn), 0)) z h 701 1348 0 [(0, .ref a)] []
  refine ww_aload_n C dX1_roundsUntilRing_0 rfl 0 rfl rfl ?_
  refine gf_X1_54_X1 C dX1_roundsUntilRing_1 Ha rfl ?_
  refine ww_aload_n C dX1_roundsUntilRing_4 rfl 0 rfl rfl ?_
  refine gf_X1_50_X1 C dX1_roundsUntilRing_5 Ha rfl ?_
  refine ww_ow0 hz (fun ow0 => ?_)
  obtain ⟨B2, G2, rn2, dn2, hM2, hL2, hc2⟩ := id hAh
  refine cv_X1_223_q (As := [.ref g]) (rest := []) C dX1_roundsUntilRing_8 (ct_X3_copy (Cx.fl C) (Cx.ok C) hz hM2 hL2 hc2 hM hB (by omega) (fun k hk => or_ob (hO k (by omega))) hdj) (rc_X3 (Cx.ok C) (Or.inl hM2.1)) rfl rfl (Nat.le_of_ble_eq_true rfl) (by omega) (by omega) (by omega) (fun v9 z9 k1 q => ?_)
  obtain ⟨rfl, hq, D1, G1, hM1, hL1, hG1, hc1, hD1, hN1, hF1⟩ := q; replace hq := hq.symm; subst hq
  have hO1 : ∀ k, k < T.1.1 → OrO (xG X) z T N (D1 (200 + k)) k := fun k hk => by rw [hD1]; exact hO k hk
  have hG3 : G1.2.2 = T.1.1 := hG1.trans hG2
  have Ha1 : rd z k1 a (.inr (0, [.ref tp, .int er, .ref g, .ref ah])) := Ha.imp (fun q => (hF1 a _ q na).1) id
  refine ww_le (kc' := 693) (ns' := 1092) (by omega) (by omega) ?_
  refine ww_pop C dX1_roundsUntilRing_11 rfl ?_
  refine ww_iconst C dX1_roundsUntilRing_12 cI_0 ?_
  refine ww_istore_n (lv' := [(1, .int (nI 0)), (0, .ref a)]) C dX1_roundsUntilRing_13 rfl (by decide) rfl ?_
  refine ww_sub [1, 0] rfl ?_
  refine loop_up (N := 21) (M := fun ri => ∀ (h3 : AH) (dn3 : Int32), (GmM (xG X) z h3 ah D1 (plN_ T B rn ri).2 G1 (rn + nI ri) dn3) → (∀ q e, h q = some e → ¬ fpG (xG X) ah D q → h3 q = some e ∧ ¬ fpG (xG X) ah D1 q) → (ruN T B rn = ff (fun k => decide (0 < rgN (plN_ T B rn k).2)) (21 - ri) ri) → WW X (PaP (xG X) z h ah D (oI (ruN T B rn), 0)) z h3 ((21 - ri) * 33) ((21 - ri) * 52) 14 [(0, .ref a), (1, .int (nI ri))] []) ?_ ?_ 0 (Nat.zero_le _) k1 dn (by show GmM _ _ _ _ _ B _ (rn + nI 0) _; rw [nI_0, Int32.add_zero]; exact hM1) hF1 rfl
  · intro h3 dn3 hi1 hi2 hi3
    show WW X (PaP (xG X) z h ah D (oI (ruN T B rn), 0)) z h3 ((21 - 21) * 33) ((21 - 21) * 52) 14 [(0, .ref a), (1, .int (nI 21))] []
    refine ww_iload_n C dX1_roundsUntilRing_14 rfl 1 rfl ?_
    refine ww_bipush C dX1_roundsUntilRing_15 cB_20 ?_
    refine ww_icmp_gt_t (tgt := 46) C dX1_roundsUntilRing_17 (by decide) (by decide) ?_
    refine ww_iconst C dX1_roundsUntilRing_46 cI_m1 ?_
    exact ww_iret C dX1_roundsUntilRing_47 ⟨by rw [hi3]; rfl, rfl, rfl, D1, ⟨_, _, _, _, hi1, hL1, hc1⟩, hN1, hi2⟩
  · intro ri hi ih h3 dn3 hi1 hi2 hi3
    show WW X (PaP (xG X) z h ah D (oI (ruN T B rn), 0)) z h3 ((21 - ri) * 33) ((21 - ri) * 52) 14 [(0, .ref a), (1, .int (nI ri))] []
    obtain ⟨hC3, hp1, hp2, -⟩ := plN_ok hC (rn := rn) hS ri
    have Ha3 : rd z h3 a (.inr (0, [.ref tp, .int er, .ref g, .ref ah])) := Ha.imp (fun q => (hi2 a _ q na).1) id
    refine ww_iload_n C dX1_roundsUntilRing_14 rfl 1 rfl ?_
    refine ww_bipush C dX1_roundsUntilRing_15 cB_20 ?_
    refine ww_icmp_gt_n (tgt := 46) C dX1_roundsUntilRing_17 (by decide) (by omega) (by decide) (fun c_17 => ?_) (fun c_17 => ?_)
    · skip
      omega
    · skip
      refine ww_aload_n C dX1_roundsUntilRing_20 rfl 0 rfl rfl ?_
      refine gf_X1_54_X1 C dX1_roundsUntilRing_21 Ha3 rfl ?_
      refine cv_X1_132_r (As := []) (rest := []) C dX1_roundsUntilRing_24 (ct_X3_rings (Cx.fl C) (Cx.ok C) (GmM.p hz hi1) hC3.1.1 (BO.l hC3.1)) (rc_X3 (Cx.ok C) (Or.inl hi1.1)) rfl rfl (Nat.le_of_ble_eq_true rfl) (by omega) (Nat.zero_le _) (Nat.zero_le _) ?_
      have hrg : rgN (plN_ T B rn ri).2 ≤ 49 := Nat.le_trans (cnt_le _ _) (BO.z hC3.1)
      refine ww_if_le_n (tgt := 32) C dX1_roundsUntilRing_27 (by decide) (by omega) (fun c_27 => ?_) (fun c_27 => ?_)
      · skip
        have hff := ff_f (p := fun k => decide (0 < rgN (plN_ T B rn k).2)) (N := 21) hi (decide_eq_false (by omega))
        refine ww_aload_n C dX1_roundsUntilRing_32 rfl 0 rfl rfl ?_
        refine gf_X1_54_X1 C dX1_roundsUntilRing_33 Ha3 rfl ?_
        refine ww_iconst C dX1_roundsUntilRing_36 cI_1 ?_
        have hk1 : 1 * (1 + 2 * T.1.1) ≤ 33 := by omega
        have hk2 : 1 * (4 + 3 * T.1.1) ≤ 52 := by omega
        refine cv_X1_220_q (As := [.int (nI 1)]) (rest := []) C dX1_roundsUntilRing_37 (ct_X3_play (Cx.fl C) (Cx.ok C) (d9 := 5 * N + 30) hz hi1 hC3 (hS.c hp1) hR hG3 hO1 (n := 1) (by omega) (Nat.le_refl _)) (rc_X3 (Cx.ok C) (Or.inl hi1.1)) rfl rfl (Nat.le_of_ble_eq_true rfl) (by omega) (by omega) (by omega) (fun z2 k2 q => ?_)
        obtain ⟨hq, hM3, hF3⟩ := q; replace hq := hq.symm; subst hq
        rw [plN_s, Int32.add_assoc, nI_add] at hM3
        refine ww_le (kc' := (21 - (ri + 1)) * 33) (ns' := (21 - (ri + 1)) * 52) (by omega) (by omega) ?_
        refine ww_iinc (lv' := [(1, .int (nI (ri + 1))), (0, .ref a)]) C dX1_roundsUntilRing_40 1 rfl (inc_n _) (by decide) rfl ?_
        refine ww_goto (tgt := 14) C dX1_roundsUntilRing_43 (by decide) ?_
        refine ww_sub [1, 0] rfl ?_
        refine ih k2 _ hM3 (fun q e hq nf => ⟨fr_fp hF3 (hi2 q e hq nf).2 (ow0 q e hq) (hi2 q e hq nf).1, (hi2 q e hq nf).2⟩) (hi3.trans hff)
      · skip
        have hff := ff_t (p := fun k => decide (0 < rgN (plN_ T B rn k).2)) (N := 21) hi (decide_eq_true (by omega))
        refine ww_iload_n C dX1_roundsUntilRing_30 rfl 1 rfl ?_
        exact ww_iret C dX1_roundsUntilRing_31 ⟨by rw [hi3, hff]; rfl, rfl, rfl, D1, ⟨_, _, _, _, hi1, hL1, hc1⟩, hN1, hi2⟩
end COM6
