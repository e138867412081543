section EV2
set_option maxRecDepth 100000
def cmB (c0 c1 : Nat) (x y : Int32) : Bool := if x < y then decide (c0 = 60) else if x = y then decide (c1 = 61) else decide (c0 = 62)
def svB (al : Bool) (bv : Nat → Bool) (m : Nat) : Bool := match ff (fun k => bv k != al) m 0 with
  | some _ => !al
  | none => al
theorem bI_inj {a b : Bool} (h : bI a = bI b) : a = b := by
  cases a <;> cases b <;> first | rfl | (exact absurd h (by decide))
theorem wy_le {B : GB} (hB : BO B) (k : Nat) : wyN B k ≤ 294 := by
  have h1 := sumN_le (f := fun x => cnt (fun t => ftN B k x t) 6) (k := 6) (fun i => cnt_le _ _) (Bz B)
  have h2 := BO.z hB
  unfold wyN
  omega
set_option maxHeartbeats 2000000 in
theorem ct_J19_compare_lt {l : Launch} {Γ : Gm} (hl : l.flags = flags0) (hΓ : GOK Γ) {z : ZR} {h : AH} {x y : Int32} (h1 : x < y) : Ct l Γ yJ19_compare cJ19_compare 2 (some .int) 1 0 0 [.int x, .int y] z h (RdP z h (some (.int (-1)))) := by
  refine Ct.of hl hΓ (by decide +kernel) (Nat.le_of_ble_eq_true rfl) (fun X e1 e2 C => ?_)
  subst e1; subst e2
  have C : Cx X cJ19_compare 2 "java/lang/Integer" "compare" (some .int) [] 1 := C
  show WW X (RdP z h (some (.int (-1)))) z h 0 0 0 [(0, .int x), (1, .int y)] []
  refine ww_iload_n C dJ19_compare_0 rfl 0 rfl ?_
  refine ww_iload_n C dJ19_compare_1 rfl 1 rfl ?_
  refine ww_icmp_ge_f (tgt := 9) C dJ19_compare_2 (by decide) (fun q => absurd h1 (Int32.not_lt.mpr q)) ?_
  refine ww_iconst C dJ19_compare_5 cI_m1 ?_
  refine ww_goto (tgt := 19) C dJ19_compare_6 (by decide) ?_
  exact ww_iret C dJ19_compare_19 (RdP.i (by rfl))
set_option maxHeartbeats 2000000 in
theorem ct_J19_compare_eq {l : Launch} {Γ : Gm} (hl : l.flags = flags0) (hΓ : GOK Γ) {z : ZR} {h : AH} {x y : Int32} (h1 : x = y) : Ct l Γ yJ19_compare cJ19_compare 2 (some .int) 1 0 0 [.int x, .int y] z h (RdP z h (some (.int (nI 0)))) := by
  refine Ct.of hl hΓ (by decide +kernel) (Nat.le_of_ble_eq_true rfl) (fun X e1 e2 C => ?_)
  subst e1; subst e2
  have C : Cx X cJ19_compare 2 "java/lang/Integer" "compare" (some .int) [] 1 := C
  show WW X (RdP z h (some (.int (nI 0)))) z h 0 0 0 [(0, .int x), (1, .int y)] []
  refine ww_iload_n C dJ19_compare_0 rfl 0 rfl ?_
  refine ww_iload_n C dJ19_compare_1 rfl 1 rfl ?_
  refine ww_icmp_ge_t (tgt := 9) C dJ19_compare_2 (by decide) (by rw [h1]; exact Int32.le_refl _) ?_
  refine ww_iload_n C dJ19_compare_9 rfl 0 rfl ?_
  refine ww_iload_n C dJ19_compare_10 rfl 1 rfl ?_
  refine ww_icmp_ne_f (tgt := 18) C dJ19_compare_11 (by decide) h1 ?_
  refine ww_iconst C dJ19_compare_14 cI_0 ?_
  refine ww_goto (tgt := 19) C dJ19_compare_15 (by decide) ?_
  exact ww_iret C dJ19_compare_19 (RdP.i (by rfl))
set_option maxHeartbeats 2000000 in
theorem ct_J19_compare_gt {l : Launch} {Γ : Gm} (hl : l.flags = flags0) (hΓ : GOK Γ) {z : ZR} {h : AH} {x y : Int32} (h1 : y < x) : Ct l Γ yJ19_compare cJ19_compare 2 (some .int) 1 0 0 [.int x, .int y] z h (RdP z h (some (.int (nI 1)))) := by
  refine Ct.of hl hΓ (by decide +kernel) (Nat.le_of_ble_eq_true rfl) (fun X e1 e2 C => ?_)
  subst e1; subst e2
  have C : Cx X cJ19_compare 2 "java/lang/Integer" "compare" (some .int) [] 1 := C
  show WW X (RdP z h (some (.int (nI 1)))) z h 0 0 0 [(0, .int x), (1, .int y)] []
  refine ww_iload_n C dJ19_compare_0 rfl 0 rfl ?_
  refine ww_iload_n C dJ19_compare_1 rfl 1 rfl ?_
  refine ww_icmp_ge_t (tgt := 9) C dJ19_compare_2 (by decide) (Int32.le_of_lt h1) ?_
  refine ww_iload_n C dJ19_compare_9 rfl 0 rfl ?_
  refine ww_iload_n C dJ19_compare_10 rfl 1 rfl ?_
  refine ww_icmp_ne_t (tgt := 18) C dJ19_compare_11 (by decide) (fun q => by rw [q] at h1; exact Int32.lt_irrefl h1) ?_
  refine ww_iconst C dJ19_compare_18 cI_1 ?_
  exact ww_iret C dJ19_compare_19 (RdP.i (by rfl))
set_option maxHeartbeats 2000000 in
theorem ct_X22_holds {l : Launch} {Γ : Gm} (hl : l.flags = flags0) (hΓ : GOK Γ) {z : ZR} {h : AH} {a g b c sg m dy : Nat} {x y : Int32} {u : Nat → Nat} {d9 : Nat} (Ha : rd z h a (.inr (20, [.ref sg, .ref b, .ref c]))) (hs : StU Γ z h sg m u) (hm : 0 < m) (hS : SmC l Γ dy z h b g x) (hS2 : SmC l Γ dy z h c g y) (hd9 : dy + 5 ≤ d9) : Ct l Γ yX22_holds cX22_holds 3 (some .boolean) d9 0 0 [.ref a, .ref g] z h (RdP z h (some (.int (bI (cmB (u 0) (u (m - 1)) x y))))) := by
  refine Ct.of hl hΓ (by decide +kernel) (Nat.le_of_ble_eq_true rfl) (fun X e1 e2 C => ?_)
  subst e1; subst e2
  have C : Cx X cX22_holds 3 "RingDomino$Compared" "holds" (some .boolean) [] d9 := C
  obtain ⟨_, _, _, _, _, _, hm20, huu⟩ := id hs
  have hu0 := (huu 0 hm).2
  have hu1 := (huu (m - 1) (by omega)).2
  show WW X (RdP z h (some (.int (bI (cmB (u 0) (u (m - 1)) x y))))) z h 0 0 0 [(0, .ref a), (1, .ref g)] []
  refine ww_aload_n C dX22_holds_0 rfl 0 rfl rfl ?_
  refine gf_X22_13_X22 C dX22_holds_1 Ha rfl ?_
  refine ww_aload_n C dX22_holds_4 rfl 1 rfl rfl ?_
  refine sm_X22_20 C dX22_holds_5 hS rfl (Nat.le_of_ble_eq_true rfl) (by omega) ?_
  refine ww_aload_n C dX22_holds_8 rfl 0 rfl rfl ?_
  refine gf_X22_17_X22 C dX22_holds_9 Ha rfl ?_
  refine ww_aload_n C dX22_holds_12 rfl 1 rfl rfl ?_
  refine sm_X22_20 C dX22_holds_13 hS2 rfl (Nat.le_of_ble_eq_true rfl) (by omega) ?_
  by_cases hxy : x < y
  · skip
    refine cs_X22_26_r (As := [.int x, .int y]) (rest := []) C dX22_holds_16 (ct_J19_compare_lt (Cx.fl C) (Cx.ok C) hxy) rfl rfl (Nat.le_of_ble_eq_true rfl) (by omega) (Nat.zero_le _) (Nat.zero_le _) ?_
    refine ww_istore_n (lv' := [(2, .int (-1)), (0, .ref a), (1, .ref g)]) C dX22_holds_19 rfl (by decide) rfl ?_
    refine ww_iload_n C dX22_holds_20 rfl 0 rfl ?_
    refine ww_if_ge_f (tgt := 45) C dX22_holds_21 (by decide) (by decide) ?_
    refine ww_aload_n C dX22_holds_24 rfl 1 rfl rfl ?_
    refine gf_X22_7_X22 C dX22_holds_25 Ha rfl ?_
    refine ww_iconst C dX22_holds_28 cI_0 ?_
    refine cv_X22_32_r (As := [.int (nI 0)]) (rest := []) C dX22_holds_29 (ct_J11_charAt (Cx.fl C) (Cx.ok C) hs hm) (hs.rc (Cx.ok C)) rfl rfl (Nat.le_of_ble_eq_true rfl) (by omega) (Nat.zero_le _) (Nat.zero_le _) ?_
    refine ww_bipush C dX22_holds_32 cB_60 ?_
    refine ww_icmp_ne_n (tgt := 41) C dX22_holds_34 (by decide) (by omega) (by decide) (fun c_34 => ?_) (fun c_34 => ?_)
    · skip
      refine ww_iconst C dX22_holds_41 cI_0 ?_
      refine ww_goto (tgt := 96) C dX22_holds_42 (by decide) ?_
      exact ww_zret C dX22_holds_96 nar_z0 (RdP.i (by unfold cmB; rw [if_pos hxy]; rw [decide_eq_false c_34]; try rfl))
    · skip
      refine ww_iconst C dX22_holds_37 cI_1 ?_
      refine ww_goto (tgt := 96) C dX22_holds_38 (by decide) ?_
      exact ww_zret C dX22_holds_96 nar_z1 (RdP.i (by unfold cmB; rw [if_pos hxy]; rw [decide_eq_true c_34]; try rfl))
  · skip
    by_cases hye : x = y
    · skip
      refine cs_X22_26_r (As := [.int x, .int y]) (rest := []) C dX22_holds_16 (ct_J19_compare_eq (Cx.fl C) (Cx.ok C) hye) rfl rfl (Nat.le_of_ble_eq_true rfl) (by omega) (Nat.zero_le _) (Nat.zero_le _) ?_
      refine ww_istore_n (lv' := [(2, .int (nI 0)), (0, .ref a), (1, .ref g)]) C dX22_holds_19 rfl (by decide) rfl ?_
      refine ww_iload_n C dX22_holds_20 rfl 0 rfl ?_
      refine ww_if_ge_n (tgt := 45) C dX22_holds_21 (by decide) (by decide) ?_
      refine ww_iload_n C dX22_holds_45 rfl 0 rfl ?_
      refine ww_if_le_t (tgt := 70) C dX22_holds_46 (by decide) (by decide) ?_
      refine ww_aload_n C dX22_holds_70 rfl 1 rfl rfl ?_
      refine gf_X22_7_X22 C dX22_holds_71 Ha rfl ?_
      refine ww_aload_n C dX22_holds_74 rfl 1 rfl rfl ?_
      refine gf_X22_7_X22 C dX22_holds_75 Ha rfl ?_
      refine cv_X22_38_r (As := []) (rest := [.ref sg]) C dX22_holds_78 (ct_J11_length (Cx.fl C) (Cx.ok C) hs) (hs.rc (Cx.ok C)) rfl rfl (Nat.le_of_ble_eq_true rfl) (by omega) (Nat.zero_le _) (Nat.zero_le _) ?_
      refine ww_iconst C dX22_holds_81 cI_1 ?_
      refine ww_isubn C dX22_holds_82 (by omega) ?_
      refine cv_X22_32_r (As := [.int (nI (m - 1))]) (rest := []) C dX22_holds_83 (ct_J11_charAt (Cx.fl C) (Cx.ok C) hs (by omega)) (hs.rc (Cx.ok C)) rfl rfl (Nat.le_of_ble_eq_true rfl) (by omega) (Nat.zero_le _) (Nat.zero_le _) ?_
      refine ww_bipush C dX22_holds_86 cB_61 ?_
      refine ww_tern_icmp_ne_n C dX22_holds_88 dX22_holds_91 dX22_holds_92 dX22_holds_95 (by omega) (by decide) ?_
      exact ww_zret C dX22_holds_96 (nar_bI _) (RdP.i (by unfold cmB; rw [if_neg hxy, if_pos hye]))
    · skip
      have hyx : y < x := Int32.lt_of_le_of_ne (Int32.not_lt.mp hxy) (fun q => hye q.symm)
      refine cs_X22_26_r (As := [.int x, .int y]) (rest := []) C dX22_holds_16 (ct_J19_compare_gt (Cx.fl C) (Cx.ok C) hyx) rfl rfl (Nat.le_of_ble_eq_true rfl) (by omega) (Nat.zero_le _) (Nat.zero_le _) ?_
      refine ww_istore_n (lv' := [(2, .int (nI 1)), (0, .ref a), (1, .ref g)]) C dX22_holds_19 rfl (by decide) rfl ?_
      refine ww_iload_n C dX22_holds_20 rfl 0 rfl ?_
      refine ww_if_ge_n (tgt := 45) C dX22_holds_21 (by decide) (by decide) ?_
      refine ww_iload_n C dX22_holds_45 rfl 0 rfl ?_
      refine ww_if_le_f (tgt := 70) C dX22_holds_46 (by decide) (by decide) ?_
      refine ww_aload_n C dX22_holds_49 rfl 1 rfl rfl ?_
      refine gf_X22_7_X22 C dX22_holds_50 Ha rfl ?_
      refine ww_iconst C dX22_holds_53 cI_0 ?_
      refine cv_X22_32_r (As := [.int (nI 0)]) (rest := []) C dX22_holds_54 (ct_J11_charAt (Cx.fl C) (Cx.ok C) hs hm) (hs.rc (Cx.ok C)) rfl rfl (Nat.le_of_ble_eq_true rfl) (by omega) (Nat.zero_le _) (Nat.zero_le _) ?_
      refine ww_bipush C dX22_holds_57 cB_62 ?_
      refine ww_icmp_ne_n (tgt := 66) C dX22_holds_59 (by decide) (by omega) (by decide) (fun c_59 => ?_) (fun c_59 => ?_)
      · skip
        refine ww_iconst C dX22_holds_66 cI_0 ?_
        refine ww_goto (tgt := 96) C dX22_holds_67 (by decide) ?_
        exact ww_zret C dX22_holds_96 nar_z0 (RdP.i (by unfold cmB; rw [if_neg hxy, if_neg hye]; rw [decide_eq_false c_59]; try rfl))
      · skip
        refine ww_iconst C dX22_holds_62 cI_1 ?_
        refine ww_goto (tgt := 96) C dX22_holds_63 (by decide) ?_
        exact ww_zret C dX22_holds_96 nar_z1 (RdP.i (by unfold cmB; rw [if_neg hxy, if_neg hye]; rw [decide_eq_true c_59]; try rfl))
set_option maxHeartbeats 2000000 in
theorem ct_X20_holds {l : Launch} {Γ : Gm} (hl : l.flags = flags0) (hΓ : GOK Γ) {z : ZR} {h : AH} {a g k : Nat} {A : Nat → Nat} {B : GB} {rn dn : Int32} {d9 : Nat} (hz : zle (cst Γ) z) (hG : GmP Γ z h g A B rn dn) (hC : BC B) (hk : k < Bt B) (Ha : rd z h a (.inr (18, [.int (nI k)]))) (hd9 : 8 ≤ d9) : Ct l Γ yX20_holds cX20_holds 2 (some .boolean) d9 0 0 [.ref a, .ref g] z h (RdP z h (some (.int (bI (Bp B k).isSome)))) := by
  refine Ct.of hl hΓ (by decide +kernel) (Nat.le_of_ble_eq_true rfl) (fun X e1 e2 C => ?_)
  subst e1; subst e2
  have C : Cx X cX20_holds 2 "RingDomino$On" "holds" (some .boolean) [] d9 := C
  have hB := hC.1
  have hbl := BO.l hB
  have hzz := BO.z hB
  have Hg := hG.1
  show WW X (RdP z h (some (.int (bI (Bp B k).isSome)))) z h 0 0 0 [(0, .ref a), (1, .ref g)] []
  refine ww_aload_n C dX20_holds_0 rfl 1 rfl rfl ?_
  refine ww_aload_n C dX20_holds_1 rfl 0 rfl rfl ?_
  refine gf_X20_7_X20 C dX20_holds_2 Ha rfl ?_
  refine cv_X20_13_r (As := [.int (nI k)]) (rest := []) C dX20_holds_5 (ct_X3_isPlaced (Cx.fl C) (Cx.ok C) hz hG hB hk) (rc_X3 (Cx.ok C) Hg) rfl rfl (Nat.le_of_ble_eq_true rfl) (by omega) (Nat.zero_le _) (Nat.zero_le _) ?_
  exact ww_zret C dX20_holds_8 (nar_bI _) (RdP.i (by rfl))
set_option maxHeartbeats 2000000 in
theorem ct_X21_holds {l : Launch} {Γ : Gm} (hl : l.flags = flags0) (hΓ : GOK Γ) {z : ZR} {h : AH} {a g k : Nat} {A : Nat → Nat} {B : GB} {rn dn : Int32} {d9 : Nat} (hz : zle (cst Γ) z) (hG : GmP Γ z h g A B rn dn) (hC : BC B) (hk : k < Bt B) (Ha : rd z h a (.inr (19, [.int (nI k)]))) (hd9 : 8 ≤ d9) : Ct l Γ yX21_holds cX21_holds 2 (some .boolean) d9 0 0 [.ref a, .ref g] z h (RdP z h (some (.int (bI (decide (0 < wyN B k)))))) := by
  refine Ct.of hl hΓ (by decide +kernel) (Nat.le_of_ble_eq_true rfl) (fun X e1 e2 C => ?_)
  subst e1; subst e2
  have C : Cx X cX21_holds 2 "RingDomino$Fitting" "holds" (some .boolean) [] d9 := C
  have hB := hC.1
  have hbl := BO.l hB
  have hzz := BO.z hB
  have Hg := hG.1
  have hwl := wy_le hB k
  show WW X (RdP z h (some (.int (bI (decide (0 < wyN B k)))))) z h 0 0 0 [(0, .ref a), (1, .ref g)] []
  refine ww_aload_n C dX21_holds_0 rfl 1 rfl rfl ?_
  refine ww_aload_n C dX21_holds_1 rfl 0 rfl rfl ?_
  refine gf_X21_7_X21 C dX21_holds_2 Ha rfl ?_
  refine cv_X21_13_r (As := [.int (nI k)]) (rest := []) C dX21_holds_5 (ct_X3_ways (Cx.fl C) (Cx.ok C) hz hG hB hk) (rc_X3 (Cx.ok C) Hg) rfl rfl (Nat.le_of_ble_eq_true rfl) (by omega) (Nat.zero_le _) (Nat.zero_le _) ?_
  refine ww_tern_if_le_n C dX21_holds_8 dX21_holds_11 dX21_holds_12 dX21_holds_15 (by omega) ?_
  exact ww_zret C dX21_holds_16 (nar_bI _) (RdP.i (by rfl))
set_option maxHeartbeats 2000000 in
theorem ct_X24_holds {l : Launch} {Γ : Gm} (hl : l.flags = flags0) (hΓ : GOK Γ) {z : ZR} {h : AH} {a g : Nat} {d9 : Nat}  (hd9 : 1 ≤ d9) : Ct l Γ yX24_holds cX24_holds 2 (some .boolean) d9 0 0 [.ref a, .ref g] z h (RdP z h (some (.int (bI true)))) := by
  refine Ct.of hl hΓ (by decide +kernel) (Nat.le_of_ble_eq_true rfl) (fun X e1 e2 C => ?_)
  subst e1; subst e2
  have C : Cx X cX24_holds 2 "RingDomino$Test$1" "holds" (some .boolean) [] d9 := C
  show WW X (RdP z h (some (.int (bI true)))) z h 0 0 0 [(0, .ref a), (1, .ref g)] []
  refine ww_iconst C dX24_holds_0 cI_1 ?_
  exact ww_zret C dX24_holds_1 nar_z1 (RdP.i (by rfl))
/-- a test that is asked: its class, its contract -/
def TmC (l : Launch) (Γ : Gm) (d : Nat) (z : ZR) (h : AH) (a g : Nat) (x : Bool) : Prop := (rcv Γ z h a "RingDomino$Several" ∧ Ct l Γ yX18_holds cX18_holds 3 (some .boolean) d 0 0 [.ref a, .ref g] z h (RdP z h (some (.int (bI x))))) ∨ (rcv Γ z h a "RingDomino$Denied" ∧ Ct l Γ yX19_holds cX19_holds 2 (some .boolean) d 0 0 [.ref a, .ref g] z h (RdP z h (some (.int (bI x))))) ∨ (rcv Γ z h a "RingDomino$On" ∧ Ct l Γ yX20_holds cX20_holds 2 (some .boolean) d 0 0 [.ref a, .ref g] z h (RdP z h (some (.int (bI x))))) ∨ (rcv Γ z h a "RingDomino$Fitting" ∧ Ct l Γ yX21_holds cX21_holds 2 (some .boolean) d 0 0 [.ref a, .ref g] z h (RdP z h (some (.int (bI x))))) ∨ (rcv Γ z h a "RingDomino$Compared" ∧ Ct l Γ yX22_holds cX22_holds 3 (some .boolean) d 0 0 [.ref a, .ref g] z h (RdP z h (some (.int (bI x))))) ∨ (rcv Γ z h a "RingDomino$Test$1" ∧ Ct l Γ yX24_holds cX24_holds 2 (some .boolean) d 0 0 [.ref a, .ref g] z h (RdP z h (some (.int (bI x)))))
section TMR
variable {X : XT} {P : Oc → ZR → AH → Prop} {z : ZR} {h : AH} {kc ns pc nL d : Nat} {lv : List (Nat × Value)} {cc : ByteArray} {mn : String} {ret : Option FieldType} {hh : List (Nat × Nat × Nat × Nat)}
theorem tm_X18_30 (C : Cx X cc nL "RingDomino$Several" mn ret hh d) {a g dy : Nat} {x : Bool} {rest st0 : List Value} (hd : decode cc pc = .ok (.invokeinterface 30 2, 5)) (hS : TmC (xl X) (xG X) dy z h a g x) (hs : st0 = [Value.ref g].reverse ++ .ref a :: rest) (hst : (rest.map fun v => v.category).sum ≤ 8) (hdy : dy + 1 ≤ d) (k : WW X P z h (kc - 0) (ns - 0) (pc + 5) lv (.int (bI x) :: rest)) : WW X P z h kc ns pc lv st0 := by
  rcases hS with ⟨h1, h2⟩ | ⟨h1, h2⟩ | ⟨h1, h2⟩ | ⟨h1, h2⟩ | ⟨h1, h2⟩ | ⟨h1, h2⟩
  · exact cf_X18_30_X18_r (As := [.ref g]) C hd h2 h1 rfl hs hst hdy (Nat.zero_le _) (Nat.zero_le _) k
  · exact cf_X18_30_X19_r (As := [.ref g]) C hd h2 h1 rfl hs hst hdy (Nat.zero_le _) (Nat.zero_le _) k
  · exact cf_X18_30_X20_r (As := [.ref g]) C hd h2 h1 rfl hs hst hdy (Nat.zero_le _) (Nat.zero_le _) k
  · exact cf_X18_30_X21_r (As := [.ref g]) C hd h2 h1 rfl hs hst hdy (Nat.zero_le _) (Nat.zero_le _) k
  · exact cf_X18_30_X22_r (As := [.ref g]) C hd h2 h1 rfl hs hst hdy (Nat.zero_le _) (Nat.zero_le _) k
  · exact cf_X18_30_X24_r (As := [.ref g]) C hd h2 h1 rfl hs hst hdy (Nat.zero_le _) (Nat.zero_le _) k
theorem tm_X19_13 (C : Cx X cc nL "RingDomino$Denied" mn ret hh d) {a g dy : Nat} {x : Bool} {rest st0 : List Value} (hd : decode cc pc = .ok (.invokeinterface 13 2, 5)) (hS : TmC (xl X) (xG X) dy z h a g x) (hs : st0 = [Value.ref g].reverse ++ .ref a :: rest) (hst : (rest.map fun v => v.category).sum ≤ 8) (hdy : dy + 1 ≤ d) (k : WW X P z h (kc - 0) (ns - 0) (pc + 5) lv (.int (bI x) :: rest)) : WW X P z h kc ns pc lv st0 := by
  rcases hS with ⟨h1, h2⟩ | ⟨h1, h2⟩ | ⟨h1, h2⟩ | ⟨h1, h2⟩ | ⟨h1, h2⟩ | ⟨h1, h2⟩
  · exact cf_X19_13_X18_r (As := [.ref g]) C hd h2 h1 rfl hs hst hdy (Nat.zero_le _) (Nat.zero_le _) k
  · exact cf_X19_13_X19_r (As := [.ref g]) C hd h2 h1 rfl hs hst hdy (Nat.zero_le _) (Nat.zero_le _) k
  · exact cf_X19_13_X20_r (As := [.ref g]) C hd h2 h1 rfl hs hst hdy (Nat.zero_le _) (Nat.zero_le _) k
  · exact cf_X19_13_X21_r (As := [.ref g]) C hd h2 h1 rfl hs hst hdy (Nat.zero_le _) (Nat.zero_le _) k
  · exact cf_X19_13_X22_r (As := [.ref g]) C hd h2 h1 rfl hs hst hdy (Nat.zero_le _) (Nat.zero_le _) k
  · exact cf_X19_13_X24_r (As := [.ref g]) C hd h2 h1 rfl hs hst hdy (Nat.zero_le _) (Nat.zero_le _) k
theorem tm_X3_158 (C : Cx X cc nL "RingDomino$Game" mn ret hh d) {a g dy : Nat} {x : Bool} {rest st0 : List Value} (hd : decode cc pc = .ok (.invokeinterface 158 2, 5)) (hS : TmC (xl X) (xG X) dy z h a g x) (hs : st0 = [Value.ref g].reverse ++ .ref a :: rest) (hst : (rest.map fun v => v.category).sum ≤ 8) (hdy : dy + 1 ≤ d) (k : WW X P z h (kc - 0) (ns - 0) (pc + 5) lv (.int (bI x) :: rest)) : WW X P z h kc ns pc lv st0 := by
  rcases hS with ⟨h1, h2⟩ | ⟨h1, h2⟩ | ⟨h1, h2⟩ | ⟨h1, h2⟩ | ⟨h1, h2⟩ | ⟨h1, h2⟩
  · exact cf_X3_158_X18_r (As := [.ref g]) C hd h2 h1 rfl hs hst hdy (Nat.zero_le _) (Nat.zero_le _) k
  · exact cf_X3_158_X19_r (As := [.ref g]) C hd h2 h1 rfl hs hst hdy (Nat.zero_le _) (Nat.zero_le _) k
  · exact cf_X3_158_X20_r (As := [.ref g]) C hd h2 h1 rfl hs hst hdy (Nat.zero_le _) (Nat.zero_le _) k
  · exact cf_X3_158_X21_r (As := [.ref g]) C hd h2 h1 rfl hs hst hdy (Nat.zero_le _) (Nat.zero_le _) k
  · exact cf_X3_158_X22_r (As := [.ref g]) C hd h2 h1 rfl hs hst hdy (Nat.zero_le _) (Nat.zero_le _) k
  · exact cf_X3_158_X24_r (As := [.ref g]) C hd h2 h1 rfl hs hst hdy (Nat.zero_le _) (Nat.zero_le _) k
theorem tm_cast (C : Cx X cc nL "RingDomino$Several" mn ret hh d) {a g dy : Nat} {x : Bool} {st : List Value} (hd : decode cc pc = .ok (.checkcast 28, 3)) (hS : TmC (xl X) (xG X) dy z h a g x) (k : WW X P z h kc ns (pc + 3) lv (.ref a :: st)) : WW X P z h kc ns pc lv (.ref a :: st) := by
  rcases hS with ⟨h1, h2⟩ | ⟨h1, h2⟩ | ⟨h1, h2⟩ | ⟨h1, h2⟩ | ⟨h1, h2⟩ | ⟨h1, h2⟩
  · exact ww_cast C q2292 q2284 hd h1 k
  · exact ww_cast C q2292 q2262 hd h1 k
  · exact ww_cast C q2292 q2277 hd h1 k
  · exact ww_cast C q2292 q2270 hd h1 k
  · exact ww_cast C q2292 q2166 hd h1 k
  · exact ww_cast C q2292 q2295 hd h1 k
end TMR
set_option maxHeartbeats 2000000 in
theorem ct_X19_holds {l : Launch} {Γ : Gm} (hl : l.flags = flags0) (hΓ : GOK Γ) {z : ZR} {h : AH} {a c g dy : Nat} {x : Bool} {d9 : Nat} (Ha : rd z h a (.inr (17, [.ref c]))) (hS : TmC l Γ dy z h c g x) (hd9 : dy + 1 ≤ d9) : Ct l Γ yX19_holds cX19_holds 2 (some .boolean) d9 0 0 [.ref a, .ref g] z h (RdP z h (some (.int (bI (!x))))) := by
  refine Ct.of hl hΓ (by decide +kernel) (Nat.le_of_ble_eq_true rfl) (fun X e1 e2 C => ?_)
  subst e1; subst e2
  have C : Cx X cX19_holds 2 "RingDomino$Denied" "holds" (some .boolean) [] d9 := C
  show WW X (RdP z h (some (.int (bI (!x))))) z h 0 0 0 [(0, .ref a), (1, .ref g)] []
  refine ww_aload_n C dX19_holds_0 rfl 0 rfl rfl ?_
  refine gf_X19_7_X19 C dX19_holds_1 Ha rfl ?_
  refine ww_aload_n C dX19_holds_4 rfl 1 rfl rfl ?_
  refine tm_X19_13 C dX19_holds_5 hS rfl (Nat.le_of_ble_eq_true rfl) (by omega) ?_
  refine ww_tern_ne_b C dX19_holds_10 dX19_holds_13 dX19_holds_14 dX19_holds_17 ?_
  exact ww_zret C dX19_holds_18 (nar_bI _) (RdP.i (by rfl))
set_option maxHeartbeats 2000000 in
theorem ct_X18_holds {l : Launch} {Γ : Gm} (hl : l.flags = flags0) (hΓ : GOK Γ) {z : ZR} {h : AH} {a L arr g m dy : Nat} {xs : Nat → Nat} {al : Bool} {bv : Nat → Bool} {d9 : Nat} (Ha : rd z h a (.inr (16, [.int (bI al), .ref L]))) (hL : ALp Γ z h L arr m xs) (hm : m < 2 ^ 20) (hS : ∀ k, k < m → TmC l Γ dy z h (xs k) g (bv k)) (hd9 : dy + 5 ≤ d9) : Ct l Γ yX18_holds cX18_holds 3 (some .boolean) d9 0 0 [.ref a, .ref g] z h (RdP z h (some (.int (bI (svB al bv m))))) := by
  refine Ct.of hl hΓ (by decide +kernel) (Nat.le_of_ble_eq_true rfl) (fun X e1 e2 C => ?_)
  subst e1; subst e2
  have C : Cx X cX18_holds 3 "RingDomino$Several" "holds" (some .boolean) [] d9 := C
  show WW X (RdP z h (some (.int (bI (svB al bv m))))) z h 0 0 0 [(0, .ref a), (1, .ref g)] []
  refine ww_iconst C dX18_holds_0 cI_0 ?_
  refine ww_istore_n (lv' := [(2, .int (nI 0)), (0, .ref a), (1, .ref g)]) C dX18_holds_1 rfl (by decide) rfl ?_
  refine loop_up (N := m) (M := fun k => ff (fun k => bv k != al) m 0 = ff (fun k => bv k != al) (m - k) k → WW X (RdP z h (some (.int (bI (svB al bv m))))) z h 0 0 2 [(2, .int (nI k)), (0, .ref a), (1, .ref g)] []) ?_ ?_ 0 (Nat.zero_le _) rfl
  · intro hv; show WW X (RdP z h (some (.int (bI (svB al bv m))))) z h 0 0 2 [(2, .int (nI m)), (0, .ref a), (1, .ref g)] []
    refine ww_iload_n C dX18_holds_2 rfl 0 rfl ?_
    refine ww_aload_n C dX18_holds_3 rfl 1 rfl rfl ?_
    refine gf_X18_10_X18 C dX18_holds_4 Ha rfl ?_
    refine cv_X18_20_r (As := []) (rest := [.int (nI m)]) C dX18_holds_7 (ct_J2_size (Cx.fl C) (Cx.ok C) hL) (ALp.rc (Cx.ok C) hL) rfl rfl (Nat.le_of_ble_eq_true rfl) (by omega) (Nat.zero_le _) (Nat.zero_le _) ?_
    refine ww_icmp_ge_t (tgt := 56) C dX18_holds_10 (by decide) (nI_le (Nat.le_refl _) (by omega)) ?_
    refine ww_aload_n C dX18_holds_56 rfl 1 rfl rfl ?_
    refine gf_X18_16_X18 C dX18_holds_57 Ha rfl ?_
    exact ww_zret C dX18_holds_60 (nar_bI _) (RdP.i (by unfold svB; rw [hv, ff_0]))
  · intro k hi ih hv
    show WW X (RdP z h (some (.int (bI (svB al bv m))))) z h 0 0 2 [(2, .int (nI k)), (0, .ref a), (1, .ref g)] []
    refine ww_iload_n C dX18_holds_2 rfl 0 rfl ?_
    refine ww_aload_n C dX18_holds_3 rfl 1 rfl rfl ?_
    refine gf_X18_10_X18 C dX18_holds_4 Ha rfl ?_
    refine cv_X18_20_r (As := []) (rest := [.int (nI k)]) C dX18_holds_7 (ct_J2_size (Cx.fl C) (Cx.ok C) hL) (ALp.rc (Cx.ok C) hL) rfl rfl (Nat.le_of_ble_eq_true rfl) (by omega) (Nat.zero_le _) (Nat.zero_le _) ?_
    refine ww_icmp_ge_f (tgt := 56) C dX18_holds_10 (by decide) (nI_ge hi (by omega)) ?_
    refine ww_aload_n C dX18_holds_13 rfl 1 rfl rfl ?_
    refine gf_X18_10_X18 C dX18_holds_14 Ha rfl ?_
    refine ww_iload_n C dX18_holds_17 rfl 0 rfl ?_
    refine cv_X18_24_r (As := [.int (nI k)]) (rest := []) C dX18_holds_18 (ct_J2_get (Cx.fl C) (Cx.ok C) hL hi) (ALp.rc (Cx.ok C) hL) rfl rfl (Nat.le_of_ble_eq_true rfl) (by omega) (Nat.zero_le _) (Nat.zero_le _) ?_
    refine tm_cast C dX18_holds_21 (hS k hi) ?_
    refine ww_aload_n C dX18_holds_24 rfl 2 rfl rfl ?_
    refine tm_X18_30 C dX18_holds_25 (hS k hi) rfl (Nat.le_of_ble_eq_true rfl) (by omega) ?_
    refine ww_aload_n C dX18_holds_30 rfl 1 rfl rfl ?_
    refine gf_X18_16_X18 C dX18_holds_31 Ha rfl ?_
    refine ww_icmp_eq (tgt := 50) C dX18_holds_34 (by decide) (fun c_34 => ?_) (fun c_34 => ?_)
    · skip
      have hp : (fun k => bv k != al) k = false := by have e := bI_inj c_34; show (bv k != al) = false; rw [e]; simp
      refine ww_iinc (lv' := [(2, .int (nI (k + 1))), (0, .ref a), (1, .ref g)]) C dX18_holds_50 0 rfl (inc_n _) (by decide) rfl ?_
      refine ww_goto (tgt := 2) C dX18_holds_53 (by decide) ?_
      exact ih (hv.trans (ff_f hi hp))
    · skip
      have hp : (fun k => bv k != al) k = true := by show (bv k != al) = true; rw [bne_iff_ne]; exact fun e => c_34 (by rw [e])
      refine ww_aload_n C dX18_holds_37 rfl 1 rfl rfl ?_
      refine gf_X18_16_X18 C dX18_holds_38 Ha rfl ?_
      refine ww_tern_ne_b C dX18_holds_41 dX18_holds_44 dX18_holds_45 dX18_holds_48 ?_
      exact ww_zret C dX18_holds_49 (nar_bI _) (RdP.i (by unfold svB; rw [hv, ff_t hi hp]))
end EV2
