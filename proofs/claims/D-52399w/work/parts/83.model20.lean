section MO20
set_option maxRecDepth 100000
/-- a nonterminal's method does what the plain way says -/
def McV (l : Launch) (Γ : Gm) (E : PE) (t : TP) (y : MethodName) (cc : ByteArray) (nL nt f d : Nat) : Prop := ∀ (z : ZR) (h : AH) (D : Nat → Nat) (M : MS) (Q : QS) (i : Nat) (Q' : QS), PCx Γ h D t E M Q → mm E f nt 0 Q = some (i, Q') → qn Q' ≤ 800 → Ct l Γ y cc nL (some .int) d 0 0 [.ref (D 0)] z h (Rv (fun v z' h' => v = .int (nI i) ∧ PP Γ z h D t E M Q' z' h'))
theorem cmp_lt {E : PE} {n : Nat} (hK : KOk E.1 n) {Q : QS} (hq : qt Q ≤ n) (h : (qw Q || !(decide (44 ≤ kQ E Q) && decide (kQ E Q ≤ 48))) = false) : qt Q < n := by
  rw [Bool.or_eq_false_iff] at h
  have q2 : (decide (44 ≤ kQ E Q) && decide (kQ E Q ≤ 48)) = true := by
    cases hq : (decide (44 ≤ kQ E Q) && decide (kQ E Q ≤ 48)) with
    | true => rfl
    | false => rw [hq] at h; exact absurd h.2 (by decide)
  rw [Bool.and_eq_true, decide_eq_true_eq, decide_eq_true_eq] at q2
  exact hK.lt hq (by show kQ E Q ≠ 32 ∧ kQ E Q ≠ 33; omega)
theorem lp_f {E : PE} {Q : QS} (h : ∀ s, 9 ≤ s → s < 15 → isQ E Q s = false) : (!(qw Q) && (decide (9 ≤ kQ E Q) && decide (kQ E Q ≤ 14))) = false := by
  cases hw : qw Q with
  | true => rfl
  | false =>
    by_cases q : 9 ≤ kQ E Q ∧ kQ E Q ≤ 14
    · have := h (kQ E Q) q.1 (by omega)
      unfold isQ at this
      rw [hw] at this
      exact absurd this (by simp)
    · rw [Bool.not_false, Bool.true_and, Bool.and_eq_false_iff]
      by_cases q1 : 9 ≤ kQ E Q
      · right; exact decide_eq_false (fun q2 => q ⟨q1, q2⟩)
      · left; exact decide_eq_false q1
set_option maxHeartbeats 2000000 in
theorem ct_X4_inBrackets {l : Launch} {Γ : Gm} (hl : l.flags = flags0) (hΓ : GOK Γ) {z : ZR} {h : AH} {D : Nat → Nat} {t : TP} {E : PE} {M : MS} {Q : QS} {Q' : QS} {i f : Nat}  (hc : PCx Γ h D t E M Q) (hS : McV l Γ E t yX4_sum cX4_sum 3 3 f (2 * f + 4)) (hw : qw Q = false) (hlt : qt Q < tl t) (hm : mB (mm E f 3 0 (dpQ Q)) (fun i Q1 => some (i, upQ (tkQ E 50 Q1))) = some (i, Q')) (hn : qn Q' ≤ 800) : Ct l Γ yX4_inBrackets cX4_inBrackets 2 (some .int) (2 * f + 5) 0 0 [.ref (D 0)] z h (Rv (fun v z' h' => v = .int (nI i) ∧ PP Γ z h D t E M Q' z' h')) := by
  refine Ct.of hl hΓ (by decide +kernel) (Nat.le_of_ble_eq_true rfl) (fun X e1 e2 C => ?_)
  subst e1; subst e2
  have C : Cx X cX4_inBrackets 2 "RingDominoModel" "inBrackets" (some .int) [] (2 * f + 5) := C
  have hK := hc.K
  have hQl := hc.2.2.2.2.1
  show WW X (Rv (fun v z' h' => v = .int (nI i) ∧ PP (xG X) z h D t E M Q' z' h')) z h 0 0 0 [(0, .ref (D 0))] []
  have X0_1 : h (D 0) = some (cMd M.1 D) := hc.1.m
  obtain ⟨i1, Q1, e1, e2⟩ := mB_s hm; cases e2
  have dd := qD.dp hlt
  have k1 := mm_k hK _ _ _ _ dd.2.1 _ _ e1
  have k2 := qK.tk hK (k := 50) (by decide) k1.2.1
  have hn1 : qn Q1 ≤ 800 := Nat.le_trans k2.2.2.1 hn
  refine ww_aload_n C dX4_inBrackets_0 rfl 0 rfl rfl ?_
  refine cv_X4_172_q (As := []) (rest := []) C dX4_inBrackets_1 (ct_X4_deeper (Cx.fl C) (Cx.ok C) hc hw hlt) (rc_X4 (Cx.ok C) (Or.inl X0_1)) rfl rfl (Nat.le_of_ble_eq_true rfl) (by omega) (Nat.zero_le _) (Nat.zero_le _) (fun z2 h2 q2 => ?_)
  obtain ⟨hq2, M2, pf2, hc2, fr2⟩ := q2; replace hq2 := hq2.symm; subst hq2
  have pg2 := (PF.rf (M := M)).tr pf2
  have fg2 := (FrD.rf (h := h) (D := D)).tr fr2
  have X0_3 : h2 (D 0) = some (cMd M2.1 D) := hc2.1.m
  refine ww_aload_n C dX4_inBrackets_4 rfl 0 rfl rfl ?_
  refine cv_X4_175_q (As := []) (rest := []) C dX4_inBrackets_5 (hS z h2 D M2 (dpQ Q) _ _ hc2 e1 hn1) (rc_X4 (Cx.ok C) (Or.inl X0_3)) rfl rfl (Nat.le_of_ble_eq_true rfl) (by omega) (Nat.zero_le _) (Nat.zero_le _) (fun v4 z4 h4 q4 => ?_)
  obtain ⟨rfl, hq4, M4, pf4, hc4, fr4⟩ := q4; replace hq4 := hq4.symm; subst hq4
  have pg4 := pg2.tr pf4
  have fg4 := fg2.tr fr4
  have X0_5 : h4 (D 0) = some (cMd M4.1 D) := hc4.1.m
  refine ww_istore_n (lv' := [(1, .int (nI i)), (0, .ref (D 0))]) C dX4_inBrackets_8 rfl (by decide) rfl ?_
  refine ww_aload_n C dX4_inBrackets_9 rfl 1 rfl rfl ?_
  refine ww_bipush C dX4_inBrackets_10 cB_50 ?_
  refine cv_X4_164_q (As := [.int (nI 50)]) (rest := []) C dX4_inBrackets_12 (ct_X4_take (Cx.fl C) (Cx.ok C) hc4 (k := 50) (by decide) (by decide)) (rc_X4 (Cx.ok C) (Or.inl X0_5)) rfl rfl (Nat.le_of_ble_eq_true rfl) (by omega) (Nat.zero_le _) (Nat.zero_le _) (fun z6 h6 q6 => ?_)
  obtain ⟨hq6, M6, pf6, hc6, fr6⟩ := q6; replace hq6 := hq6.symm; subst hq6
  have pg6 := pg4.tr pf6
  have fg6 := fg4.tr fr6
  have X0_7 : h6 (D 0) = some (cMd M6.1 D) := hc6.1.m
  refine ww_aload_n C dX4_inBrackets_15 rfl 1 rfl rfl ?_
  refine ww_dup C dX4_inBrackets_16 rfl ?_
  have hup : 1 ≤ qd (tkQ E 50 Q1) := by have := (dd.tr (k1.tr k2)).2.2.2.1; omega
  refine gf_X4_135_X4 C dX4_inBrackets_17 (Or.inl X0_7) rfl ?_
  refine ww_st (st' := [.int (nI (qd (tkQ E 50 Q1))), .ref (D 0)]) (by rw [show M6.1 7 = nI (qd (tkQ E 50 Q1)) from hc6.2.1.1.2.2.2.2]) ?_
  refine ww_iconst C dX4_inBrackets_20 cI_1 ?_
  refine ww_isubn C dX4_inBrackets_21 (by omega) ?_
  refine pf_X4_135_X4 (fs' := [.int (M6.1 0), .ref (D 1), .int (M6.1 1), .int (M6.1 2), .ref (D 2), .ref (D 3), .ref (D 4), .ref (D 5), .int (M6.1 3), .int (M6.1 4), .int (M6.1 5), .int (M6.1 6), .int (nI ((qd (tkQ E 50 Q1)) - 1)), .ref (D 6), .ref (D 7), .ref (D 8), .ref (D 9), .ref (D 10), .ref (D 11), .ref (D 12), .ref (D 13), .int (M6.1 8), .int (M6.1 9), .int (M6.1 10)]) C dX4_inBrackets_22 X0_7 rfl rfl (Nat.le_of_ble_eq_true rfl) rfl ?_
  refine ww_gen (fun h8 hE8 => ?_)
  have X0_7_h8 : h8 (D 0) = some (.inr (3, [.int (M6.1 0), .ref (D 1), .int (M6.1 1), .int (M6.1 2), .ref (D 2), .ref (D 3), .ref (D 4), .ref (D 5), .int (M6.1 3), .int (M6.1 4), .int (M6.1 5), .int (M6.1 6), .int (nI ((qd (tkQ E 50 Q1)) - 1)), .ref (D 6), .ref (D 7), .ref (D 8), .ref (D 9), .ref (D 10), .ref (D 11), .ref (D 12), .ref (D 13), .int (M6.1 8), .int (M6.1 9), .int (M6.1 10)])) := by rw [hE8]; exact up_s
  have hX9 : Mx (xG X) h8 D (upd M6.1 7 (nI (qd (tkQ E 50 Q1) - 1)), M6.2) := by rw [hE8]; exact Mx.i hc6.1 (j := 7) (Or.inl (by decide)) rfl
  have pf9 : PF M6 (upd M6.1 7 (nI (qd (tkQ E 50 Q1) - 1)), M6.2) := PF.rf.i (by omega)
  have hc9 : PCx (xG X) h8 D t E (upd M6.1 7 (nI (qd (tkQ E 50 Q1) - 1)), M6.2) (upQ (tkQ E 50 Q1)) := PCx.god hc6 pf9 hX9 (VQ.up hc6.2.1) hc6.2.2.2.2.1 rfl id hc6.2.2.2.2.2.2.2.2.2.2.1 ⟨Nat.le_trans (Nat.sub_le _ _) hc6.2.2.2.2.2.2.2.2.2.2.2.1, fun _ => by show qd (tkQ E 50 Q1) - 1 ≤ 8; have := hc6.2.2.2.2.2.2.2.2.2.2.2.1; omega⟩
  have pg9 := pg6.tr pf9
  have fg9 : FrD h h8 D := by rw [hE8]; exact FrD.w fg6 (i := 0) (by decide)
  have X0_10 : h8 (D 0) = some (cMd (upd M6.1 7 (nI (qd (tkQ E 50 Q1) - 1)), M6.2).1 D) := hc9.1.m
  refine ww_iload_n C dX4_inBrackets_25 rfl 0 rfl ?_
  exact ww_iret C dX4_inBrackets_26 ⟨rfl, ⟨rfl, (upd M6.1 7 (nI (qd (tkQ E 50 Q1) - 1)), M6.2), pg9, hc9, fg9⟩⟩
set_option maxHeartbeats 2000000 in
theorem ct_X4_ofTwo {l : Launch} {Γ : Gm} (hl : l.flags = flags0) (hΓ : GOK Γ) {z : ZR} {h : AH} {D : Nat → Nat} {t : TP} {E : PE} {M : MS} {Q : QS} {Q' : QS} {i f : Nat} {k : Nat} (hc : PCx Γ h D t E M Q) (hS : McV l Γ E t yX4_sum cX4_sum 3 3 f (2 * f + 4)) (hw : qw Q = false) (hlt : qt Q < tl t) (hm : (match isQ E (avQ Q) 49 with | true => mB (mm E f 3 0 (dpQ (avQ Q))) (fun l Q2 => mB (mm E f 3 0 (tkQ E 54 Q2)) (fun r Q3 => some (ndQ k l r (upQ (tkQ E 50 Q3))))) | false => some (0, wrQ (avQ Q))) = some (i, Q')) (hn : qn Q' ≤ 800) : Ct l Γ yX4_ofTwo cX4_ofTwo 4 (some .int) (2 * f + 5) 0 0 [.ref (D 0), .int (nI k)] z h (Rv (fun v z' h' => v = .int (nI i) ∧ PP Γ z h D t E M Q' z' h')) := by
  refine Ct.of hl hΓ (by decide +kernel) (Nat.le_of_ble_eq_true rfl) (fun X e1 e2 C => ?_)
  subst e1; subst e2
  have C : Cx X cX4_ofTwo 4 "RingDominoModel" "ofTwo" (some .int) [] (2 * f + 5) := C
  have hK := hc.K
  have hQl := hc.2.2.2.2.1
  show WW X (Rv (fun v z' h' => v = .int (nI i) ∧ PP (xG X) z h D t E M Q' z' h')) z h 0 0 0 [(0, .ref (D 0)), (1, .int (nI k))] []
  have X0_1 : h (D 0) = some (cMd M.1 D) := hc.1.m
  refine ww_aload_n C dX4_ofTwo_0 rfl 0 rfl rfl ?_
  refine ww_dup C dX4_ofTwo_1 rfl ?_
  refine gf_X4_120_X4 C dX4_ofTwo_2 (Or.inl X0_1) rfl ?_
  refine ww_st (st' := [.int (nI (qt Q)), .ref (D 0)]) (by rw [show M.1 3 = nI (qt Q) from hc.2.1.1.1]) ?_
  refine ww_iconst C dX4_ofTwo_5 cI_1 ?_
  refine ww_iaddn C dX4_ofTwo_6 ?_
  refine pf_X4_120_X4 (fs' := [.int (M.1 0), .ref (D 1), .int (M.1 1), .int (M.1 2), .ref (D 2), .ref (D 3), .ref (D 4), .ref (D 5), .int (nI ((qt Q) + 1)), .int (M.1 4), .int (M.1 5), .int (M.1 6), .int (M.1 7), .ref (D 6), .ref (D 7), .ref (D 8), .ref (D 9), .ref (D 10), .ref (D 11), .ref (D 12), .ref (D 13), .int (M.1 8), .int (M.1 9), .int (M.1 10)]) C dX4_ofTwo_7 X0_1 rfl rfl (Nat.le_of_ble_eq_true rfl) rfl ?_
  refine ww_gen (fun h2 hE2 => ?_)
  have X0_1_h2 : h2 (D 0) = some (.inr (3, [.int (M.1 0), .ref (D 1), .int (M.1 1), .int (M.1 2), .ref (D 2), .ref (D 3), .ref (D 4), .ref (D 5), .int (nI ((qt Q) + 1)), .int (M.1 4), .int (M.1 5), .int (M.1 6), .int (M.1 7), .ref (D 6), .ref (D 7), .ref (D 8), .ref (D 9), .ref (D 10), .ref (D 11), .ref (D 12), .ref (D 13), .int (M.1 8), .int (M.1 9), .int (M.1 10)])) := by rw [hE2]; exact up_s
  have hX3 : Mx (xG X) h2 D (upd M.1 3 (nI (qt Q + 1)), M.2) := by rw [hE2]; exact Mx.i hc.1 (j := 3) (Or.inl (by decide)) rfl
  have pf3 : PF M (upd M.1 3 (nI (qt Q + 1)), M.2) := PF.rf.i (by omega)
  have hc3 : PCx (xG X) h2 D t E (upd M.1 3 (nI (qt Q + 1)), M.2) (avQ Q) := PCx.go hc pf3 hX3 (VQ.av hc.2.1) (qK.av hlt) hc.2.2.2.2.2.2.2.2.2.1 hc.2.2.2.2.2.2.2.2.2.2.1
  have pg3 := (PF.rf (M := M)).tr pf3
  have fg3 : FrD h h2 D := by rw [hE2]; exact FrD.w FrD.rf (i := 0) (by decide)
  have X0_4 : h2 (D 0) = some (cMd (upd M.1 3 (nI (qt Q + 1)), M.2).1 D) := hc3.1.m
  refine ww_aload_n C dX4_ofTwo_10 rfl 0 rfl rfl ?_
  refine ww_bipush C dX4_ofTwo_11 cB_49 ?_
  refine cv_X4_129_r (As := [.int (nI 49)]) (rest := []) C dX4_ofTwo_13 (ct_X4_is (Cx.fl C) (Cx.ok C) (k := 49) hc3 (by decide)) (rc_X4 (Cx.ok C) (Or.inl X0_4)) rfl rfl (Nat.le_of_ble_eq_true rfl) (by omega) (Nat.zero_le _) (Nat.zero_le _) ?_
  refine ww_if_ne_b (tgt := 25) C dX4_ofTwo_16 (by decide) (fun c_16 => ?_) (fun c_16 => ?_)
  · skip
    rw [c_16] at hm
    have X0_5 : h2 (D 0) = some (cMd (upd M.1 3 (nI (qt Q + 1)), M.2).1 D) := hc3.1.m
    have hl2 := isQ_lt hK (show qt (avQ Q) ≤ tl t from hlt) (by decide) c_16
    have hw2 : qw (avQ Q) = false := hw
    obtain ⟨l1, Q2, e1, e2⟩ := mB_s hm; obtain ⟨r1, Q3, e3, e4⟩ := mB_s e2; cases e4
    have dd := qD.dp hl2
    have k1 := mm_k hK _ _ _ _ dd.2.1 _ _ e1
    have k2 := qK.tk hK (k := 54) (by decide) k1.2.1
    have k3 := mm_k hK _ _ _ _ k2.2.1 _ _ e3
    have k4 := qK.tk hK (k := 50) (by decide) k3.2.1
    have hn4 : qn (tkQ E 50 Q3) < 800 := hn
    have hn3 : qn Q3 ≤ 800 := Nat.le_trans k4.2.2.1 (Nat.le_of_lt hn4)
    have hn1 : qn Q2 ≤ 800 := Nat.le_trans (k2.tr k3).2.2.1 hn3
    refine ww_aload_n C dX4_ofTwo_25 rfl 0 rfl rfl ?_
    refine cv_X4_172_q (As := []) (rest := []) C dX4_ofTwo_26 (ct_X4_deeper (Cx.fl C) (Cx.ok C) hc3 hw2 hl2) (rc_X4 (Cx.ok C) (Or.inl X0_5)) rfl rfl (Nat.le_of_ble_eq_true rfl) (by omega) (Nat.zero_le _) (Nat.zero_le _) (fun z6 h6 q6 => ?_)
    obtain ⟨hq6, M6, pf6, hc6, fr6⟩ := q6; replace hq6 := hq6.symm; subst hq6
    have pg6 := pg3.tr pf6
    have fg6 := fg3.tr fr6
    have X0_7 : h6 (D 0) = some (cMd M6.1 D) := hc6.1.m
    refine ww_aload_n C dX4_ofTwo_29 rfl 0 rfl rfl ?_
    refine cv_X4_175_q (As := []) (rest := []) C dX4_ofTwo_30 (hS z h6 D M6 (dpQ (avQ Q)) _ _ hc6 e1 hn1) (rc_X4 (Cx.ok C) (Or.inl X0_7)) rfl rfl (Nat.le_of_ble_eq_true rfl) (by omega) (Nat.zero_le _) (Nat.zero_le _) (fun v8 z8 h8 q8 => ?_)
    obtain ⟨rfl, hq8, M8, pf8, hc8, fr8⟩ := q8; replace hq8 := hq8.symm; subst hq8
    have pg8 := pg6.tr pf8
    have fg8 := fg6.tr fr8
    have X0_9 : h8 (D 0) = some (cMd M8.1 D) := hc8.1.m
    refine ww_istore_n (lv' := [(2, .int (nI l1)), (0, .ref (D 0)), (1, .int (nI k))]) C dX4_ofTwo_33 rfl (by decide) rfl ?_
    refine ww_aload_n C dX4_ofTwo_34 rfl 1 rfl rfl ?_
    refine ww_bipush C dX4_ofTwo_35 cB_54 ?_
    refine cv_X4_164_q (As := [.int (nI 54)]) (rest := []) C dX4_ofTwo_37 (ct_X4_take (Cx.fl C) (Cx.ok C) hc8 (k := 54) (by decide) (by decide)) (rc_X4 (Cx.ok C) (Or.inl X0_9)) rfl rfl (Nat.le_of_ble_eq_true rfl) (by omega) (Nat.zero_le _) (Nat.zero_le _) (fun z10 h10 q10 => ?_)
    obtain ⟨hq10, M10, pf10, hc10, fr10⟩ := q10; replace hq10 := hq10.symm; subst hq10
    have pg10 := pg8.tr pf10
    have fg10 := fg8.tr fr10
    have X0_11 : h10 (D 0) = some (cMd M10.1 D) := hc10.1.m
    refine ww_aload_n C dX4_ofTwo_40 rfl 1 rfl rfl ?_
    refine cv_X4_175_q (As := []) (rest := []) C dX4_ofTwo_41 (hS z h10 D M10 (tkQ E 54 Q2) _ _ hc10 e3 hn3) (rc_X4 (Cx.ok C) (Or.inl X0_11)) rfl rfl (Nat.le_of_ble_eq_true rfl) (by omega) (Nat.zero_le _) (Nat.zero_le _) (fun v12 z12 h12 q12 => ?_)
    obtain ⟨rfl, hq12, M12, pf12, hc12, fr12⟩ := q12; replace hq12 := hq12.symm; subst hq12
    have pg12 := pg10.tr pf12
    have fg12 := fg10.tr fr12
    have X0_13 : h12 (D 0) = some (cMd M12.1 D) := hc12.1.m
    refine ww_istore_n (lv' := [(3, .int (nI r1)), (2, .int (nI l1)), (0, .ref (D 0)), (1, .int (nI k))]) C dX4_ofTwo_44 rfl (by decide) rfl ?_
    refine ww_aload_n C dX4_ofTwo_45 rfl 2 rfl rfl ?_
    refine ww_bipush C dX4_ofTwo_46 cB_50 ?_
    refine cv_X4_164_q (As := [.int (nI 50)]) (rest := []) C dX4_ofTwo_48 (ct_X4_take (Cx.fl C) (Cx.ok C) hc12 (k := 50) (by decide) (by decide)) (rc_X4 (Cx.ok C) (Or.inl X0_13)) rfl rfl (Nat.le_of_ble_eq_true rfl) (by omega) (Nat.zero_le _) (Nat.zero_le _) (fun z14 h14 q14 => ?_)
    obtain ⟨hq14, M14, pf14, hc14, fr14⟩ := q14; replace hq14 := hq14.symm; subst hq14
    have pg14 := pg12.tr pf14
    have fg14 := fg12.tr fr14
    have X0_15 : h14 (D 0) = some (cMd M14.1 D) := hc14.1.m
    refine ww_aload_n C dX4_ofTwo_51 rfl 2 rfl rfl ?_
    refine ww_dup C dX4_ofTwo_52 rfl ?_
    have hup : 1 ≤ qd (tkQ E 50 Q3) := by have := (dd.tr (k1.tr (k2.tr (k3.tr k4)))).2.2.2.1; omega
    refine gf_X4_135_X4 C dX4_ofTwo_53 (Or.inl X0_15) rfl ?_
    refine ww_st (st' := [.int (nI (qd (tkQ E 50 Q3))), .ref (D 0)]) (by rw [show M14.1 7 = nI (qd (tkQ E 50 Q3)) from hc14.2.1.1.2.2.2.2]) ?_
    refine ww_iconst C dX4_ofTwo_56 cI_1 ?_
    refine ww_isubn C dX4_ofTwo_57 (by omega) ?_
    refine pf_X4_135_X4 (fs' := [.int (M14.1 0), .ref (D 1), .int (M14.1 1), .int (M14.1 2), .ref (D 2), .ref (D 3), .ref (D 4), .ref (D 5), .int (M14.1 3), .int (M14.1 4), .int (M14.1 5), .int (M14.1 6), .int (nI ((qd (tkQ E 50 Q3)) - 1)), .ref (D 6), .ref (D 7), .ref (D 8), .ref (D 9), .ref (D 10), .ref (D 11), .ref (D 12), .ref (D 13), .int (M14.1 8), .int (M14.1 9), .int (M14.1 10)]) C dX4_ofTwo_58 X0_15 rfl rfl (Nat.le_of_ble_eq_true rfl) rfl ?_
    refine ww_gen (fun h16 hE16 => ?_)
    have X0_15_h16 : h16 (D 0) = some (.inr (3, [.int (M14.1 0), .ref (D 1), .int (M14.1 1), .int (M14.1 2), .ref (D 2), .ref (D 3), .ref (D 4), .ref (D 5), .int (M14.1 3), .int (M14.1 4), .int (M14.1 5), .int (M14.1 6), .int (nI ((qd (tkQ E 50 Q3)) - 1)), .ref (D 6), .ref (D 7), .ref (D 8), .ref (D 9), .ref (D 10), .ref (D 11), .ref (D 12), .ref (D 13), .int (M14.1 8), .int (M14.1 9), .int (M14.1 10)])) := by rw [hE16]; exact up_s
    have hX17 : Mx (xG X) h16 D (upd M14.1 7 (nI (qd (tkQ E 50 Q3) - 1)), M14.2) := by rw [hE16]; exact Mx.i hc14.1 (j := 7) (Or.inl (by decide)) rfl
    have pf17 : PF M14 (upd M14.1 7 (nI (qd (tkQ E 50 Q3) - 1)), M14.2) := PF.rf.i (by omega)
    have hc17 : PCx (xG X) h16 D t E (upd M14.1 7 (nI (qd (tkQ E 50 Q3) - 1)), M14.2) (upQ (tkQ E 50 Q3)) := PCx.god hc14 pf17 hX17 (VQ.up hc14.2.1) hc14.2.2.2.2.1 rfl id hc14.2.2.2.2.2.2.2.2.2.2.1 ⟨Nat.le_trans (Nat.sub_le _ _) hc14.2.2.2.2.2.2.2.2.2.2.2.1, fun _ => by show qd (tkQ E 50 Q3) - 1 ≤ 8; have := hc14.2.2.2.2.2.2.2.2.2.2.2.1; omega⟩
    have pg17 := pg14.tr pf17
    have fg17 : FrD h h16 D := by rw [hE16]; exact FrD.w fg14 (i := 0) (by decide)
    have X0_18 : h16 (D 0) = some (cMd (upd M14.1 7 (nI (qd (tkQ E 50 Q3) - 1)), M14.2).1 D) := hc17.1.m
    refine ww_aload_n C dX4_ofTwo_61 rfl 2 rfl rfl ?_
    refine ww_iload_n C dX4_ofTwo_62 rfl 3 rfl ?_
    refine ww_iload_n C dX4_ofTwo_63 rfl 1 rfl ?_
    refine ww_iload_n C dX4_ofTwo_64 rfl 0 rfl ?_
    refine cv_X4_178_q (As := [.int (nI k), .int (nI l1), .int (nI r1)]) (rest := []) C dX4_ofTwo_65 (ct_X4_node (Cx.fl C) (Cx.ok C) hc17 (s := k) (a := l1) (b := r1) hn4) (rc_X4 (Cx.ok C) (Or.inl X0_18)) rfl rfl (Nat.le_of_ble_eq_true rfl) (by omega) (Nat.zero_le _) (Nat.zero_le _) (fun v19 z19 h19 q19 => ?_)
    obtain ⟨rfl, hq19, M19, pf19, hc19, fr19⟩ := q19; replace hq19 := hq19.symm; subst hq19
    have pg19 := pg17.tr pf19
    have fg19 := fg17.tr fr19
    have X0_20 : h19 (D 0) = some (cMd M19.1 D) := hc19.1.m
    exact ww_iret C dX4_ofTwo_68 ⟨rfl, ⟨rfl, M19, pg19, hc19, fg19⟩⟩
  · skip
    rw [c_16] at hm; cases hm
    have X0_21 : h2 (D 0) = some (cMd (upd M.1 3 (nI (qt Q + 1)), M.2).1 D) := hc3.1.m
    refine ww_aload_n C dX4_ofTwo_19 rfl 0 rfl rfl ?_
    refine cv_X4_132_q (As := []) (rest := []) C dX4_ofTwo_20 (ct_X4_wrong (Cx.fl C) (Cx.ok C) hc3 ) (rc_X4 (Cx.ok C) (Or.inl X0_21)) rfl rfl (Nat.le_of_ble_eq_true rfl) (by omega) (Nat.zero_le _) (Nat.zero_le _) (fun z22 h22 q22 => ?_)
    obtain ⟨hq22, M22, pf22, hc22, fr22⟩ := q22; replace hq22 := hq22.symm; subst hq22
    have pg22 := pg3.tr pf22
    have fg22 := fg3.tr fr22
    have X0_23 : h22 (D 0) = some (cMd M22.1 D) := hc22.1.m
    refine ww_iconst C dX4_ofTwo_23 cI_0 ?_
    exact ww_iret C dX4_ofTwo_24 ⟨rfl, ⟨rfl, M22, pg22, hc22, fg22⟩⟩
set_option maxHeartbeats 2000000 in
theorem ct_X4_comparison {l : Launch} {Γ : Gm} (hl : l.flags = flags0) (hΓ : GOK Γ) {z : ZR} {h : AH} {D : Nat → Nat} {t : TP} {E : PE} {M : MS} {Q : QS} {Q' : QS} {i f : Nat}  (hc : PCx Γ h D t E M Q) (hS : McV l Γ E t yX4_sum cX4_sum 3 3 f (2 * f + 4)) (hm : mB (mm E f 3 0 Q) (fun l Q1 => match qw Q1 || !(decide (44 ≤ kQ E Q1) && decide (kQ E Q1 ≤ 48)) with | true => some (0, wrQ Q1) | false => mB (mm E f 3 0 (avQ Q1)) (fun r Q2 => some (ndQ (kQ E Q1) l r Q2))) = some (i, Q')) (hn : qn Q' ≤ 800) : Ct l Γ yX4_comparison cX4_comparison 3 (some .int) (2 * f + 5) 0 0 [.ref (D 0)] z h (Rv (fun v z' h' => v = .int (nI i) ∧ PP Γ z h D t E M Q' z' h')) := by
  refine Ct.of hl hΓ (by decide +kernel) (Nat.le_of_ble_eq_true rfl) (fun X e1 e2 C => ?_)
  subst e1; subst e2
  have C : Cx X cX4_comparison 3 "RingDominoModel" "comparison" (some .int) [] (2 * f + 5) := C
  have hK := hc.K
  have hQl := hc.2.2.2.2.1
  show WW X (Rv (fun v z' h' => v = .int (nI i) ∧ PP (xG X) z h D t E M Q' z' h')) z h 0 0 0 [(0, .ref (D 0))] []
  have X0_1 : h (D 0) = some (cMd M.1 D) := hc.1.m
  obtain ⟨l1, Q1, e1, e2⟩ := mB_s hm
  have k1 := mm_k hK _ _ _ _ hQl _ _ e1
  have hkl : kQ E Q1 ≤ 54 := kQ_le hK k1.2.1
  have hn1 : qn Q1 ≤ 800 := by
    cases hq : qw Q1 || !(decide (44 ≤ kQ E Q1) && decide (kQ E Q1 ≤ 48)) with
    | true => rw [hq] at e2; cases e2; exact Nat.le_trans (qK.wr k1.2.1).2.2.1 hn
    | false =>
      rw [hq] at e2
      obtain ⟨r1, Q2, e3, e4⟩ := mB_s e2
      cases e4
      have hlt := cmp_lt hK k1.2.1 hq
      have h1 := (mm_k hK _ _ _ _ (show qt (avQ Q1) ≤ tl t from hlt) _ _ e3).2.2.1
      have h2 : qn Q2 + 1 ≤ 800 := hn
      have h3 : qn (avQ Q1) = qn Q1 := rfl
      omega
  refine ww_aload_n C dX4_comparison_0 rfl 0 rfl rfl ?_
  refine cv_X4_175_q (As := []) (rest := []) C dX4_comparison_1 (hS z h D M Q _ _ hc e1 hn1) (rc_X4 (Cx.ok C) (Or.inl X0_1)) rfl rfl (Nat.le_of_ble_eq_true rfl) (by omega) (Nat.zero_le _) (Nat.zero_le _) (fun v2 z2 h2 q2 => ?_)
  obtain ⟨rfl, hq2, M2, pf2, hc2, fr2⟩ := q2; replace hq2 := hq2.symm; subst hq2
  have pg2 := (PF.rf (M := M)).tr pf2
  have fg2 := (FrD.rf (h := h) (D := D)).tr fr2
  have X0_3 : h2 (D 0) = some (cMd M2.1 D) := hc2.1.m
  refine ww_istore_n (lv' := [(1, .int (nI l1)), (0, .ref (D 0))]) C dX4_comparison_4 rfl (by decide) rfl ?_
  have X0_4 : h2 (D 0) = some (cMd M2.1 D) := hc2.1.m
  have Y2_4 : h2 (D 2) = some (cI (xG X) 402 (M2.2.1 2)) := hc2.1.1 2 (by decide)
  refine ww_aload_n C dX4_comparison_5 rfl 1 rfl rfl ?_
  refine gf_X4_17_X4 C dX4_comparison_6 (Or.inl X0_4) rfl ?_
  refine ww_aload_n C dX4_comparison_9 rfl 1 rfl rfl ?_
  refine gf_X4_120_X4 C dX4_comparison_10 (Or.inl X0_4) rfl ?_
  refine ww_st (st' := [.int (nI (qt Q1)), .ref (D 2)]) (by rw [show M2.1 3 = nI (qt Q1) from hc2.2.1.1.1]) ?_
  have hql : qt Q1 ≤ 400 := Nat.le_trans hc2.2.2.2.2.1 (tl_le t)
  refine ww_iald C dX4_comparison_13 (Or.inl Y2_4) (by omega) (by decide) ?_
  refine ww_st (st' := [.int (nI (kQ E Q1))]) (by rw [PCx.k hc2]) ?_
  refine ww_istore_n (lv' := [(2, .int (nI (kQ E Q1))), (1, .int (nI l1)), (0, .ref (D 0))]) C dX4_comparison_14 rfl (by decide) rfl ?_
  have X0_5 : h2 (D 0) = some (cMd M2.1 D) := hc2.1.m
  refine ww_aload_n C dX4_comparison_15 rfl 2 rfl rfl ?_
  refine gf_X4_116_X4 C dX4_comparison_16 (Or.inl X0_5) rfl ?_
  refine ww_st (st' := [.int (bI (qw Q1))]) (by rw [show M2.1 4 = bI (qw Q1) from hc2.2.1.1.2.1]) ?_
  refine ww_if_ne_b (tgt := 33) C dX4_comparison_19 (by decide) (fun c_19 => ?_) (fun c_19 => ?_)
  · skip
    rw [c_19] at e2; cases e2
    refine ww_aload_n C dX4_comparison_33 rfl 2 rfl rfl ?_
    refine cv_X4_132_q (As := []) (rest := []) C dX4_comparison_34 (ct_X4_wrong (Cx.fl C) (Cx.ok C) hc2 ) (rc_X4 (Cx.ok C) (Or.inl X0_5)) rfl rfl (Nat.le_of_ble_eq_true rfl) (by omega) (Nat.zero_le _) (Nat.zero_le _) (fun z6 h6 q6 => ?_)
    obtain ⟨hq6, M6, pf6, hc6, fr6⟩ := q6; replace hq6 := hq6.symm; subst hq6
    have pg6 := pg2.tr pf6
    have fg6 := fg2.tr fr6
    have X0_7 : h6 (D 0) = some (cMd M6.1 D) := hc6.1.m
    refine ww_iconst C dX4_comparison_37 cI_0 ?_
    exact ww_iret C dX4_comparison_38 ⟨rfl, ⟨rfl, M6, pg6, hc6, fg6⟩⟩
  · skip
    refine ww_iload_n C dX4_comparison_22 rfl 0 rfl ?_
    refine ww_bipush C dX4_comparison_23 cB_44 ?_
    refine ww_bipush C dX4_comparison_25 cB_48 ?_
    refine cs_X4_68_r (As := [.int (nI (kQ E Q1)), .int (nI 44), .int (nI 48)]) (rest := []) C dX4_comparison_27 (ct_X4_isIn (Cx.fl C) (Cx.ok C)) rfl rfl (Nat.le_of_ble_eq_true rfl) (by omega) (Nat.zero_le _) (Nat.zero_le _) ?_
    refine ww_st (st' := [.int (bI (decide (44 ≤ kQ E Q1) && decide (kQ E Q1 ≤ 48)))]) (by rw [inI (by omega) (by decide) (by decide)]) ?_
    refine ww_if_ne_b (tgt := 39) C dX4_comparison_30 (by decide) (fun c_30 => ?_) (fun c_30 => ?_)
    · skip
      have hq : (qw Q1 || !(decide (44 ≤ kQ E Q1) && decide (kQ E Q1 ≤ 48))) = false := by rw [c_19, c_30]; rfl
      rw [hq] at e2; obtain ⟨r1, Q2, e3, e4⟩ := mB_s e2; cases e4
      have hlt := cmp_lt hK k1.2.1 hq
      have hn2 : qn Q2 < 800 := hn
      have X0_8 : h2 (D 0) = some (cMd M2.1 D) := hc2.1.m
      refine ww_aload_n C dX4_comparison_39 rfl 2 rfl rfl ?_
      refine ww_dup C dX4_comparison_40 rfl ?_
      refine gf_X4_120_X4 C dX4_comparison_41 (Or.inl X0_8) rfl ?_
      refine ww_st (st' := [.int (nI (qt Q1)), .ref (D 0)]) (by rw [show M2.1 3 = nI (qt Q1) from hc2.2.1.1.1]) ?_
      refine ww_iconst C dX4_comparison_44 cI_1 ?_
      refine ww_iaddn C dX4_comparison_45 ?_
      refine pf_X4_120_X4 (fs' := [.int (M2.1 0), .ref (D 1), .int (M2.1 1), .int (M2.1 2), .ref (D 2), .ref (D 3), .ref (D 4), .ref (D 5), .int (nI ((qt Q1) + 1)), .int (M2.1 4), .int (M2.1 5), .int (M2.1 6), .int (M2.1 7), .ref (D 6), .ref (D 7), .ref (D 8), .ref (D 9), .ref (D 10), .ref (D 11), .ref (D 12), .ref (D 13), .int (M2.1 8), .int (M2.1 9), .int (M2.1 10)]) C dX4_comparison_46 X0_8 rfl rfl (Nat.le_of_ble_eq_true rfl) rfl ?_
      refine ww_gen (fun h9 hE9 => ?_)
      have X0_8_h9 : h9 (D 0) = some (.inr (3, [.int (M2.1 0), .ref (D 1), .int (M2.1 1), .int (M2.1 2), .ref (D 2), .ref (D 3), .ref (D 4), .ref (D 5), .int (nI ((qt Q1) + 1)), .int (M2.1 4), .int (M2.1 5), .int (M2.1 6), .int (M2.1 7), .ref (D 6), .ref (D 7), .ref (D 8), .ref (D 9), .ref (D 10), .ref (D 11), .ref (D 12), .ref (D 13), .int (M2.1 8), .int (M2.1 9), .int (M2.1 10)])) := by rw [hE9]; exact up_s
      have hX10 : Mx (xG X) h9 D (upd M2.1 3 (nI (qt Q1 + 1)), M2.2) := by rw [hE9]; exact Mx.i hc2.1 (j := 3) (Or.inl (by decide)) rfl
      have pf10 : PF M2 (upd M2.1 3 (nI (qt Q1 + 1)), M2.2) := PF.rf.i (by omega)
      have hc10 : PCx (xG X) h9 D t E (upd M2.1 3 (nI (qt Q1 + 1)), M2.2) (avQ Q1) := PCx.go hc2 pf10 hX10 (VQ.av hc2.2.1) (qK.av hlt) hc2.2.2.2.2.2.2.2.2.2.1 hc2.2.2.2.2.2.2.2.2.2.2.1
      have pg10 := pg2.tr pf10
      have fg10 : FrD h h9 D := by rw [hE9]; exact FrD.w fg2 (i := 0) (by decide)
      have X0_11 : h9 (D 0) = some (cMd (upd M2.1 3 (nI (qt Q1 + 1)), M2.2).1 D) := hc10.1.m
      refine ww_aload_n C dX4_comparison_49 rfl 2 rfl rfl ?_
      refine ww_iload_n C dX4_comparison_50 rfl 0 rfl ?_
      refine ww_iload_n C dX4_comparison_51 rfl 1 rfl ?_
      refine ww_aload_n C dX4_comparison_52 rfl 2 rfl rfl ?_
      refine cv_X4_175_q (As := []) (rest := [.int (nI l1), .int (nI (kQ E Q1)), .ref (D 0)]) C dX4_comparison_53 (hS z h9 D (upd M2.1 3 (nI (qt Q1 + 1)), M2.2) (avQ Q1) _ _ hc10 e3 (Nat.le_of_lt hn2)) (rc_X4 (Cx.ok C) (Or.inl X0_11)) rfl rfl (Nat.le_of_ble_eq_true rfl) (by omega) (Nat.zero_le _) (Nat.zero_le _) (fun v12 z12 h12 q12 => ?_)
      obtain ⟨rfl, hq12, M12, pf12, hc12, fr12⟩ := q12; replace hq12 := hq12.symm; subst hq12
      have pg12 := pg10.tr pf12
      have fg12 := fg10.tr fr12
      have X0_13 : h12 (D 0) = some (cMd M12.1 D) := hc12.1.m
      refine cv_X4_178_q (As := [.int (nI (kQ E Q1)), .int (nI l1), .int (nI r1)]) (rest := []) C dX4_comparison_56 (ct_X4_node (Cx.fl C) (Cx.ok C) hc12 (s := kQ E Q1) (a := l1) (b := r1) hn2) (rc_X4 (Cx.ok C) (Or.inl X0_13)) rfl rfl (Nat.le_of_ble_eq_true rfl) (by omega) (Nat.zero_le _) (Nat.zero_le _) (fun v14 z14 h14 q14 => ?_)
      obtain ⟨rfl, hq14, M14, pf14, hc14, fr14⟩ := q14; replace hq14 := hq14.symm; subst hq14
      have pg14 := pg12.tr pf14
      have fg14 := fg12.tr fr14
      have X0_15 : h14 (D 0) = some (cMd M14.1 D) := hc14.1.m
      exact ww_iret C dX4_comparison_59 ⟨rfl, ⟨rfl, M14, pg14, hc14, fg14⟩⟩
    · skip
      have hq : (qw Q1 || !(decide (44 ≤ kQ E Q1) && decide (kQ E Q1 ≤ 48))) = true := by rw [c_19, c_30]; rfl
      rw [hq] at e2; cases e2
      have X0_16 : h2 (D 0) = some (cMd M2.1 D) := hc2.1.m
      refine ww_aload_n C dX4_comparison_33 rfl 2 rfl rfl ?_
      refine cv_X4_132_q (As := []) (rest := []) C dX4_comparison_34 (ct_X4_wrong (Cx.fl C) (Cx.ok C) hc2 ) (rc_X4 (Cx.ok C) (Or.inl X0_16)) rfl rfl (Nat.le_of_ble_eq_true rfl) (by omega) (Nat.zero_le _) (Nat.zero_le _) (fun z17 h17 q17 => ?_)
      obtain ⟨hq17, M17, pf17, hc17, fr17⟩ := q17; replace hq17 := hq17.symm; subst hq17
      have pg17 := pg2.tr pf17
      have fg17 := fg2.tr fr17
      have X0_18 : h17 (D 0) = some (cMd M17.1 D) := hc17.1.m
      refine ww_iconst C dX4_comparison_37 cI_0 ?_
      exact ww_iret C dX4_comparison_38 ⟨rfl, ⟨rfl, M17, pg17, hc17, fg17⟩⟩
set_option maxHeartbeats 2000000 in
theorem ct_X4_value {l : Launch} {Γ : Gm} (hl : l.flags = flags0) (hΓ : GOK Γ) {z : ZR} {h : AH} {D : Nat → Nat} {t : TP} {E : PE} {M : MS} {Q : QS} {Q' : QS} {i f : Nat}  (hc : PCx Γ h D t E M Q) (hV : McV l Γ E t yX4_value cX4_value 2 0 f (2 * f + 4)) (hS : McV l Γ E t yX4_sum cX4_sum 3 3 f (2 * f + 4)) (hm : mm0 E (mm E f) 0 Q = some (i, Q')) (hn : qn Q' ≤ 800) : Ct l Γ yX4_value cX4_value 2 (some .int) (2 * f + 6) 0 0 [.ref (D 0)] z h (Rv (fun v z' h' => v = .int (nI i) ∧ PP Γ z h D t E M Q' z' h')) := by
  refine Ct.of hl hΓ (by decide +kernel) (Nat.le_of_ble_eq_true rfl) (fun X e1 e2 C => ?_)
  subst e1; subst e2
  have C : Cx X cX4_value 2 "RingDominoModel" "value" (some .int) [] (2 * f + 6) := C
  have hK := hc.K
  have hQl := hc.2.2.2.2.1
  show WW X (Rv (fun v z' h' => v = .int (nI i) ∧ PP (xG X) z h D t E M Q' z' h')) z h 0 0 0 [(0, .ref (D 0))] []
  have X0_1 : h (D 0) = some (cMd M.1 D) := hc.1.m
  unfold mm0 at hm
  have hkl : kQ E Q ≤ 54 := kQ_le hK hQl
  refine ww_aload_n C dX4_value_0 rfl 0 rfl rfl ?_
  refine ww_bipush C dX4_value_1 cB_31 ?_
  refine cv_X4_129_r (As := [.int (nI 31)]) (rest := []) C dX4_value_3 (ct_X4_is (Cx.fl C) (Cx.ok C) (k := 31) hc (by decide)) (rc_X4 (Cx.ok C) (Or.inl X0_1)) rfl rfl (Nat.le_of_ble_eq_true rfl) (by omega) (Nat.zero_le _) (Nat.zero_le _) ?_
  refine ww_if_eq_b (tgt := 38) C dX4_value_6 (by decide) (fun c_6 => ?_) (fun c_6 => ?_)
  · skip
    rw [c_6] at hm
    refine ww_bipush C dX4_value_38 cB_9 ?_
    refine ww_istore_n (lv' := [(1, .int (nI 9)), (0, .ref (D 0))]) C dX4_value_40 rfl (by decide) rfl ?_
    refine loop_up (N := 15) (M := fun j => ∀ (M1 : MS) (h1 : AH), (PCx (xG X) h1 D t E M1 Q) → (PF M M1) → (FrD h h1 D) → (∀ s, 9 ≤ s → s < j → isQ E Q s = false) → (9 ≤ j) → WW X (Rv (fun v z' h' => v = .int (nI i) ∧ PP (xG X) z h D t E M Q' z' h')) z h1 0 0 41 [(1, .int (nI j)), (0, .ref (D 0))] []) ?_ ?_ 9 (by decide) M h hc PF.rf FrD.rf (fun s s1 s2 => by omega) (Nat.le_refl 9)
    · intro M1 h1 hcl pfl frl hv hl9
      show WW X (Rv (fun v z' h' => v = .int (nI i) ∧ PP (xG X) z h D t E M Q' z' h')) z h1 0 0 41 [(1, .int (nI 15)), (0, .ref (D 0))] []
      have X0_2 : h1 (D 0) = some (cMd M1.1 D) := hcl.1.m
      have hr : (!(qw Q) && (decide (9 ≤ kQ E Q) && decide (kQ E Q ≤ 14))) = false := lp_f hv
      rw [hr] at hm
      refine ww_iload_n C dX4_value_41 rfl 0 rfl ?_
      refine ww_bipush C dX4_value_42 cB_14 ?_
      refine ww_icmp_gt_t (tgt := 69) C dX4_value_44 (by decide) (nI_lt1 (by decide) (by decide)) ?_
      refine ww_aload_n C dX4_value_69 rfl 1 rfl rfl ?_
      refine ww_bipush C dX4_value_70 cB_15 ?_
      refine cv_X4_182_q (As := [.int (nI 15)]) (rest := []) C dX4_value_72 (ct_X4_takes (Cx.fl C) (Cx.ok C) hcl (k := 15) (by decide) (by decide)) (rc_X4 (Cx.ok C) (Or.inl X0_2)) rfl rfl (Nat.le_of_ble_eq_true rfl) (by omega) (Nat.zero_le _) (Nat.zero_le _) (fun v3 z3 h3 q3 => ?_)
      obtain ⟨rfl, hq3, M3, pf3, hc3, fr3⟩ := q3; replace hq3 := hq3.symm; subst hq3
      have pg3 := pfl.tr pf3
      have fg3 := frl.tr fr3
      have X0_4 : h3 (D 0) = some (cMd M3.1 D) := hc3.1.m
      refine ww_if_eq_b (tgt := 96) C dX4_value_75 (by decide) (fun c_75 => ?_) (fun c_75 => ?_)
      · skip
        rw [c_75] at hm
        rw [if_neg (by rw [c_75]; decide)] at hc3
        have X0_5 : h3 (D 0) = some (cMd M3.1 D) := hc3.1.m
        refine ww_aload_n C dX4_value_96 rfl 1 rfl rfl ?_
        refine ww_bipush C dX4_value_97 cB_22 ?_
        refine cv_X4_129_r (As := [.int (nI 22)]) (rest := []) C dX4_value_99 (ct_X4_is (Cx.fl C) (Cx.ok C) (k := 22) hc3 (by decide)) (rc_X4 (Cx.ok C) (Or.inl X0_5)) rfl rfl (Nat.le_of_ble_eq_true rfl) (by omega) (Nat.zero_le _) (Nat.zero_le _) ?_
        refine ww_if_ne_b (tgt := 114) C dX4_value_102 (by decide) (fun c_102 => ?_) (fun c_102 => ?_)
        · skip
          rw [show (isQ E Q 22 || isQ E Q 23) = true from by rw [c_102]; rfl] at hm
          have X0_6 : h3 (D 0) = some (cMd M3.1 D) := hc3.1.m
          have hlt := isQ_lt hK hQl (by decide) c_102
          have hw : qw Q = false := (isQ_t c_102).1
          refine ww_aload_n C dX4_value_114 rfl 1 rfl rfl ?_
          have X0_7 : h3 (D 0) = some (cMd M3.1 D) := hc3.1.m
          have Y2_7 : h3 (D 2) = some (cI (xG X) 402 (M3.2.1 2)) := hc3.1.1 2 (by decide)
          refine ww_aload_n C dX4_value_115 rfl 1 rfl rfl ?_
          refine gf_X4_17_X4 C dX4_value_116 (Or.inl X0_7) rfl ?_
          refine ww_aload_n C dX4_value_119 rfl 1 rfl rfl ?_
          refine gf_X4_120_X4 C dX4_value_120 (Or.inl X0_7) rfl ?_
          refine ww_st (st' := [.int (nI (qt Q)), .ref (D 2), .ref (D 0)]) (by rw [show M3.1 3 = nI (qt Q) from hc3.2.1.1.1]) ?_
          have hql : qt Q ≤ 400 := Nat.le_trans hc3.2.2.2.2.1 (tl_le t)
          refine ww_iald C dX4_value_123 (Or.inl Y2_7) (by omega) (by decide) ?_
          refine ww_st (st' := [.int (nI (kQ E Q)), .ref (D 0)]) (by rw [PCx.k hc3]) ?_
          refine cv_X4_188_q (As := [.int (nI (kQ E Q))]) (rest := []) C dX4_value_124 (ct_X4_ofTwo (Cx.fl C) (Cx.ok C) hc3 hS hw hlt hm hn) (rc_X4 (Cx.ok C) (Or.inl X0_7)) rfl rfl (Nat.le_of_ble_eq_true rfl) (by omega) (Nat.zero_le _) (Nat.zero_le _) (fun v9 z9 h9 q9 => ?_)
          obtain ⟨rfl, hq9, M9, pf9, hc9, fr9⟩ := q9; replace hq9 := hq9.symm; subst hq9
          exact ww_iret C dX4_value_127 ⟨rfl, rfl, M9, pg3.tr pf9, hc9, fg3.tr fr9⟩
        · skip
          have X0_8 : h3 (D 0) = some (cMd M3.1 D) := hc3.1.m
          refine ww_aload_n C dX4_value_105 rfl 1 rfl rfl ?_
          refine ww_bipush C dX4_value_106 cB_23 ?_
          refine cv_X4_129_r (As := [.int (nI 23)]) (rest := []) C dX4_value_108 (ct_X4_is (Cx.fl C) (Cx.ok C) (k := 23) hc3 (by decide)) (rc_X4 (Cx.ok C) (Or.inl X0_8)) rfl rfl (Nat.le_of_ble_eq_true rfl) (by omega) (Nat.zero_le _) (Nat.zero_le _) ?_
          refine ww_if_eq_b (tgt := 128) C dX4_value_111 (by decide) (fun c_111 => ?_) (fun c_111 => ?_)
          · skip
            rw [show (isQ E Q 22 || isQ E Q 23) = false from by rw [c_102, c_111]; rfl] at hm
            have X0_9 : h3 (D 0) = some (cMd M3.1 D) := hc3.1.m
            refine ww_aload_n C dX4_value_128 rfl 1 rfl rfl ?_
            refine ww_bipush C dX4_value_129 cB_49 ?_
            refine cv_X4_129_r (As := [.int (nI 49)]) (rest := []) C dX4_value_131 (ct_X4_is (Cx.fl C) (Cx.ok C) (k := 49) hc3 (by decide)) (rc_X4 (Cx.ok C) (Or.inl X0_9)) rfl rfl (Nat.le_of_ble_eq_true rfl) (by omega) (Nat.zero_le _) (Nat.zero_le _) ?_
            refine ww_if_eq_b (tgt := 142) C dX4_value_134 (by decide) (fun c_134 => ?_) (fun c_134 => ?_)
            · skip
              rw [c_134] at hm
              have X0_10 : h3 (D 0) = some (cMd M3.1 D) := hc3.1.m
              refine ww_aload_n C dX4_value_142 rfl 1 rfl rfl ?_
              refine ww_bipush C dX4_value_143 cB_41 ?_
              refine cv_X4_129_r (As := [.int (nI 41)]) (rest := []) C dX4_value_145 (ct_X4_is (Cx.fl C) (Cx.ok C) (k := 41) hc3 (by decide)) (rc_X4 (Cx.ok C) (Or.inl X0_10)) rfl rfl (Nat.le_of_ble_eq_true rfl) (by omega) (Nat.zero_le _) (Nat.zero_le _) ?_
              refine ww_if_ne_b (tgt := 157) C dX4_value_148 (by decide) (fun c_148 => ?_) (fun c_148 => ?_)
              · skip
                rw [c_148] at hm
                have hlt := isQ_lt hK hQl (by decide) c_148
                have hw : qw Q = false := (isQ_t c_148).1
                obtain ⟨i1, Q1, e1, e2⟩ := mB_s hm; cases e2
                have dd := qD.dp hlt
                have k1 := mm_k hK _ _ _ _ dd.2.1 _ _ e1
                have hn1 : qn Q1 < 800 := hn
                have X0_11 : h3 (D 0) = some (cMd M3.1 D) := hc3.1.m
                refine ww_aload_n C dX4_value_157 rfl 1 rfl rfl ?_
                refine cv_X4_172_q (As := []) (rest := []) C dX4_value_158 (ct_X4_deeper (Cx.fl C) (Cx.ok C) hc3 hw hlt) (rc_X4 (Cx.ok C) (Or.inl X0_11)) rfl rfl (Nat.le_of_ble_eq_true rfl) (by omega) (Nat.zero_le _) (Nat.zero_le _) (fun z12 h12 q12 => ?_)
                obtain ⟨hq12, M12, pf12, hc12, fr12⟩ := q12; replace hq12 := hq12.symm; subst hq12
                have pg12 := pg3.tr pf12
                have fg12 := fg3.tr fr12
                have X0_13 : h12 (D 0) = some (cMd M12.1 D) := hc12.1.m
                refine ww_aload_n C dX4_value_161 rfl 1 rfl rfl ?_
                refine cv_X4_194_q (As := []) (rest := []) C dX4_value_162 (hV z h12 D M12 (dpQ Q) _ _ hc12 e1 (Nat.le_of_lt hn1)) (rc_X4 (Cx.ok C) (Or.inl X0_13)) rfl rfl (Nat.le_of_ble_eq_true rfl) (by omega) (Nat.zero_le _) (Nat.zero_le _) (fun v14 z14 h14 q14 => ?_)
                obtain ⟨rfl, hq14, M14, pf14, hc14, fr14⟩ := q14; replace hq14 := hq14.symm; subst hq14
                have pg14 := pg12.tr pf14
                have fg14 := fg12.tr fr14
                have X0_15 : h14 (D 0) = some (cMd M14.1 D) := hc14.1.m
                refine ww_istore_n (lv' := [(1, .int (nI i1)), (0, .ref (D 0))]) C dX4_value_165 rfl (by decide) rfl ?_
                refine ww_aload_n C dX4_value_166 rfl 1 rfl rfl ?_
                refine ww_dup C dX4_value_167 rfl ?_
                have hup : 1 ≤ qd Q1 := by have := (dd.tr k1).2.2.2.1; omega
                refine gf_X4_135_X4 C dX4_value_168 (Or.inl X0_15) rfl ?_
                refine ww_st (st' := [.int (nI (qd Q1)), .ref (D 0)]) (by rw [show M14.1 7 = nI (qd Q1) from hc14.2.1.1.2.2.2.2]) ?_
                refine ww_iconst C dX4_value_171 cI_1 ?_
                refine ww_isubn C dX4_value_172 (by omega) ?_
                refine pf_X4_135_X4 (fs' := [.int (M14.1 0), .ref (D 1), .int (M14.1 1), .int (M14.1 2), .ref (D 2), .ref (D 3), .ref (D 4), .ref (D 5), .int (M14.1 3), .int (M14.1 4), .int (M14.1 5), .int (M14.1 6), .int (nI ((qd Q1) - 1)), .ref (D 6), .ref (D 7), .ref (D 8), .ref (D 9), .ref (D 10), .ref (D 11), .ref (D 12), .ref (D 13), .int (M14.1 8), .int (M14.1 9), .int (M14.1 10)]) C dX4_value_173 X0_15 rfl rfl (Nat.le_of_ble_eq_true rfl) rfl ?_
                refine ww_gen (fun h16 hE16 => ?_)
                have X0_15_h16 : h16 (D 0) = some (.inr (3, [.int (M14.1 0), .ref (D 1), .int (M14.1 1), .int (M14.1 2), .ref (D 2), .ref (D 3), .ref (D 4), .ref (D 5), .int (M14.1 3), .int (M14.1 4), .int (M14.1 5), .int (M14.1 6), .int (nI ((qd Q1) - 1)), .ref (D 6), .ref (D 7), .ref (D 8), .ref (D 9), .ref (D 10), .ref (D 11), .ref (D 12), .ref (D 13), .int (M14.1 8), .int (M14.1 9), .int (M14.1 10)])) := by rw [hE16]; exact up_s
                have hX17 : Mx (xG X) h16 D (upd M14.1 7 (nI (qd Q1 - 1)), M14.2) := by rw [hE16]; exact Mx.i hc14.1 (j := 7) (Or.inl (by decide)) rfl
                have pf17 : PF M14 (upd M14.1 7 (nI (qd Q1 - 1)), M14.2) := PF.rf.i (by omega)
                have hc17 : PCx (xG X) h16 D t E (upd M14.1 7 (nI (qd Q1 - 1)), M14.2) (upQ Q1) := PCx.god hc14 pf17 hX17 (VQ.up hc14.2.1) hc14.2.2.2.2.1 rfl id hc14.2.2.2.2.2.2.2.2.2.2.1 ⟨Nat.le_trans (Nat.sub_le _ _) hc14.2.2.2.2.2.2.2.2.2.2.2.1, fun _ => by show qd Q1 - 1 ≤ 8; have := hc14.2.2.2.2.2.2.2.2.2.2.2.1; omega⟩
                have pg17 := pg14.tr pf17
                have fg17 : FrD h h16 D := by rw [hE16]; exact FrD.w fg14 (i := 0) (by decide)
                have X0_18 : h16 (D 0) = some (cMd (upd M14.1 7 (nI (qd Q1 - 1)), M14.2).1 D) := hc17.1.m
                refine ww_aload_n C dX4_value_176 rfl 1 rfl rfl ?_
                refine ww_bipush C dX4_value_177 cB_60 ?_
                refine ww_iload_n C dX4_value_179 rfl 0 rfl ?_
                refine ww_iconst C dX4_value_180 cI_0 ?_
                refine cv_X4_178_q (As := [.int (nI 60), .int (nI i1), .int (nI 0)]) (rest := []) C dX4_value_181 (ct_X4_node (Cx.fl C) (Cx.ok C) hc17 (s := 60) (a := i1) (b := 0) hn1) (rc_X4 (Cx.ok C) (Or.inl X0_18)) rfl rfl (Nat.le_of_ble_eq_true rfl) (by omega) (Nat.zero_le _) (Nat.zero_le _) (fun v19 z19 h19 q19 => ?_)
                obtain ⟨rfl, hq19, M19, pf19, hc19, fr19⟩ := q19; replace hq19 := hq19.symm; subst hq19
                have pg19 := pg17.tr pf19
                have fg19 := fg17.tr fr19
                have X0_20 : h19 (D 0) = some (cMd M19.1 D) := hc19.1.m
                exact ww_iret C dX4_value_184 ⟨rfl, ⟨rfl, M19, pg19, hc19, fg19⟩⟩
              · skip
                rw [c_148] at hm; cases hm
                have X0_21 : h3 (D 0) = some (cMd M3.1 D) := hc3.1.m
                refine ww_aload_n C dX4_value_151 rfl 1 rfl rfl ?_
                refine cv_X4_132_q (As := []) (rest := []) C dX4_value_152 (ct_X4_wrong (Cx.fl C) (Cx.ok C) hc3 ) (rc_X4 (Cx.ok C) (Or.inl X0_21)) rfl rfl (Nat.le_of_ble_eq_true rfl) (by omega) (Nat.zero_le _) (Nat.zero_le _) (fun z22 h22 q22 => ?_)
                obtain ⟨hq22, M22, pf22, hc22, fr22⟩ := q22; replace hq22 := hq22.symm; subst hq22
                have pg22 := pg3.tr pf22
                have fg22 := fg3.tr fr22
                have X0_23 : h22 (D 0) = some (cMd M22.1 D) := hc22.1.m
                refine ww_iconst C dX4_value_155 cI_0 ?_
                exact ww_iret C dX4_value_156 ⟨rfl, ⟨rfl, M22, pg22, hc22, fg22⟩⟩
            · skip
              rw [c_134] at hm
              have X0_24 : h3 (D 0) = some (cMd M3.1 D) := hc3.1.m
              refine ww_aload_n C dX4_value_137 rfl 1 rfl rfl ?_
              refine cv_X4_191_q (As := []) (rest := []) C dX4_value_138 (ct_X4_inBrackets (Cx.fl C) (Cx.ok C) hc3 hS (isQ_t c_134).1 (isQ_lt hK hQl (by decide) c_134) hm hn) (rc_X4 (Cx.ok C) (Or.inl X0_24)) rfl rfl (Nat.le_of_ble_eq_true rfl) (by omega) (Nat.zero_le _) (Nat.zero_le _) (fun v9 z9 h9 q9 => ?_)
              obtain ⟨rfl, hq9, M9, pf9, hc9, fr9⟩ := q9; replace hq9 := hq9.symm; subst hq9
              exact ww_iret C dX4_value_141 ⟨rfl, rfl, M9, pg3.tr pf9, hc9, fg3.tr fr9⟩
          · skip
            rw [show (isQ E Q 22 || isQ E Q 23) = true from by rw [c_111, Bool.or_true]] at hm
            have X0_25 : h3 (D 0) = some (cMd M3.1 D) := hc3.1.m
            have hlt := isQ_lt hK hQl (by decide) c_111
            have hw : qw Q = false := (isQ_t c_111).1
            refine ww_aload_n C dX4_value_114 rfl 1 rfl rfl ?_
            have X0_26 : h3 (D 0) = some (cMd M3.1 D) := hc3.1.m
            have Y2_26 : h3 (D 2) = some (cI (xG X) 402 (M3.2.1 2)) := hc3.1.1 2 (by decide)
            refine ww_aload_n C dX4_value_115 rfl 1 rfl rfl ?_
            refine gf_X4_17_X4 C dX4_value_116 (Or.inl X0_26) rfl ?_
            refine ww_aload_n C dX4_value_119 rfl 1 rfl rfl ?_
            refine gf_X4_120_X4 C dX4_value_120 (Or.inl X0_26) rfl ?_
            refine ww_st (st' := [.int (nI (qt Q)), .ref (D 2), .ref (D 0)]) (by rw [show M3.1 3 = nI (qt Q) from hc3.2.1.1.1]) ?_
            have hql : qt Q ≤ 400 := Nat.le_trans hc3.2.2.2.2.1 (tl_le t)
            refine ww_iald C dX4_value_123 (Or.inl Y2_26) (by omega) (by decide) ?_
            refine ww_st (st' := [.int (nI (kQ E Q)), .ref (D 0)]) (by rw [PCx.k hc3]) ?_
            refine cv_X4_188_q (As := [.int (nI (kQ E Q))]) (rest := []) C dX4_value_124 (ct_X4_ofTwo (Cx.fl C) (Cx.ok C) hc3 hS hw hlt hm hn) (rc_X4 (Cx.ok C) (Or.inl X0_26)) rfl rfl (Nat.le_of_ble_eq_true rfl) (by omega) (Nat.zero_le _) (Nat.zero_le _) (fun v9 z9 h9 q9 => ?_)
            obtain ⟨rfl, hq9, M9, pf9, hc9, fr9⟩ := q9; replace hq9 := hq9.symm; subst hq9
            exact ww_iret C dX4_value_127 ⟨rfl, rfl, M9, pg3.tr pf9, hc9, fg3.tr fr9⟩
      · skip
        rw [c_75] at hm; cases hm
        rw [if_pos c_75] at hc3
        have X0_27 : h3 (D 0) = some (cMd M3.1 D) := hc3.1.m
        refine ww_aload_n C dX4_value_78 rfl 1 rfl rfl ?_
        refine ww_bipush C dX4_value_79 cB_16 ?_
        refine cv_X4_164_q (As := [.int (nI 16)]) (rest := []) C dX4_value_81 (ct_X4_take (Cx.fl C) (Cx.ok C) hc3 (k := 16) (by decide) (by decide)) (rc_X4 (Cx.ok C) (Or.inl X0_27)) rfl rfl (Nat.le_of_ble_eq_true rfl) (by omega) (Nat.zero_le _) (Nat.zero_le _) (fun z28 h28 q28 => ?_)
        obtain ⟨hq28, M28, pf28, hc28, fr28⟩ := q28; replace hq28 := hq28.symm; subst hq28
        have pg28 := pg3.tr pf28
        have fg28 := fg3.tr fr28
        have X0_29 : h28 (D 0) = some (cMd M28.1 D) := hc28.1.m
        refine ww_aload_n C dX4_value_84 rfl 1 rfl rfl ?_
        refine ww_bipush C dX4_value_85 cB_15 ?_
        refine ww_aload_n C dX4_value_87 rfl 1 rfl rfl ?_
        refine cv_X4_185_q (As := []) (rest := [.int (nI 15), .ref (D 0)]) C dX4_value_88 (ct_X4_name (Cx.fl C) (Cx.ok C) hc28 ) (rc_X4 (Cx.ok C) (Or.inl X0_29)) rfl rfl (Nat.le_of_ble_eq_true rfl) (by omega) (Nat.zero_le _) (Nat.zero_le _) (fun v30 z30 h30 q30 => ?_)
        obtain ⟨rfl, hq30, M30, pf30, hc30, fr30⟩ := q30; replace hq30 := hq30.symm; subst hq30
        have pg30 := pg28.tr pf30
        have fg30 := fg28.tr fr30
        have X0_31 : h30 (D 0) = some (cMd M30.1 D) := hc30.1.m
        refine ww_iconst C dX4_value_91 cI_0 ?_
        refine cv_X4_178_q (As := [.int (nI 15), .int (nI ((nmQ E (tkQ E 16 (avQ Q))).1)), .int (nI 0)]) (rest := []) C dX4_value_92 (ct_X4_node (Cx.fl C) (Cx.ok C) hc30 (s := 15) (a := (nmQ E (tkQ E 16 (avQ Q))).1) (b := 0) hn) (rc_X4 (Cx.ok C) (Or.inl X0_31)) rfl rfl (Nat.le_of_ble_eq_true rfl) (by omega) (Nat.zero_le _) (Nat.zero_le _) (fun v32 z32 h32 q32 => ?_)
        obtain ⟨rfl, hq32, M32, pf32, hc32, fr32⟩ := q32; replace hq32 := hq32.symm; subst hq32
        have pg32 := pg30.tr pf32
        have fg32 := fg30.tr fr32
        have X0_33 : h32 (D 0) = some (cMd M32.1 D) := hc32.1.m
        exact ww_iret C dX4_value_95 ⟨rfl, ⟨rfl, M32, pg32, hc32, fg32⟩⟩
    · intro j hi ih M1 h1 hcl pfl frl hv hl9
      show WW X (Rv (fun v z' h' => v = .int (nI i) ∧ PP (xG X) z h D t E M Q' z' h')) z h1 0 0 41 [(1, .int (nI j)), (0, .ref (D 0))] []
      have X0_34 : h1 (D 0) = some (cMd M1.1 D) := hcl.1.m
      refine ww_iload_n C dX4_value_41 rfl 0 rfl ?_
      refine ww_bipush C dX4_value_42 cB_14 ?_
      refine ww_icmp_gt_f (tgt := 69) C dX4_value_44 (by decide) (nI_nl2 (by omega) (by decide)) ?_
      refine ww_aload_n C dX4_value_47 rfl 1 rfl rfl ?_
      refine ww_iload_n C dX4_value_48 rfl 0 rfl ?_
      refine cv_X4_182_q (As := [.int (nI j)]) (rest := []) C dX4_value_49 (ct_X4_takes (Cx.fl C) (Cx.ok C) hcl (k := j) (by omega) (by omega)) (rc_X4 (Cx.ok C) (Or.inl X0_34)) rfl rfl (Nat.le_of_ble_eq_true rfl) (by omega) (Nat.zero_le _) (Nat.zero_le _) (fun v35 z35 h35 q35 => ?_)
      obtain ⟨rfl, hq35, M35, pf35, hc35, fr35⟩ := q35; replace hq35 := hq35.symm; subst hq35
      have pg35 := pfl.tr pf35
      have fg35 := frl.tr fr35
      have X0_36 : h35 (D 0) = some (cMd M35.1 D) := hc35.1.m
      refine ww_if_eq_b (tgt := 63) C dX4_value_52 (by decide) (fun c_52 => ?_) (fun c_52 => ?_)
      · skip
        rw [if_neg (by rw [c_52]; decide)] at hc35
        refine ww_iinc (lv' := [(1, .int (nI (j + 1))), (0, .ref (D 0))]) C dX4_value_63 0 rfl (inc_n _) (by decide) rfl ?_
        refine ww_goto (tgt := 41) C dX4_value_66 (by decide) ?_
        exact ih M35 h35 hc35 pg35 fg35 (fun s s1 s2 => by rcases Nat.lt_or_ge s j with q | q; { exact hv s s1 q }; { rw [show s = j by omega]; exact c_52 }) (by omega)
      · skip
        obtain ⟨j1, j2⟩ := isQ_t c_52
        have hr : (!(qw Q) && (decide (9 ≤ kQ E Q) && decide (kQ E Q ≤ 14))) = true := by have j3 : kQ E Q = j := j2; rw [j1, j3, decide_eq_true hl9, decide_eq_true (show j ≤ 14 by omega)]; rfl
        rw [hr] at hm; cases hm
        rw [if_pos c_52] at hc35
        have X0_37 : h35 (D 0) = some (cMd M35.1 D) := hc35.1.m
        refine ww_aload_n C dX4_value_55 rfl 1 rfl rfl ?_
        refine ww_iload_n C dX4_value_56 rfl 0 rfl ?_
        refine ww_iconst C dX4_value_57 cI_0 ?_
        refine ww_iconst C dX4_value_58 cI_0 ?_
        refine cv_X4_178_q (As := [.int (nI j), .int (nI 0), .int (nI 0)]) (rest := []) C dX4_value_59 (ct_X4_node (Cx.fl C) (Cx.ok C) hc35 (s := j) (a := 0) (b := 0) hn) (rc_X4 (Cx.ok C) (Or.inl X0_37)) rfl rfl (Nat.le_of_ble_eq_true rfl) (by omega) (Nat.zero_le _) (Nat.zero_le _) (fun v38 z38 h38 q38 => ?_)
        obtain ⟨rfl, hq38, M38, pf38, hc38, fr38⟩ := q38; replace hq38 := hq38.symm; subst hq38
        have pg38 := pg35.tr pf38
        have fg38 := fg35.tr fr38
        have X0_39 : h38 (D 0) = some (cMd M38.1 D) := hc38.1.m
        exact ww_iret C dX4_value_62 ⟨rfl, (by rw [show kQ E Q = j from j2]; exact ⟨rfl, M38, pg38, hc38, fg38⟩)⟩
  · skip
    rw [c_6] at hm; cases hm
    have hlt := isQ_lt hK hQl (by decide) c_6
    obtain ⟨j1, j2⟩ := isQ_t c_6
    have X0_40 : h (D 0) = some (cMd M.1 D) := hc.1.m
    refine ww_aload_n C dX4_value_9 rfl 0 rfl rfl ?_
    refine ww_dup C dX4_value_10 rfl ?_
    refine gf_X4_120_X4 C dX4_value_11 (Or.inl X0_40) rfl ?_
    refine ww_st (st' := [.int (nI (qt Q)), .ref (D 0)]) (by rw [show M.1 3 = nI (qt Q) from hc.2.1.1.1]) ?_
    refine ww_iconst C dX4_value_14 cI_1 ?_
    refine ww_iaddn C dX4_value_15 ?_
    refine pf_X4_120_X4 (fs' := [.int (M.1 0), .ref (D 1), .int (M.1 1), .int (M.1 2), .ref (D 2), .ref (D 3), .ref (D 4), .ref (D 5), .int (nI ((qt Q) + 1)), .int (M.1 4), .int (M.1 5), .int (M.1 6), .int (M.1 7), .ref (D 6), .ref (D 7), .ref (D 8), .ref (D 9), .ref (D 10), .ref (D 11), .ref (D 12), .ref (D 13), .int (M.1 8), .int (M.1 9), .int (M.1 10)]) C dX4_value_16 X0_40 rfl rfl (Nat.le_of_ble_eq_true rfl) rfl ?_
    refine ww_gen (fun h41 hE41 => ?_)
    have X0_40_h41 : h41 (D 0) = some (.inr (3, [.int (M.1 0), .ref (D 1), .int (M.1 1), .int (M.1 2), .ref (D 2), .ref (D 3), .ref (D 4), .ref (D 5), .int (nI ((qt Q) + 1)), .int (M.1 4), .int (M.1 5), .int (M.1 6), .int (M.1 7), .ref (D 6), .ref (D 7), .ref (D 8), .ref (D 9), .ref (D 10), .ref (D 11), .ref (D 12), .ref (D 13), .int (M.1 8), .int (M.1 9), .int (M.1 10)])) := by rw [hE41]; exact up_s
    have hX42 : Mx (xG X) h41 D (upd M.1 3 (nI (qt Q + 1)), M.2) := by rw [hE41]; exact Mx.i hc.1 (j := 3) (Or.inl (by decide)) rfl
    have pf42 : PF M (upd M.1 3 (nI (qt Q + 1)), M.2) := PF.rf.i (by omega)
    have hc42 : PCx (xG X) h41 D t E (upd M.1 3 (nI (qt Q + 1)), M.2) (avQ Q) := PCx.go hc pf42 hX42 (VQ.av hc.2.1) (qK.av hlt) hc.2.2.2.2.2.2.2.2.2.1 hc.2.2.2.2.2.2.2.2.2.2.1
    have pg42 := (PF.rf (M := M)).tr pf42
    have fg42 : FrD h h41 D := by rw [hE41]; exact FrD.w FrD.rf (i := 0) (by decide)
    have X0_43 : h41 (D 0) = some (cMd (upd M.1 3 (nI (qt Q + 1)), M.2).1 D) := hc42.1.m
    have X0_44 : h41 (D 0) = some (cMd (upd M.1 3 (nI (qt Q + 1)), M.2).1 D) := hc42.1.m
    have Y3_44 : h41 (D 3) = some (cI (xG X) 402 ((upd M.1 3 (nI (qt Q + 1)), M.2).2.1 3)) := hc42.1.1 3 (by decide)
    refine ww_aload_n C dX4_value_19 rfl 0 rfl rfl ?_
    refine ww_bipush C dX4_value_20 cB_31 ?_
    refine ww_aload_n C dX4_value_22 rfl 0 rfl rfl ?_
    refine gf_X4_20_X4 C dX4_value_23 (Or.inl X0_44) rfl ?_
    refine ww_aload_n C dX4_value_26 rfl 0 rfl rfl ?_
    refine gf_X4_120_X4 C dX4_value_27 (Or.inl X0_44) rfl ?_
    refine ww_st (st' := [.int (nI (qt Q + 1)), .ref (D 3), .int (nI 31), .ref (D 0)]) (by rw [show (upd M.1 3 (nI (qt Q + 1)), M.2).1 3 = nI (qt Q + 1) from hc42.2.1.1.1]) ?_
    refine ww_iconst C dX4_value_30 cI_1 ?_
    refine ww_isubn C dX4_value_31 (by omega) ?_
    have hql : qt Q ≤ 400 := Nat.le_trans hQl (tl_le t)
    have htc := tl_tc t
    refine ww_iald C dX4_value_32 (Or.inl Y3_44) (by omega) (by decide) ?_
    refine ww_st (st' := [.int (nI (E.2.1 (qt Q))), .int (nI 31), .ref (D 0)]) (by rw [show qt Q + 1 - 1 = qt Q from rfl, hc42.2.2.1.2.2.2.2.2 (qt Q) (by omega) (by rw [← j2, hc.2.2.2.1]; rfl), hc.2.2.2.1]; try rfl) ?_
    refine ww_iconst C dX4_value_33 cI_0 ?_
    refine cv_X4_178_q (As := [.int (nI 31), .int (nI (E.2.1 (qt Q))), .int (nI 0)]) (rest := []) C dX4_value_34 (ct_X4_node (Cx.fl C) (Cx.ok C) hc42 (s := 31) (a := E.2.1 (qt Q)) (b := 0) hn) (rc_X4 (Cx.ok C) (Or.inl X0_44)) rfl rfl (Nat.le_of_ble_eq_true rfl) (by omega) (Nat.zero_le _) (Nat.zero_le _) (fun v45 z45 h45 q45 => ?_)
    obtain ⟨rfl, hq45, M45, pf45, hc45, fr45⟩ := q45; replace hq45 := hq45.symm; subst hq45
    have pg45 := pg42.tr pf45
    have fg45 := fg42.tr fr45
    have X0_46 : h45 (D 0) = some (cMd M45.1 D) := hc45.1.m
    exact ww_iret C dX4_value_37 ⟨rfl, ⟨rfl, M45, pg45, hc45, fg45⟩⟩
set_option maxHeartbeats 2000000 in
theorem ct_X4_product {l : Launch} {Γ : Gm} (hl : l.flags = flags0) (hΓ : GOK Γ) {z : ZR} {h : AH} {D : Nat → Nat} {t : TP} {E : PE} {M : MS} {Q : QS} {Q' : QS} {i f : Nat}  (hc : PCx Γ h D t E M Q) (hV : ∀ f1, f1 ≤ f → McV l Γ E t yX4_value cX4_value 2 0 f1 (2 * f1 + 4)) (hm : mm1 E (mm E f) 0 Q = some (i, Q')) (hn : qn Q' ≤ 800) : Ct l Γ yX4_product cX4_product 3 (some .int) (2 * f + 6) 0 0 [.ref (D 0)] z h (Rv (fun v z' h' => v = .int (nI i) ∧ PP Γ z h D t E M Q' z' h')) := by
  refine Ct.of hl hΓ (by decide +kernel) (Nat.le_of_ble_eq_true rfl) (fun X e1 e2 C => ?_)
  subst e1; subst e2
  have C : Cx X cX4_product 3 "RingDominoModel" "product" (some .int) [] (2 * f + 6) := C
  have hK := hc.K
  have hQl := hc.2.2.2.2.1
  show WW X (Rv (fun v z' h' => v = .int (nI i) ∧ PP (xG X) z h D t E M Q' z' h')) z h 0 0 0 [(0, .ref (D 0))] []
  have X0_1 : h (D 0) = some (cMd M.1 D) := hc.1.m
  unfold mm1 at hm
  obtain ⟨i1, Q1, e1, e2⟩ := mB_s hm
  have k1 := mm_k hK _ _ _ _ hQl _ _ e1
  have k2 := mm_k hK _ _ _ _ k1.2.1 _ _ e2
  have hn1 : qn Q1 ≤ 800 := Nat.le_trans k2.2.2.1 hn
  have loop : ∀ f1, f1 ≤ f → ∀ (lf : Nat) (Q2 : QS) (M2 : MS) (h2 : AH), PCx (xG X) h2 D t E M2 Q2 → PF M M2 → FrD h h2 D → mm E f1 2 lf Q2 = some (i, Q') → WW X (Rv (fun v z' h' => v = .int (nI i) ∧ PP (xG X) z h D t E M Q' z' h')) z h2 0 0 5 [(1, .int (nI lf)), (0, .ref (D 0))] [] := by
    intro f1
    induction f1 with
    | zero => intro _ lf Q2 M2 h2 hc2 pf2 fr2 hm2; cases hm2
    | succ f1 ih =>
      intro hf lf Q2 M2 h2 hc2 pf2 fr2 hm2
      have hm2 : mm2 E (mm E f1) lf Q2 = some (i, Q') := hm2
      unfold mm2 at hm2
      have hQ2 := hc2.2.2.2.2.1
      have X0_2 : h2 (D 0) = some (cMd M2.1 D) := hc2.1.m
      refine ww_aload_n C dX4_product_5 rfl 1 rfl rfl ?_
      refine ww_bipush C dX4_product_6 cB_42 ?_
      refine cv_X4_129_r (As := [.int (nI 42)]) (rest := []) C dX4_product_8 (ct_X4_is (Cx.fl C) (Cx.ok C) (k := 42) hc2 (by decide)) (rc_X4 (Cx.ok C) (Or.inl X0_2)) rfl rfl (Nat.le_of_ble_eq_true rfl) (by omega) (Nat.zero_le _) (Nat.zero_le _) ?_
      refine ww_if_ne_b (tgt := 23) C dX4_product_11 (by decide) (fun c_11 => ?_) (fun c_11 => ?_)
      · skip
        rw [show (isQ E Q2 42 || isQ E Q2 43) = true from by rw [c_11]; rfl] at hm2
        have hlt := isQ_lt hK hQ2 (by decide) c_11
        have X0_3 : h2 (D 0) = some (cMd M2.1 D) := hc2.1.m
        have X0_4 : h2 (D 0) = some (cMd M2.1 D) := hc2.1.m
        have Y2_4 : h2 (D 2) = some (cI (xG X) 402 (M2.2.1 2)) := hc2.1.1 2 (by decide)
        refine ww_aload_n C dX4_product_23 rfl 1 rfl rfl ?_
        refine gf_X4_17_X4 C dX4_product_24 (Or.inl X0_4) rfl ?_
        refine ww_aload_n C dX4_product_27 rfl 1 rfl rfl ?_
        refine gf_X4_120_X4 C dX4_product_28 (Or.inl X0_4) rfl ?_
        refine ww_st (st' := [.int (nI (qt Q2)), .ref (D 2)]) (by rw [show M2.1 3 = nI (qt Q2) from hc2.2.1.1.1]) ?_
        have hql : qt Q2 ≤ 400 := Nat.le_trans hc2.2.2.2.2.1 (tl_le t)
        refine ww_iald C dX4_product_31 (Or.inl Y2_4) (by omega) (by decide) ?_
        refine ww_st (st' := [.int (nI (kQ E Q2))]) (by rw [PCx.k hc2]) ?_
        refine ww_istore_n (lv' := [(2, .int (nI (kQ E Q2))), (1, .int (nI lf)), (0, .ref (D 0))]) C dX4_product_32 rfl (by decide) rfl ?_
        have X0_5 : h2 (D 0) = some (cMd M2.1 D) := hc2.1.m
        refine ww_aload_n C dX4_product_33 rfl 2 rfl rfl ?_
        refine ww_dup C dX4_product_34 rfl ?_
        refine gf_X4_120_X4 C dX4_product_35 (Or.inl X0_5) rfl ?_
        refine ww_st (st' := [.int (nI (qt Q2)), .ref (D 0)]) (by rw [show M2.1 3 = nI (qt Q2) from hc2.2.1.1.1]) ?_
        refine ww_iconst C dX4_product_38 cI_1 ?_
        refine ww_iaddn C dX4_product_39 ?_
        refine pf_X4_120_X4 (fs' := [.int (M2.1 0), .ref (D 1), .int (M2.1 1), .int (M2.1 2), .ref (D 2), .ref (D 3), .ref (D 4), .ref (D 5), .int (nI ((qt Q2) + 1)), .int (M2.1 4), .int (M2.1 5), .int (M2.1 6), .int (M2.1 7), .ref (D 6), .ref (D 7), .ref (D 8), .ref (D 9), .ref (D 10), .ref (D 11), .ref (D 12), .ref (D 13), .int (M2.1 8), .int (M2.1 9), .int (M2.1 10)]) C dX4_product_40 X0_5 rfl rfl (Nat.le_of_ble_eq_true rfl) rfl ?_
        refine ww_gen (fun h6 hE6 => ?_)
        have X0_5_h6 : h6 (D 0) = some (.inr (3, [.int (M2.1 0), .ref (D 1), .int (M2.1 1), .int (M2.1 2), .ref (D 2), .ref (D 3), .ref (D 4), .ref (D 5), .int (nI ((qt Q2) + 1)), .int (M2.1 4), .int (M2.1 5), .int (M2.1 6), .int (M2.1 7), .ref (D 6), .ref (D 7), .ref (D 8), .ref (D 9), .ref (D 10), .ref (D 11), .ref (D 12), .ref (D 13), .int (M2.1 8), .int (M2.1 9), .int (M2.1 10)])) := by rw [hE6]; exact up_s
        have hX7 : Mx (xG X) h6 D (upd M2.1 3 (nI (qt Q2 + 1)), M2.2) := by rw [hE6]; exact Mx.i hc2.1 (j := 3) (Or.inl (by decide)) rfl
        have pf7 : PF M2 (upd M2.1 3 (nI (qt Q2 + 1)), M2.2) := PF.rf.i (by omega)
        have hc7 : PCx (xG X) h6 D t E (upd M2.1 3 (nI (qt Q2 + 1)), M2.2) (avQ Q2) := PCx.go hc2 pf7 hX7 (VQ.av hc2.2.1) (qK.av hlt) hc2.2.2.2.2.2.2.2.2.2.1 hc2.2.2.2.2.2.2.2.2.2.2.1
        have pg7 := pf2.tr pf7
        have fg7 : FrD h h6 D := by rw [hE6]; exact FrD.w fr2 (i := 0) (by decide)
        have X0_8 : h6 (D 0) = some (cMd (upd M2.1 3 (nI (qt Q2 + 1)), M2.2).1 D) := hc7.1.m
        obtain ⟨v1, Q3, e3, e4⟩ := mB_s hm2
        have k3 := mm_k hK _ _ _ _ (show qt (avQ Q2) ≤ tl t from hlt) _ _ e3
        have k4 := mm_k hK _ _ _ (ndQ (kQ E Q2) lf v1 Q3).2 k3.2.1 _ _ e4
        have hn3 : qn Q3 < 800 := Nat.le_trans k4.2.2.1 hn
        refine ww_aload_n C dX4_product_43 rfl 2 rfl rfl ?_
        refine ww_iload_n C dX4_product_44 rfl 0 rfl ?_
        refine ww_iload_n C dX4_product_45 rfl 1 rfl ?_
        refine ww_aload_n C dX4_product_46 rfl 2 rfl rfl ?_
        refine cv_X4_194_q (As := []) (rest := [.int (nI lf), .int (nI (kQ E Q2)), .ref (D 0)]) C dX4_product_47 ((hV f1 (by omega)) z h6 D (upd M2.1 3 (nI (qt Q2 + 1)), M2.2) (avQ Q2) _ _ hc7 e3 (Nat.le_of_lt hn3)) (rc_X4 (Cx.ok C) (Or.inl X0_8)) rfl rfl (Nat.le_of_ble_eq_true rfl) (by omega) (Nat.zero_le _) (Nat.zero_le _) (fun v9 z9 h9 q9 => ?_)
        obtain ⟨rfl, hq9, M9, pf9, hc9, fr9⟩ := q9; replace hq9 := hq9.symm; subst hq9
        have pg9 := pg7.tr pf9
        have fg9 := fg7.tr fr9
        have X0_10 : h9 (D 0) = some (cMd M9.1 D) := hc9.1.m
        refine cv_X4_178_q (As := [.int (nI (kQ E Q2)), .int (nI lf), .int (nI v1)]) (rest := []) C dX4_product_50 (ct_X4_node (Cx.fl C) (Cx.ok C) hc9 (s := kQ E Q2) (a := lf) (b := v1) hn3) (rc_X4 (Cx.ok C) (Or.inl X0_10)) rfl rfl (Nat.le_of_ble_eq_true rfl) (by omega) (Nat.zero_le _) (Nat.zero_le _) (fun v11 z11 h11 q11 => ?_)
        obtain ⟨rfl, hq11, M11, pf11, hc11, fr11⟩ := q11; replace hq11 := hq11.symm; subst hq11
        have pg11 := pg9.tr pf11
        have fg11 := fg9.tr fr11
        have X0_12 : h11 (D 0) = some (cMd M11.1 D) := hc11.1.m
        refine ww_istore_n (lv' := [(1, .int (nI ((ndQ (kQ E Q2) lf v1 Q3).1))), (2, .int (nI (kQ E Q2))), (0, .ref (D 0))]) C dX4_product_53 rfl (by decide) rfl ?_
        refine ww_goto (tgt := 5) C dX4_product_54 (by decide) ?_
        refine ww_sub [0, 2] rfl ?_
        exact ih (by omega) _ _ M11 h11 hc11 pg11 fg11 e4
      · skip
        have X0_13 : h2 (D 0) = some (cMd M2.1 D) := hc2.1.m
        refine ww_aload_n C dX4_product_14 rfl 1 rfl rfl ?_
        refine ww_bipush C dX4_product_15 cB_43 ?_
        refine cv_X4_129_r (As := [.int (nI 43)]) (rest := []) C dX4_product_17 (ct_X4_is (Cx.fl C) (Cx.ok C) (k := 43) hc2 (by decide)) (rc_X4 (Cx.ok C) (Or.inl X0_13)) rfl rfl (Nat.le_of_ble_eq_true rfl) (by omega) (Nat.zero_le _) (Nat.zero_le _) ?_
        refine ww_if_eq_b (tgt := 57) C dX4_product_20 (by decide) (fun c_20 => ?_) (fun c_20 => ?_)
        · skip
          rw [show (isQ E Q2 42 || isQ E Q2 43) = false from by rw [c_11, c_20]; rfl] at hm2; cases hm2
          have X0_14 : h2 (D 0) = some (cMd M2.1 D) := hc2.1.m
          refine ww_iload_n C dX4_product_57 rfl 0 rfl ?_
          exact ww_iret C dX4_product_58 ⟨rfl, rfl, M2, pf2, hc2, fr2⟩
        · skip
          rw [show (isQ E Q2 42 || isQ E Q2 43) = true from by rw [c_20, Bool.or_true]] at hm2
          have hlt := isQ_lt hK hQ2 (by decide) c_20
          have X0_15 : h2 (D 0) = some (cMd M2.1 D) := hc2.1.m
          have X0_16 : h2 (D 0) = some (cMd M2.1 D) := hc2.1.m
          have Y2_16 : h2 (D 2) = some (cI (xG X) 402 (M2.2.1 2)) := hc2.1.1 2 (by decide)
          refine ww_aload_n C dX4_product_23 rfl 1 rfl rfl ?_
          refine gf_X4_17_X4 C dX4_product_24 (Or.inl X0_16) rfl ?_
          refine ww_aload_n C dX4_product_27 rfl 1 rfl rfl ?_
          refine gf_X4_120_X4 C dX4_product_28 (Or.inl X0_16) rfl ?_
          refine ww_st (st' := [.int (nI (qt Q2)), .ref (D 2)]) (by rw [show M2.1 3 = nI (qt Q2) from hc2.2.1.1.1]) ?_
          have hql : qt Q2 ≤ 400 := Nat.le_trans hc2.2.2.2.2.1 (tl_le t)
          refine ww_iald C dX4_product_31 (Or.inl Y2_16) (by omega) (by decide) ?_
          refine ww_st (st' := [.int (nI (kQ E Q2))]) (by rw [PCx.k hc2]) ?_
          refine ww_istore_n (lv' := [(2, .int (nI (kQ E Q2))), (1, .int (nI lf)), (0, .ref (D 0))]) C dX4_product_32 rfl (by decide) rfl ?_
          have X0_17 : h2 (D 0) = some (cMd M2.1 D) := hc2.1.m
          refine ww_aload_n C dX4_product_33 rfl 2 rfl rfl ?_
          refine ww_dup C dX4_product_34 rfl ?_
          refine gf_X4_120_X4 C dX4_product_35 (Or.inl X0_17) rfl ?_
          refine ww_st (st' := [.int (nI (qt Q2)), .ref (D 0)]) (by rw [show M2.1 3 = nI (qt Q2) from hc2.2.1.1.1]) ?_
          refine ww_iconst C dX4_product_38 cI_1 ?_
          refine ww_iaddn C dX4_product_39 ?_
          refine pf_X4_120_X4 (fs' := [.int (M2.1 0), .ref (D 1), .int (M2.1 1), .int (M2.1 2), .ref (D 2), .ref (D 3), .ref (D 4), .ref (D 5), .int (nI ((qt Q2) + 1)), .int (M2.1 4), .int (M2.1 5), .int (M2.1 6), .int (M2.1 7), .ref (D 6), .ref (D 7), .ref (D 8), .ref (D 9), .ref (D 10), .ref (D 11), .ref (D 12), .ref (D 13), .int (M2.1 8), .int (M2.1 9), .int (M2.1 10)]) C dX4_product_40 X0_17 rfl rfl (Nat.le_of_ble_eq_true rfl) rfl ?_
          refine ww_gen (fun h18 hE18 => ?_)
          have X0_17_h18 : h18 (D 0) = some (.inr (3, [.int (M2.1 0), .ref (D 1), .int (M2.1 1), .int (M2.1 2), .ref (D 2), .ref (D 3), .ref (D 4), .ref (D 5), .int (nI ((qt Q2) + 1)), .int (M2.1 4), .int (M2.1 5), .int (M2.1 6), .int (M2.1 7), .ref (D 6), .ref (D 7), .ref (D 8), .ref (D 9), .ref (D 10), .ref (D 11), .ref (D 12), .ref (D 13), .int (M2.1 8), .int (M2.1 9), .int (M2.1 10)])) := by rw [hE18]; exact up_s
          have hX19 : Mx (xG X) h18 D (upd M2.1 3 (nI (qt Q2 + 1)), M2.2) := by rw [hE18]; exact Mx.i hc2.1 (j := 3) (Or.inl (by decide)) rfl
          have pf19 : PF M2 (upd M2.1 3 (nI (qt Q2 + 1)), M2.2) := PF.rf.i (by omega)
          have hc19 : PCx (xG X) h18 D t E (upd M2.1 3 (nI (qt Q2 + 1)), M2.2) (avQ Q2) := PCx.go hc2 pf19 hX19 (VQ.av hc2.2.1) (qK.av hlt) hc2.2.2.2.2.2.2.2.2.2.1 hc2.2.2.2.2.2.2.2.2.2.2.1
          have pg19 := pf2.tr pf19
          have fg19 : FrD h h18 D := by rw [hE18]; exact FrD.w fr2 (i := 0) (by decide)
          have X0_20 : h18 (D 0) = some (cMd (upd M2.1 3 (nI (qt Q2 + 1)), M2.2).1 D) := hc19.1.m
          obtain ⟨v1, Q3, e3, e4⟩ := mB_s hm2
          have k3 := mm_k hK _ _ _ _ (show qt (avQ Q2) ≤ tl t from hlt) _ _ e3
          have k4 := mm_k hK _ _ _ (ndQ (kQ E Q2) lf v1 Q3).2 k3.2.1 _ _ e4
          have hn3 : qn Q3 < 800 := Nat.le_trans k4.2.2.1 hn
          refine ww_aload_n C dX4_product_43 rfl 2 rfl rfl ?_
          refine ww_iload_n C dX4_product_44 rfl 0 rfl ?_
          refine ww_iload_n C dX4_product_45 rfl 1 rfl ?_
          refine ww_aload_n C dX4_product_46 rfl 2 rfl rfl ?_
          refine cv_X4_194_q (As := []) (rest := [.int (nI lf), .int (nI (kQ E Q2)), .ref (D 0)]) C dX4_product_47 ((hV f1 (by omega)) z h18 D (upd M2.1 3 (nI (qt Q2 + 1)), M2.2) (avQ Q2) _ _ hc19 e3 (Nat.le_of_lt hn3)) (rc_X4 (Cx.ok C) (Or.inl X0_20)) rfl rfl (Nat.le_of_ble_eq_true rfl) (by omega) (Nat.zero_le _) (Nat.zero_le _) (fun v21 z21 h21 q21 => ?_)
          obtain ⟨rfl, hq21, M21, pf21, hc21, fr21⟩ := q21; replace hq21 := hq21.symm; subst hq21
          have pg21 := pg19.tr pf21
          have fg21 := fg19.tr fr21
          have X0_22 : h21 (D 0) = some (cMd M21.1 D) := hc21.1.m
          refine cv_X4_178_q (As := [.int (nI (kQ E Q2)), .int (nI lf), .int (nI v1)]) (rest := []) C dX4_product_50 (ct_X4_node (Cx.fl C) (Cx.ok C) hc21 (s := kQ E Q2) (a := lf) (b := v1) hn3) (rc_X4 (Cx.ok C) (Or.inl X0_22)) rfl rfl (Nat.le_of_ble_eq_true rfl) (by omega) (Nat.zero_le _) (Nat.zero_le _) (fun v23 z23 h23 q23 => ?_)
          obtain ⟨rfl, hq23, M23, pf23, hc23, fr23⟩ := q23; replace hq23 := hq23.symm; subst hq23
          have pg23 := pg21.tr pf23
          have fg23 := fg21.tr fr23
          have X0_24 : h23 (D 0) = some (cMd M23.1 D) := hc23.1.m
          refine ww_istore_n (lv' := [(1, .int (nI ((ndQ (kQ E Q2) lf v1 Q3).1))), (2, .int (nI (kQ E Q2))), (0, .ref (D 0))]) C dX4_product_53 rfl (by decide) rfl ?_
          refine ww_goto (tgt := 5) C dX4_product_54 (by decide) ?_
          refine ww_sub [0, 2] rfl ?_
          exact ih (by omega) _ _ M23 h23 hc23 pg23 fg23 e4
  refine ww_aload_n C dX4_product_0 rfl 0 rfl rfl ?_
  refine cv_X4_194_q (As := []) (rest := []) C dX4_product_1 ((hV f (Nat.le_refl _)) z h D M Q _ _ hc e1 hn1) (rc_X4 (Cx.ok C) (Or.inl X0_1)) rfl rfl (Nat.le_of_ble_eq_true rfl) (by omega) (Nat.zero_le _) (Nat.zero_le _) (fun v25 z25 h25 q25 => ?_)
  obtain ⟨rfl, hq25, M25, pf25, hc25, fr25⟩ := q25; replace hq25 := hq25.symm; subst hq25
  have pg25 := (PF.rf (M := M)).tr pf25
  have fg25 := (FrD.rf (h := h) (D := D)).tr fr25
  have X0_26 : h25 (D 0) = some (cMd M25.1 D) := hc25.1.m
  refine ww_istore_n (lv' := [(1, .int (nI i1)), (0, .ref (D 0))]) C dX4_product_4 rfl (by decide) rfl ?_
  exact loop f (Nat.le_refl _) _ _ M25 h25 hc25 pg25 fg25 e2
set_option maxHeartbeats 2000000 in
theorem ct_X4_sum {l : Launch} {Γ : Gm} (hl : l.flags = flags0) (hΓ : GOK Γ) {z : ZR} {h : AH} {D : Nat → Nat} {t : TP} {E : PE} {M : MS} {Q : QS} {Q' : QS} {i f : Nat}  (hc : PCx Γ h D t E M Q) (hV : ∀ f1, f1 ≤ f → McV l Γ E t yX4_product cX4_product 3 1 f1 (2 * f1 + 4)) (hm : mm3 E (mm E f) 0 Q = some (i, Q')) (hn : qn Q' ≤ 800) : Ct l Γ yX4_sum cX4_sum 3 (some .int) (2 * f + 6) 0 0 [.ref (D 0)] z h (Rv (fun v z' h' => v = .int (nI i) ∧ PP Γ z h D t E M Q' z' h')) := by
  refine Ct.of hl hΓ (by decide +kernel) (Nat.le_of_ble_eq_true rfl) (fun X e1 e2 C => ?_)
  subst e1; subst e2
  have C : Cx X cX4_sum 3 "RingDominoModel" "sum" (some .int) [] (2 * f + 6) := C
  have hK := hc.K
  have hQl := hc.2.2.2.2.1
  show WW X (Rv (fun v z' h' => v = .int (nI i) ∧ PP (xG X) z h D t E M Q' z' h')) z h 0 0 0 [(0, .ref (D 0))] []
  have X0_1 : h (D 0) = some (cMd M.1 D) := hc.1.m
  unfold mm3 at hm
  obtain ⟨i1, Q1, e1, e2⟩ := mB_s hm
  have k1 := mm_k hK _ _ _ _ hQl _ _ e1
  have k2 := mm_k hK _ _ _ _ k1.2.1 _ _ e2
  have hn1 : qn Q1 ≤ 800 := Nat.le_trans k2.2.2.1 hn
  have loop : ∀ f1, f1 ≤ f → ∀ (lf : Nat) (Q2 : QS) (M2 : MS) (h2 : AH), PCx (xG X) h2 D t E M2 Q2 → PF M M2 → FrD h h2 D → mm E f1 4 lf Q2 = some (i, Q') → WW X (Rv (fun v z' h' => v = .int (nI i) ∧ PP (xG X) z h D t E M Q' z' h')) z h2 0 0 5 [(1, .int (nI lf)), (0, .ref (D 0))] [] := by
    intro f1
    induction f1 with
    | zero => intro _ lf Q2 M2 h2 hc2 pf2 fr2 hm2; cases hm2
    | succ f1 ih =>
      intro hf lf Q2 M2 h2 hc2 pf2 fr2 hm2
      have hm2 : mm4 E (mm E f1) lf Q2 = some (i, Q') := hm2
      unfold mm4 at hm2
      have hQ2 := hc2.2.2.2.2.1
      have X0_2 : h2 (D 0) = some (cMd M2.1 D) := hc2.1.m
      refine ww_aload_n C dX4_sum_5 rfl 1 rfl rfl ?_
      refine ww_bipush C dX4_sum_6 cB_40 ?_
      refine cv_X4_129_r (As := [.int (nI 40)]) (rest := []) C dX4_sum_8 (ct_X4_is (Cx.fl C) (Cx.ok C) (k := 40) hc2 (by decide)) (rc_X4 (Cx.ok C) (Or.inl X0_2)) rfl rfl (Nat.le_of_ble_eq_true rfl) (by omega) (Nat.zero_le _) (Nat.zero_le _) ?_
      refine ww_if_ne_b (tgt := 23) C dX4_sum_11 (by decide) (fun c_11 => ?_) (fun c_11 => ?_)
      · skip
        rw [show (isQ E Q2 40 || isQ E Q2 41) = true from by rw [c_11]; rfl] at hm2
        have hlt := isQ_lt hK hQ2 (by decide) c_11
        have X0_3 : h2 (D 0) = some (cMd M2.1 D) := hc2.1.m
        have X0_4 : h2 (D 0) = some (cMd M2.1 D) := hc2.1.m
        have Y2_4 : h2 (D 2) = some (cI (xG X) 402 (M2.2.1 2)) := hc2.1.1 2 (by decide)
        refine ww_aload_n C dX4_sum_23 rfl 1 rfl rfl ?_
        refine gf_X4_17_X4 C dX4_sum_24 (Or.inl X0_4) rfl ?_
        refine ww_aload_n C dX4_sum_27 rfl 1 rfl rfl ?_
        refine gf_X4_120_X4 C dX4_sum_28 (Or.inl X0_4) rfl ?_
        refine ww_st (st' := [.int (nI (qt Q2)), .ref (D 2)]) (by rw [show M2.1 3 = nI (qt Q2) from hc2.2.1.1.1]) ?_
        have hql : qt Q2 ≤ 400 := Nat.le_trans hc2.2.2.2.2.1 (tl_le t)
        refine ww_iald C dX4_sum_31 (Or.inl Y2_4) (by omega) (by decide) ?_
        refine ww_st (st' := [.int (nI (kQ E Q2))]) (by rw [PCx.k hc2]) ?_
        refine ww_istore_n (lv' := [(2, .int (nI (kQ E Q2))), (1, .int (nI lf)), (0, .ref (D 0))]) C dX4_sum_32 rfl (by decide) rfl ?_
        have X0_5 : h2 (D 0) = some (cMd M2.1 D) := hc2.1.m
        refine ww_aload_n C dX4_sum_33 rfl 2 rfl rfl ?_
        refine ww_dup C dX4_sum_34 rfl ?_
        refine gf_X4_120_X4 C dX4_sum_35 (Or.inl X0_5) rfl ?_
        refine ww_st (st' := [.int (nI (qt Q2)), .ref (D 0)]) (by rw [show M2.1 3 = nI (qt Q2) from hc2.2.1.1.1]) ?_
        refine ww_iconst C dX4_sum_38 cI_1 ?_
        refine ww_iaddn C dX4_sum_39 ?_
        refine pf_X4_120_X4 (fs' := [.int (M2.1 0), .ref (D 1), .int (M2.1 1), .int (M2.1 2), .ref (D 2), .ref (D 3), .ref (D 4), .ref (D 5), .int (nI ((qt Q2) + 1)), .int (M2.1 4), .int (M2.1 5), .int (M2.1 6), .int (M2.1 7), .ref (D 6), .ref (D 7), .ref (D 8), .ref (D 9), .ref (D 10), .ref (D 11), .ref (D 12), .ref (D 13), .int (M2.1 8), .int (M2.1 9), .int (M2.1 10)]) C dX4_sum_40 X0_5 rfl rfl (Nat.le_of_ble_eq_true rfl) rfl ?_
        refine ww_gen (fun h6 hE6 => ?_)
        have X0_5_h6 : h6 (D 0) = some (.inr (3, [.int (M2.1 0), .ref (D 1), .int (M2.1 1), .int (M2.1 2), .ref (D 2), .ref (D 3), .ref (D 4), .ref (D 5), .int (nI ((qt Q2) + 1)), .int (M2.1 4), .int (M2.1 5), .int (M2.1 6), .int (M2.1 7), .ref (D 6), .ref (D 7), .ref (D 8), .ref (D 9), .ref (D 10), .ref (D 11), .ref (D 12), .ref (D 13), .int (M2.1 8), .int (M2.1 9), .int (M2.1 10)])) := by rw [hE6]; exact up_s
        have hX7 : Mx (xG X) h6 D (upd M2.1 3 (nI (qt Q2 + 1)), M2.2) := by rw [hE6]; exact Mx.i hc2.1 (j := 3) (Or.inl (by decide)) rfl
        have pf7 : PF M2 (upd M2.1 3 (nI (qt Q2 + 1)), M2.2) := PF.rf.i (by omega)
        have hc7 : PCx (xG X) h6 D t E (upd M2.1 3 (nI (qt Q2 + 1)), M2.2) (avQ Q2) := PCx.go hc2 pf7 hX7 (VQ.av hc2.2.1) (qK.av hlt) hc2.2.2.2.2.2.2.2.2.2.1 hc2.2.2.2.2.2.2.2.2.2.2.1
        have pg7 := pf2.tr pf7
        have fg7 : FrD h h6 D := by rw [hE6]; exact FrD.w fr2 (i := 0) (by decide)
        have X0_8 : h6 (D 0) = some (cMd (upd M2.1 3 (nI (qt Q2 + 1)), M2.2).1 D) := hc7.1.m
        obtain ⟨v1, Q3, e3, e4⟩ := mB_s hm2
        have k3 := mm_k hK _ _ _ _ (show qt (avQ Q2) ≤ tl t from hlt) _ _ e3
        have k4 := mm_k hK _ _ _ (ndQ (kQ E Q2) lf v1 Q3).2 k3.2.1 _ _ e4
        have hn3 : qn Q3 < 800 := Nat.le_trans k4.2.2.1 hn
        refine ww_aload_n C dX4_sum_43 rfl 2 rfl rfl ?_
        refine ww_iload_n C dX4_sum_44 rfl 0 rfl ?_
        refine ww_iload_n C dX4_sum_45 rfl 1 rfl ?_
        refine ww_aload_n C dX4_sum_46 rfl 2 rfl rfl ?_
        refine cv_X4_196_q (As := []) (rest := [.int (nI lf), .int (nI (kQ E Q2)), .ref (D 0)]) C dX4_sum_47 ((hV f1 (by omega)) z h6 D (upd M2.1 3 (nI (qt Q2 + 1)), M2.2) (avQ Q2) _ _ hc7 e3 (Nat.le_of_lt hn3)) (rc_X4 (Cx.ok C) (Or.inl X0_8)) rfl rfl (Nat.le_of_ble_eq_true rfl) (by omega) (Nat.zero_le _) (Nat.zero_le _) (fun v9 z9 h9 q9 => ?_)
        obtain ⟨rfl, hq9, M9, pf9, hc9, fr9⟩ := q9; replace hq9 := hq9.symm; subst hq9
        have pg9 := pg7.tr pf9
        have fg9 := fg7.tr fr9
        have X0_10 : h9 (D 0) = some (cMd M9.1 D) := hc9.1.m
        refine cv_X4_178_q (As := [.int (nI (kQ E Q2)), .int (nI lf), .int (nI v1)]) (rest := []) C dX4_sum_50 (ct_X4_node (Cx.fl C) (Cx.ok C) hc9 (s := kQ E Q2) (a := lf) (b := v1) hn3) (rc_X4 (Cx.ok C) (Or.inl X0_10)) rfl rfl (Nat.le_of_ble_eq_true rfl) (by omega) (Nat.zero_le _) (Nat.zero_le _) (fun v11 z11 h11 q11 => ?_)
        obtain ⟨rfl, hq11, M11, pf11, hc11, fr11⟩ := q11; replace hq11 := hq11.symm; subst hq11
        have pg11 := pg9.tr pf11
        have fg11 := fg9.tr fr11
        have X0_12 : h11 (D 0) = some (cMd M11.1 D) := hc11.1.m
        refine ww_istore_n (lv' := [(1, .int (nI ((ndQ (kQ E Q2) lf v1 Q3).1))), (2, .int (nI (kQ E Q2))), (0, .ref (D 0))]) C dX4_sum_53 rfl (by decide) rfl ?_
        refine ww_goto (tgt := 5) C dX4_sum_54 (by decide) ?_
        refine ww_sub [0, 2] rfl ?_
        exact ih (by omega) _ _ M11 h11 hc11 pg11 fg11 e4
      · skip
        have X0_13 : h2 (D 0) = some (cMd M2.1 D) := hc2.1.m
        refine ww_aload_n C dX4_sum_14 rfl 1 rfl rfl ?_
        refine ww_bipush C dX4_sum_15 cB_41 ?_
        refine cv_X4_129_r (As := [.int (nI 41)]) (rest := []) C dX4_sum_17 (ct_X4_is (Cx.fl C) (Cx.ok C) (k := 41) hc2 (by decide)) (rc_X4 (Cx.ok C) (Or.inl X0_13)) rfl rfl (Nat.le_of_ble_eq_true rfl) (by omega) (Nat.zero_le _) (Nat.zero_le _) ?_
        refine ww_if_eq_b (tgt := 57) C dX4_sum_20 (by decide) (fun c_20 => ?_) (fun c_20 => ?_)
        · skip
          rw [show (isQ E Q2 40 || isQ E Q2 41) = false from by rw [c_11, c_20]; rfl] at hm2; cases hm2
          have X0_14 : h2 (D 0) = some (cMd M2.1 D) := hc2.1.m
          refine ww_iload_n C dX4_sum_57 rfl 0 rfl ?_
          exact ww_iret C dX4_sum_58 ⟨rfl, rfl, M2, pf2, hc2, fr2⟩
        · skip
          rw [show (isQ E Q2 40 || isQ E Q2 41) = true from by rw [c_20, Bool.or_true]] at hm2
          have hlt := isQ_lt hK hQ2 (by decide) c_20
          have X0_15 : h2 (D 0) = some (cMd M2.1 D) := hc2.1.m
          have X0_16 : h2 (D 0) = some (cMd M2.1 D) := hc2.1.m
          have Y2_16 : h2 (D 2) = some (cI (xG X) 402 (M2.2.1 2)) := hc2.1.1 2 (by decide)
          refine ww_aload_n C dX4_sum_23 rfl 1 rfl rfl ?_
          refine gf_X4_17_X4 C dX4_sum_24 (Or.inl X0_16) rfl ?_
          refine ww_aload_n C dX4_sum_27 rfl 1 rfl rfl ?_
          refine gf_X4_120_X4 C dX4_sum_28 (Or.inl X0_16) rfl ?_
          refine ww_st (st' := [.int (nI (qt Q2)), .ref (D 2)]) (by rw [show M2.1 3 = nI (qt Q2) from hc2.2.1.1.1]) ?_
          have hql : qt Q2 ≤ 400 := Nat.le_trans hc2.2.2.2.2.1 (tl_le t)
          refine ww_iald C dX4_sum_31 (Or.inl Y2_16) (by omega) (by decide) ?_
          refine ww_st (st' := [.int (nI (kQ E Q2))]) (by rw [PCx.k hc2]) ?_
          refine ww_istore_n (lv' := [(2, .int (nI (kQ E Q2))), (1, .int (nI lf)), (0, .ref (D 0))]) C dX4_sum_32 rfl (by decide) rfl ?_
          have X0_17 : h2 (D 0) = some (cMd M2.1 D) := hc2.1.m
          refine ww_aload_n C dX4_sum_33 rfl 2 rfl rfl ?_
          refine ww_dup C dX4_sum_34 rfl ?_
          refine gf_X4_120_X4 C dX4_sum_35 (Or.inl X0_17) rfl ?_
          refine ww_st (st' := [.int (nI (qt Q2)), .ref (D 0)]) (by rw [show M2.1 3 = nI (qt Q2) from hc2.2.1.1.1]) ?_
          refine ww_iconst C dX4_sum_38 cI_1 ?_
          refine ww_iaddn C dX4_sum_39 ?_
          refine pf_X4_120_X4 (fs' := [.int (M2.1 0), .ref (D 1), .int (M2.1 1), .int (M2.1 2), .ref (D 2), .ref (D 3), .ref (D 4), .ref (D 5), .int (nI ((qt Q2) + 1)), .int (M2.1 4), .int (M2.1 5), .int (M2.1 6), .int (M2.1 7), .ref (D 6), .ref (D 7), .ref (D 8), .ref (D 9), .ref (D 10), .ref (D 11), .ref (D 12), .ref (D 13), .int (M2.1 8), .int (M2.1 9), .int (M2.1 10)]) C dX4_sum_40 X0_17 rfl rfl (Nat.le_of_ble_eq_true rfl) rfl ?_
          refine ww_gen (fun h18 hE18 => ?_)
          have X0_17_h18 : h18 (D 0) = some (.inr (3, [.int (M2.1 0), .ref (D 1), .int (M2.1 1), .int (M2.1 2), .ref (D 2), .ref (D 3), .ref (D 4), .ref (D 5), .int (nI ((qt Q2) + 1)), .int (M2.1 4), .int (M2.1 5), .int (M2.1 6), .int (M2.1 7), .ref (D 6), .ref (D 7), .ref (D 8), .ref (D 9), .ref (D 10), .ref (D 11), .ref (D 12), .ref (D 13), .int (M2.1 8), .int (M2.1 9), .int (M2.1 10)])) := by rw [hE18]; exact up_s
          have hX19 : Mx (xG X) h18 D (upd M2.1 3 (nI (qt Q2 + 1)), M2.2) := by rw [hE18]; exact Mx.i hc2.1 (j := 3) (Or.inl (by decide)) rfl
          have pf19 : PF M2 (upd M2.1 3 (nI (qt Q2 + 1)), M2.2) := PF.rf.i (by omega)
          have hc19 : PCx (xG X) h18 D t E (upd M2.1 3 (nI (qt Q2 + 1)), M2.2) (avQ Q2) := PCx.go hc2 pf19 hX19 (VQ.av hc2.2.1) (qK.av hlt) hc2.2.2.2.2.2.2.2.2.2.1 hc2.2.2.2.2.2.2.2.2.2.2.1
          have pg19 := pf2.tr pf19
          have fg19 : FrD h h18 D := by rw [hE18]; exact FrD.w fr2 (i := 0) (by decide)
          have X0_20 : h18 (D 0) = some (cMd (upd M2.1 3 (nI (qt Q2 + 1)), M2.2).1 D) := hc19.1.m
          obtain ⟨v1, Q3, e3, e4⟩ := mB_s hm2
          have k3 := mm_k hK _ _ _ _ (show qt (avQ Q2) ≤ tl t from hlt) _ _ e3
          have k4 := mm_k hK _ _ _ (ndQ (kQ E Q2) lf v1 Q3).2 k3.2.1 _ _ e4
          have hn3 : qn Q3 < 800 := Nat.le_trans k4.2.2.1 hn
          refine ww_aload_n C dX4_sum_43 rfl 2 rfl rfl ?_
          refine ww_iload_n C dX4_sum_44 rfl 0 rfl ?_
          refine ww_iload_n C dX4_sum_45 rfl 1 rfl ?_
          refine ww_aload_n C dX4_sum_46 rfl 2 rfl rfl ?_
          refine cv_X4_196_q (As := []) (rest := [.int (nI lf), .int (nI (kQ E Q2)), .ref (D 0)]) C dX4_sum_47 ((hV f1 (by omega)) z h18 D (upd M2.1 3 (nI (qt Q2 + 1)), M2.2) (avQ Q2) _ _ hc19 e3 (Nat.le_of_lt hn3)) (rc_X4 (Cx.ok C) (Or.inl X0_20)) rfl rfl (Nat.le_of_ble_eq_true rfl) (by omega) (Nat.zero_le _) (Nat.zero_le _) (fun v21 z21 h21 q21 => ?_)
          obtain ⟨rfl, hq21, M21, pf21, hc21, fr21⟩ := q21; replace hq21 := hq21.symm; subst hq21
          have pg21 := pg19.tr pf21
          have fg21 := fg19.tr fr21
          have X0_22 : h21 (D 0) = some (cMd M21.1 D) := hc21.1.m
          refine cv_X4_178_q (As := [.int (nI (kQ E Q2)), .int (nI lf), .int (nI v1)]) (rest := []) C dX4_sum_50 (ct_X4_node (Cx.fl C) (Cx.ok C) hc21 (s := kQ E Q2) (a := lf) (b := v1) hn3) (rc_X4 (Cx.ok C) (Or.inl X0_22)) rfl rfl (Nat.le_of_ble_eq_true rfl) (by omega) (Nat.zero_le _) (Nat.zero_le _) (fun v23 z23 h23 q23 => ?_)
          obtain ⟨rfl, hq23, M23, pf23, hc23, fr23⟩ := q23; replace hq23 := hq23.symm; subst hq23
          have pg23 := pg21.tr pf23
          have fg23 := fg21.tr fr23
          have X0_24 : h23 (D 0) = some (cMd M23.1 D) := hc23.1.m
          refine ww_istore_n (lv' := [(1, .int (nI ((ndQ (kQ E Q2) lf v1 Q3).1))), (2, .int (nI (kQ E Q2))), (0, .ref (D 0))]) C dX4_sum_53 rfl (by decide) rfl ?_
          refine ww_goto (tgt := 5) C dX4_sum_54 (by decide) ?_
          refine ww_sub [0, 2] rfl ?_
          exact ih (by omega) _ _ M23 h23 hc23 pg23 fg23 e4
  refine ww_aload_n C dX4_sum_0 rfl 0 rfl rfl ?_
  refine cv_X4_196_q (As := []) (rest := []) C dX4_sum_1 ((hV f (Nat.le_refl _)) z h D M Q _ _ hc e1 hn1) (rc_X4 (Cx.ok C) (Or.inl X0_1)) rfl rfl (Nat.le_of_ble_eq_true rfl) (by omega) (Nat.zero_le _) (Nat.zero_le _) (fun v25 z25 h25 q25 => ?_)
  obtain ⟨rfl, hq25, M25, pf25, hc25, fr25⟩ := q25; replace hq25 := hq25.symm; subst hq25
  have pg25 := (PF.rf (M := M)).tr pf25
  have fg25 := (FrD.rf (h := h) (D := D)).tr fr25
  have X0_26 : h25 (D 0) = some (cMd M25.1 D) := hc25.1.m
  refine ww_istore_n (lv' := [(1, .int (nI i1)), (0, .ref (D 0))]) C dX4_sum_4 rfl (by decide) rfl ?_
  exact loop f (Nat.le_refl _) _ _ M25 h25 hc25 pg25 fg25 e2
set_option maxHeartbeats 2000000 in
theorem ct_X4_both {l : Launch} {Γ : Gm} (hl : l.flags = flags0) (hΓ : GOK Γ) {z : ZR} {h : AH} {D : Nat → Nat} {t : TP} {E : PE} {M : MS} {Q : QS} {Q' : QS} {i f : Nat}  (hc : PCx Γ h D t E M Q) (hV : ∀ f1, f1 ≤ f → McV l Γ E t yX4_single cX4_single 2 5 f1 (2 * f1 + 4)) (hm : mm6 E (mm E f) 0 Q = some (i, Q')) (hn : qn Q' ≤ 800) : Ct l Γ yX4_both cX4_both 2 (some .int) (2 * f + 6) 0 0 [.ref (D 0)] z h (Rv (fun v z' h' => v = .int (nI i) ∧ PP Γ z h D t E M Q' z' h')) := by
  refine Ct.of hl hΓ (by decide +kernel) (Nat.le_of_ble_eq_true rfl) (fun X e1 e2 C => ?_)
  subst e1; subst e2
  have C : Cx X cX4_both 2 "RingDominoModel" "both" (some .int) [] (2 * f + 6) := C
  have hK := hc.K
  have hQl := hc.2.2.2.2.1
  show WW X (Rv (fun v z' h' => v = .int (nI i) ∧ PP (xG X) z h D t E M Q' z' h')) z h 0 0 0 [(0, .ref (D 0))] []
  have X0_1 : h (D 0) = some (cMd M.1 D) := hc.1.m
  unfold mm6 at hm
  obtain ⟨i1, Q1, e1, e2⟩ := mB_s hm
  have k1 := mm_k hK _ _ _ _ hQl _ _ e1
  have k2 := mm_k hK _ _ _ _ k1.2.1 _ _ e2
  have hn1 : qn Q1 ≤ 800 := Nat.le_trans k2.2.2.1 hn
  have loop : ∀ f1, f1 ≤ f → ∀ (lf : Nat) (Q2 : QS) (M2 : MS) (h2 : AH), PCx (xG X) h2 D t E M2 Q2 → PF M M2 → FrD h h2 D → mm E f1 7 lf Q2 = some (i, Q') → WW X (Rv (fun v z' h' => v = .int (nI i) ∧ PP (xG X) z h D t E M Q' z' h')) z h2 0 0 5 [(1, .int (nI lf)), (0, .ref (D 0))] [] := by
    intro f1
    induction f1 with
    | zero => intro _ lf Q2 M2 h2 hc2 pf2 fr2 hm2; cases hm2
    | succ f1 ih =>
      intro hf lf Q2 M2 h2 hc2 pf2 fr2 hm2
      have hm2 : mm7 E (mm E f1) lf Q2 = some (i, Q') := hm2
      unfold mm7 at hm2
      have hQ2 := hc2.2.2.2.2.1
      have X0_2 : h2 (D 0) = some (cMd M2.1 D) := hc2.1.m
      refine ww_aload_n C dX4_both_5 rfl 1 rfl rfl ?_
      refine ww_bipush C dX4_both_6 cB_20 ?_
      refine cv_X4_182_q (As := [.int (nI 20)]) (rest := []) C dX4_both_8 (ct_X4_takes (Cx.fl C) (Cx.ok C) hc2 (k := 20) (by decide) (by decide)) (rc_X4 (Cx.ok C) (Or.inl X0_2)) rfl rfl (Nat.le_of_ble_eq_true rfl) (by omega) (Nat.zero_le _) (Nat.zero_le _) (fun v3 z3 h3 q3 => ?_)
      obtain ⟨rfl, hq3, M3, pf3, hc3, fr3⟩ := q3; replace hq3 := hq3.symm; subst hq3
      have pg3 := pf2.tr pf3
      have fg3 := fr2.tr fr3
      have X0_4 : h3 (D 0) = some (cMd M3.1 D) := hc3.1.m
      refine ww_if_eq_b (tgt := 29) C dX4_both_11 (by decide) (fun c_11 => ?_) (fun c_11 => ?_)
      · skip
        rw [if_neg (by rw [c_11]; decide)] at hc3
        rw [c_11] at hm2; cases hm2
        have X0_5 : h3 (D 0) = some (cMd M3.1 D) := hc3.1.m
        refine ww_iload_n C dX4_both_29 rfl 0 rfl ?_
        exact ww_iret C dX4_both_30 ⟨rfl, rfl, M3, pg3, hc3, fg3⟩
      · skip
        rw [if_pos c_11] at hc3
        rw [c_11] at hm2
        have hlt := isQ_lt hK hQ2 (by decide) c_11
        have X0_6 : h3 (D 0) = some (cMd M3.1 D) := hc3.1.m
        obtain ⟨v1, Q3, e3, e4⟩ := mB_s hm2
        have k3 := mm_k hK _ _ _ _ (show qt (avQ Q2) ≤ tl t from hlt) _ _ e3
        have k4 := mm_k hK _ _ _ (ndQ 20 lf v1 Q3).2 k3.2.1 _ _ e4
        have hn3 : qn Q3 < 800 := Nat.le_trans k4.2.2.1 hn
        refine ww_aload_n C dX4_both_14 rfl 1 rfl rfl ?_
        refine ww_bipush C dX4_both_15 cB_20 ?_
        refine ww_iload_n C dX4_both_17 rfl 0 rfl ?_
        refine ww_aload_n C dX4_both_18 rfl 1 rfl rfl ?_
        refine cv_X4_199_q (As := []) (rest := [.int (nI lf), .int (nI 20), .ref (D 0)]) C dX4_both_19 ((hV f1 (by omega)) z h3 D M3 (avQ Q2) _ _ hc3 e3 (Nat.le_of_lt hn3)) (rc_X4 (Cx.ok C) (Or.inl X0_6)) rfl rfl (Nat.le_of_ble_eq_true rfl) (by omega) (Nat.zero_le _) (Nat.zero_le _) (fun v7 z7 h7 q7 => ?_)
        obtain ⟨rfl, hq7, M7, pf7, hc7, fr7⟩ := q7; replace hq7 := hq7.symm; subst hq7
        have pg7 := pg3.tr pf7
        have fg7 := fg3.tr fr7
        have X0_8 : h7 (D 0) = some (cMd M7.1 D) := hc7.1.m
        refine cv_X4_178_q (As := [.int (nI 20), .int (nI lf), .int (nI v1)]) (rest := []) C dX4_both_22 (ct_X4_node (Cx.fl C) (Cx.ok C) hc7 (s := 20) (a := lf) (b := v1) hn3) (rc_X4 (Cx.ok C) (Or.inl X0_8)) rfl rfl (Nat.le_of_ble_eq_true rfl) (by omega) (Nat.zero_le _) (Nat.zero_le _) (fun v9 z9 h9 q9 => ?_)
        obtain ⟨rfl, hq9, M9, pf9, hc9, fr9⟩ := q9; replace hq9 := hq9.symm; subst hq9
        have pg9 := pg7.tr pf9
        have fg9 := fg7.tr fr9
        have X0_10 : h9 (D 0) = some (cMd M9.1 D) := hc9.1.m
        refine ww_istore_n (lv' := [(1, .int (nI ((ndQ 20 lf v1 Q3).1))), (0, .ref (D 0))]) C dX4_both_25 rfl (by decide) rfl ?_
        refine ww_goto (tgt := 5) C dX4_both_26 (by decide) ?_
        exact ih (by omega) _ _ M9 h9 hc9 pg9 fg9 e4
  refine ww_aload_n C dX4_both_0 rfl 0 rfl rfl ?_
  refine cv_X4_199_q (As := []) (rest := []) C dX4_both_1 ((hV f (Nat.le_refl _)) z h D M Q _ _ hc e1 hn1) (rc_X4 (Cx.ok C) (Or.inl X0_1)) rfl rfl (Nat.le_of_ble_eq_true rfl) (by omega) (Nat.zero_le _) (Nat.zero_le _) (fun v11 z11 h11 q11 => ?_)
  obtain ⟨rfl, hq11, M11, pf11, hc11, fr11⟩ := q11; replace hq11 := hq11.symm; subst hq11
  have pg11 := (PF.rf (M := M)).tr pf11
  have fg11 := (FrD.rf (h := h) (D := D)).tr fr11
  have X0_12 : h11 (D 0) = some (cMd M11.1 D) := hc11.1.m
  refine ww_istore_n (lv' := [(1, .int (nI i1)), (0, .ref (D 0))]) C dX4_both_4 rfl (by decide) rfl ?_
  exact loop f (Nat.le_refl _) _ _ M11 h11 hc11 pg11 fg11 e2
set_option maxHeartbeats 2000000 in
theorem ct_X4_test {l : Launch} {Γ : Gm} (hl : l.flags = flags0) (hΓ : GOK Γ) {z : ZR} {h : AH} {D : Nat → Nat} {t : TP} {E : PE} {M : MS} {Q : QS} {Q' : QS} {i f : Nat}  (hc : PCx Γ h D t E M Q) (hV : ∀ f1, f1 ≤ f → McV l Γ E t yX4_both cX4_both 2 6 f1 (2 * f1 + 4)) (hm : mm8 E (mm E f) 0 Q = some (i, Q')) (hn : qn Q' ≤ 800) : Ct l Γ yX4_test cX4_test 2 (some .int) (2 * f + 6) 0 0 [.ref (D 0)] z h (Rv (fun v z' h' => v = .int (nI i) ∧ PP Γ z h D t E M Q' z' h')) := by
  refine Ct.of hl hΓ (by decide +kernel) (Nat.le_of_ble_eq_true rfl) (fun X e1 e2 C => ?_)
  subst e1; subst e2
  have C : Cx X cX4_test 2 "RingDominoModel" "test" (some .int) [] (2 * f + 6) := C
  have hK := hc.K
  have hQl := hc.2.2.2.2.1
  show WW X (Rv (fun v z' h' => v = .int (nI i) ∧ PP (xG X) z h D t E M Q' z' h')) z h 0 0 0 [(0, .ref (D 0))] []
  have X0_1 : h (D 0) = some (cMd M.1 D) := hc.1.m
  unfold mm8 at hm
  obtain ⟨i1, Q1, e1, e2⟩ := mB_s hm
  have k1 := mm_k hK _ _ _ _ hQl _ _ e1
  have k2 := mm_k hK _ _ _ _ k1.2.1 _ _ e2
  have hn1 : qn Q1 ≤ 800 := Nat.le_trans k2.2.2.1 hn
  have loop : ∀ f1, f1 ≤ f → ∀ (lf : Nat) (Q2 : QS) (M2 : MS) (h2 : AH), PCx (xG X) h2 D t E M2 Q2 → PF M M2 → FrD h h2 D → mm E f1 9 lf Q2 = some (i, Q') → WW X (Rv (fun v z' h' => v = .int (nI i) ∧ PP (xG X) z h D t E M Q' z' h')) z h2 0 0 5 [(1, .int (nI lf)), (0, .ref (D 0))] [] := by
    intro f1
    induction f1 with
    | zero => intro _ lf Q2 M2 h2 hc2 pf2 fr2 hm2; cases hm2
    | succ f1 ih =>
      intro hf lf Q2 M2 h2 hc2 pf2 fr2 hm2
      have hm2 : mm9 E (mm E f1) lf Q2 = some (i, Q') := hm2
      unfold mm9 at hm2
      have hQ2 := hc2.2.2.2.2.1
      have X0_2 : h2 (D 0) = some (cMd M2.1 D) := hc2.1.m
      refine ww_aload_n C dX4_test_5 rfl 1 rfl rfl ?_
      refine ww_bipush C dX4_test_6 cB_21 ?_
      refine cv_X4_182_q (As := [.int (nI 21)]) (rest := []) C dX4_test_8 (ct_X4_takes (Cx.fl C) (Cx.ok C) hc2 (k := 21) (by decide) (by decide)) (rc_X4 (Cx.ok C) (Or.inl X0_2)) rfl rfl (Nat.le_of_ble_eq_true rfl) (by omega) (Nat.zero_le _) (Nat.zero_le _) (fun v3 z3 h3 q3 => ?_)
      obtain ⟨rfl, hq3, M3, pf3, hc3, fr3⟩ := q3; replace hq3 := hq3.symm; subst hq3
      have pg3 := pf2.tr pf3
      have fg3 := fr2.tr fr3
      have X0_4 : h3 (D 0) = some (cMd M3.1 D) := hc3.1.m
      refine ww_if_eq_b (tgt := 29) C dX4_test_11 (by decide) (fun c_11 => ?_) (fun c_11 => ?_)
      · skip
        rw [if_neg (by rw [c_11]; decide)] at hc3
        rw [c_11] at hm2; cases hm2
        have X0_5 : h3 (D 0) = some (cMd M3.1 D) := hc3.1.m
        refine ww_iload_n C dX4_test_29 rfl 0 rfl ?_
        exact ww_iret C dX4_test_30 ⟨rfl, rfl, M3, pg3, hc3, fg3⟩
      · skip
        rw [if_pos c_11] at hc3
        rw [c_11] at hm2
        have hlt := isQ_lt hK hQ2 (by decide) c_11
        have X0_6 : h3 (D 0) = some (cMd M3.1 D) := hc3.1.m
        obtain ⟨v1, Q3, e3, e4⟩ := mB_s hm2
        have k3 := mm_k hK _ _ _ _ (show qt (avQ Q2) ≤ tl t from hlt) _ _ e3
        have k4 := mm_k hK _ _ _ (ndQ 21 lf v1 Q3).2 k3.2.1 _ _ e4
        have hn3 : qn Q3 < 800 := Nat.le_trans k4.2.2.1 hn
        refine ww_aload_n C dX4_test_14 rfl 1 rfl rfl ?_
        refine ww_bipush C dX4_test_15 cB_21 ?_
        refine ww_iload_n C dX4_test_17 rfl 0 rfl ?_
        refine ww_aload_n C dX4_test_18 rfl 1 rfl rfl ?_
        refine cv_X4_208_q (As := []) (rest := [.int (nI lf), .int (nI 21), .ref (D 0)]) C dX4_test_19 ((hV f1 (by omega)) z h3 D M3 (avQ Q2) _ _ hc3 e3 (Nat.le_of_lt hn3)) (rc_X4 (Cx.ok C) (Or.inl X0_6)) rfl rfl (Nat.le_of_ble_eq_true rfl) (by omega) (Nat.zero_le _) (Nat.zero_le _) (fun v7 z7 h7 q7 => ?_)
        obtain ⟨rfl, hq7, M7, pf7, hc7, fr7⟩ := q7; replace hq7 := hq7.symm; subst hq7
        have pg7 := pg3.tr pf7
        have fg7 := fg3.tr fr7
        have X0_8 : h7 (D 0) = some (cMd M7.1 D) := hc7.1.m
        refine cv_X4_178_q (As := [.int (nI 21), .int (nI lf), .int (nI v1)]) (rest := []) C dX4_test_22 (ct_X4_node (Cx.fl C) (Cx.ok C) hc7 (s := 21) (a := lf) (b := v1) hn3) (rc_X4 (Cx.ok C) (Or.inl X0_8)) rfl rfl (Nat.le_of_ble_eq_true rfl) (by omega) (Nat.zero_le _) (Nat.zero_le _) (fun v9 z9 h9 q9 => ?_)
        obtain ⟨rfl, hq9, M9, pf9, hc9, fr9⟩ := q9; replace hq9 := hq9.symm; subst hq9
        have pg9 := pg7.tr pf9
        have fg9 := fg7.tr fr9
        have X0_10 : h9 (D 0) = some (cMd M9.1 D) := hc9.1.m
        refine ww_istore_n (lv' := [(1, .int (nI ((ndQ 21 lf v1 Q3).1))), (0, .ref (D 0))]) C dX4_test_25 rfl (by decide) rfl ?_
        refine ww_goto (tgt := 5) C dX4_test_26 (by decide) ?_
        exact ih (by omega) _ _ M9 h9 hc9 pg9 fg9 e4
  refine ww_aload_n C dX4_test_0 rfl 0 rfl rfl ?_
  refine cv_X4_208_q (As := []) (rest := []) C dX4_test_1 ((hV f (Nat.le_refl _)) z h D M Q _ _ hc e1 hn1) (rc_X4 (Cx.ok C) (Or.inl X0_1)) rfl rfl (Nat.le_of_ble_eq_true rfl) (by omega) (Nat.zero_le _) (Nat.zero_le _) (fun v11 z11 h11 q11 => ?_)
  obtain ⟨rfl, hq11, M11, pf11, hc11, fr11⟩ := q11; replace hq11 := hq11.symm; subst hq11
  have pg11 := (PF.rf (M := M)).tr pf11
  have fg11 := (FrD.rf (h := h) (D := D)).tr fr11
  have X0_12 : h11 (D 0) = some (cMd M11.1 D) := hc11.1.m
  refine ww_istore_n (lv' := [(1, .int (nI i1)), (0, .ref (D 0))]) C dX4_test_4 rfl (by decide) rfl ?_
  exact loop f (Nat.le_refl _) _ _ M11 h11 hc11 pg11 fg11 e2
set_option maxHeartbeats 2000000 in
theorem ct_X4_single {l : Launch} {Γ : Gm} (hl : l.flags = flags0) (hΓ : GOK Γ) {z : ZR} {h : AH} {D : Nat → Nat} {t : TP} {E : PE} {M : MS} {Q : QS} {Q' : QS} {i f : Nat}  (hc : PCx Γ h D t E M Q) (hG : McV l Γ E t yX4_single cX4_single 2 5 f (2 * f + 4)) (hT : McV l Γ E t yX4_test cX4_test 2 8 f (2 * f + 4)) (hS : McV l Γ E t yX4_sum cX4_sum 3 3 f (2 * f + 4)) (hm : mm5 E (mm E f) 0 Q = some (i, Q')) (hn : qn Q' ≤ 800) : Ct l Γ yX4_single cX4_single 2 (some .int) (2 * f + 6) 0 0 [.ref (D 0)] z h (Rv (fun v z' h' => v = .int (nI i) ∧ PP Γ z h D t E M Q' z' h')) := by
  refine Ct.of hl hΓ (by decide +kernel) (Nat.le_of_ble_eq_true rfl) (fun X e1 e2 C => ?_)
  subst e1; subst e2
  have C : Cx X cX4_single 2 "RingDominoModel" "single" (some .int) [] (2 * f + 6) := C
  have hK := hc.K
  have hQl := hc.2.2.2.2.1
  show WW X (Rv (fun v z' h' => v = .int (nI i) ∧ PP (xG X) z h D t E M Q' z' h')) z h 0 0 0 [(0, .ref (D 0))] []
  have X0_1 : h (D 0) = some (cMd M.1 D) := hc.1.m
  unfold mm5 at hm
  refine ww_aload_n C dX4_single_0 rfl 0 rfl rfl ?_
  refine ww_bipush C dX4_single_1 cB_19 ?_
  refine cv_X4_129_r (As := [.int (nI 19)]) (rest := []) C dX4_single_3 (ct_X4_is (Cx.fl C) (Cx.ok C) (k := 19) hc (by decide)) (rc_X4 (Cx.ok C) (Or.inl X0_1)) rfl rfl (Nat.le_of_ble_eq_true rfl) (by omega) (Nat.zero_le _) (Nat.zero_le _) ?_
  refine ww_if_eq_b (tgt := 37) C dX4_single_6 (by decide) (fun c_6 => ?_) (fun c_6 => ?_)
  · skip
    rw [c_6] at hm
    have X0_2 : h (D 0) = some (cMd M.1 D) := hc.1.m
    refine ww_aload_n C dX4_single_37 rfl 0 rfl rfl ?_
    refine ww_bipush C dX4_single_38 cB_51 ?_
    refine cv_X4_129_r (As := [.int (nI 51)]) (rest := []) C dX4_single_40 (ct_X4_is (Cx.fl C) (Cx.ok C) (k := 51) hc (by decide)) (rc_X4 (Cx.ok C) (Or.inl X0_2)) rfl rfl (Nat.le_of_ble_eq_true rfl) (by omega) (Nat.zero_le _) (Nat.zero_le _) ?_
    refine ww_if_eq_b (tgt := 73) C dX4_single_43 (by decide) (fun c_43 => ?_) (fun c_43 => ?_)
    · skip
      rw [c_43] at hm
      have X0_3 : h (D 0) = some (cMd M.1 D) := hc.1.m
      refine ww_aload_n C dX4_single_73 rfl 0 rfl rfl ?_
      refine ww_bipush C dX4_single_74 cB_17 ?_
      refine cv_X4_182_q (As := [.int (nI 17)]) (rest := []) C dX4_single_76 (ct_X4_takes (Cx.fl C) (Cx.ok C) hc (k := 17) (by decide) (by decide)) (rc_X4 (Cx.ok C) (Or.inl X0_3)) rfl rfl (Nat.le_of_ble_eq_true rfl) (by omega) (Nat.zero_le _) (Nat.zero_le _) (fun v4 z4 h4 q4 => ?_)
      obtain ⟨rfl, hq4, M4, pf4, hc4, fr4⟩ := q4; replace hq4 := hq4.symm; subst hq4
      have pg4 := (PF.rf (M := M)).tr pf4
      have fg4 := (FrD.rf (h := h) (D := D)).tr fr4
      have X0_5 : h4 (D 0) = some (cMd M4.1 D) := hc4.1.m
      refine ww_if_eq_b (tgt := 94) C dX4_single_79 (by decide) (fun c_79 => ?_) (fun c_79 => ?_)
      · skip
        rw [c_79] at hm
        rw [if_neg (by rw [c_79]; decide)] at hc4
        have X0_6 : h4 (D 0) = some (cMd M4.1 D) := hc4.1.m
        refine ww_aload_n C dX4_single_94 rfl 0 rfl rfl ?_
        refine ww_bipush C dX4_single_95 cB_18 ?_
        refine cv_X4_182_q (As := [.int (nI 18)]) (rest := []) C dX4_single_97 (ct_X4_takes (Cx.fl C) (Cx.ok C) hc4 (k := 18) (by decide) (by decide)) (rc_X4 (Cx.ok C) (Or.inl X0_6)) rfl rfl (Nat.le_of_ble_eq_true rfl) (by omega) (Nat.zero_le _) (Nat.zero_le _) (fun v7 z7 h7 q7 => ?_)
        obtain ⟨rfl, hq7, M7, pf7, hc7, fr7⟩ := q7; replace hq7 := hq7.symm; subst hq7
        have pg7 := pg4.tr pf7
        have fg7 := fg4.tr fr7
        have X0_8 : h7 (D 0) = some (cMd M7.1 D) := hc7.1.m
        refine ww_if_eq_b (tgt := 117) C dX4_single_100 (by decide) (fun c_100 => ?_) (fun c_100 => ?_)
        · skip
          rw [c_100] at hm
          rw [if_neg (by rw [c_100]; decide)] at hc7
          have X0_9 : h7 (D 0) = some (cMd M7.1 D) := hc7.1.m
          refine ww_aload_n C dX4_single_117 rfl 0 rfl rfl ?_
          refine cv_X4_205_q (As := []) (rest := []) C dX4_single_118 (ct_X4_comparison (Cx.fl C) (Cx.ok C) hc7 hS hm hn) (rc_X4 (Cx.ok C) (Or.inl X0_9)) rfl rfl (Nat.le_of_ble_eq_true rfl) (by omega) (Nat.zero_le _) (Nat.zero_le _) (fun v9 z9 h9 q9 => ?_)
          obtain ⟨rfl, hq9, M9, pf9, hc9, fr9⟩ := q9; replace hq9 := hq9.symm; subst hq9
          exact ww_iret C dX4_single_121 ⟨rfl, rfl, M9, pg7.tr pf9, hc9, fg7.tr fr9⟩
        · skip
          rw [c_100] at hm; cases hm
          rw [if_pos c_100] at hc7
          have X0_10 : h7 (D 0) = some (cMd M7.1 D) := hc7.1.m
          refine ww_aload_n C dX4_single_103 rfl 0 rfl rfl ?_
          refine ww_bipush C dX4_single_104 cB_18 ?_
          refine ww_aload_n C dX4_single_106 rfl 0 rfl rfl ?_
          refine cv_X4_185_q (As := []) (rest := [.int (nI 18), .ref (D 0)]) C dX4_single_107 (ct_X4_name (Cx.fl C) (Cx.ok C) hc7 ) (rc_X4 (Cx.ok C) (Or.inl X0_10)) rfl rfl (Nat.le_of_ble_eq_true rfl) (by omega) (Nat.zero_le _) (Nat.zero_le _) (fun v11 z11 h11 q11 => ?_)
          obtain ⟨rfl, hq11, M11, pf11, hc11, fr11⟩ := q11; replace hq11 := hq11.symm; subst hq11
          have pg11 := pg7.tr pf11
          have fg11 := fg7.tr fr11
          have X0_12 : h11 (D 0) = some (cMd M11.1 D) := hc11.1.m
          refine ww_iconst C dX4_single_110 cI_0 ?_
          refine cv_X4_178_q (As := [.int (nI 18), .int (nI ((nmQ E (avQ Q)).1)), .int (nI 0)]) (rest := []) C dX4_single_111 (ct_X4_node (Cx.fl C) (Cx.ok C) hc11 (s := 18) (a := (nmQ E (avQ Q)).1) (b := 0) hn) (rc_X4 (Cx.ok C) (Or.inl X0_12)) rfl rfl (Nat.le_of_ble_eq_true rfl) (by omega) (Nat.zero_le _) (Nat.zero_le _) (fun v13 z13 h13 q13 => ?_)
          obtain ⟨rfl, hq13, M13, pf13, hc13, fr13⟩ := q13; replace hq13 := hq13.symm; subst hq13
          have pg13 := pg11.tr pf13
          have fg13 := fg11.tr fr13
          have X0_14 : h13 (D 0) = some (cMd M13.1 D) := hc13.1.m
          refine ww_goto (tgt := 121) C dX4_single_114 (by decide) ?_
          exact ww_iret C dX4_single_121 ⟨rfl, ⟨rfl, M13, pg13, hc13, fg13⟩⟩
      · skip
        rw [c_79] at hm; cases hm
        rw [if_pos c_79] at hc4
        have X0_15 : h4 (D 0) = some (cMd M4.1 D) := hc4.1.m
        refine ww_aload_n C dX4_single_82 rfl 0 rfl rfl ?_
        refine ww_bipush C dX4_single_83 cB_17 ?_
        refine ww_aload_n C dX4_single_85 rfl 0 rfl rfl ?_
        refine cv_X4_185_q (As := []) (rest := [.int (nI 17), .ref (D 0)]) C dX4_single_86 (ct_X4_name (Cx.fl C) (Cx.ok C) hc4 ) (rc_X4 (Cx.ok C) (Or.inl X0_15)) rfl rfl (Nat.le_of_ble_eq_true rfl) (by omega) (Nat.zero_le _) (Nat.zero_le _) (fun v16 z16 h16 q16 => ?_)
        obtain ⟨rfl, hq16, M16, pf16, hc16, fr16⟩ := q16; replace hq16 := hq16.symm; subst hq16
        have pg16 := pg4.tr pf16
        have fg16 := fg4.tr fr16
        have X0_17 : h16 (D 0) = some (cMd M16.1 D) := hc16.1.m
        refine ww_iconst C dX4_single_89 cI_0 ?_
        refine cv_X4_178_q (As := [.int (nI 17), .int (nI ((nmQ E (avQ Q)).1)), .int (nI 0)]) (rest := []) C dX4_single_90 (ct_X4_node (Cx.fl C) (Cx.ok C) hc16 (s := 17) (a := (nmQ E (avQ Q)).1) (b := 0) hn) (rc_X4 (Cx.ok C) (Or.inl X0_17)) rfl rfl (Nat.le_of_ble_eq_true rfl) (by omega) (Nat.zero_le _) (Nat.zero_le _) (fun v18 z18 h18 q18 => ?_)
        obtain ⟨rfl, hq18, M18, pf18, hc18, fr18⟩ := q18; replace hq18 := hq18.symm; subst hq18
        have pg18 := pg16.tr pf18
        have fg18 := fg16.tr fr18
        have X0_19 : h18 (D 0) = some (cMd M18.1 D) := hc18.1.m
        exact ww_iret C dX4_single_93 ⟨rfl, ⟨rfl, M18, pg18, hc18, fg18⟩⟩
    · skip
      rw [c_43] at hm
      have hlt := isQ_lt hK hQl (by decide) c_43
      have hw : qw Q = false := (isQ_t c_43).1
      obtain ⟨i1, Q1, e1, e2⟩ := mB_s hm; cases e2
      have dd := qD.dp hlt
      have k1 := mm_k hK _ _ _ _ dd.2.1 _ _ e1
      have k2 := qK.tk hK (k := 52) (by decide) k1.2.1
      have hn1 : qn Q1 ≤ 800 := Nat.le_trans k2.2.2.1 hn
      have X0_20 : h (D 0) = some (cMd M.1 D) := hc.1.m
      refine ww_aload_n C dX4_single_46 rfl 0 rfl rfl ?_
      refine cv_X4_172_q (As := []) (rest := []) C dX4_single_47 (ct_X4_deeper (Cx.fl C) (Cx.ok C) hc hw hlt) (rc_X4 (Cx.ok C) (Or.inl X0_20)) rfl rfl (Nat.le_of_ble_eq_true rfl) (by omega) (Nat.zero_le _) (Nat.zero_le _) (fun z21 h21 q21 => ?_)
      obtain ⟨hq21, M21, pf21, hc21, fr21⟩ := q21; replace hq21 := hq21.symm; subst hq21
      have pg21 := (PF.rf (M := M)).tr pf21
      have fg21 := (FrD.rf (h := h) (D := D)).tr fr21
      have X0_22 : h21 (D 0) = some (cMd M21.1 D) := hc21.1.m
      refine ww_aload_n C dX4_single_50 rfl 0 rfl rfl ?_
      refine cv_X4_202_q (As := []) (rest := []) C dX4_single_51 (hT z h21 D M21 (dpQ Q) _ _ hc21 e1 hn1) (rc_X4 (Cx.ok C) (Or.inl X0_22)) rfl rfl (Nat.le_of_ble_eq_true rfl) (by omega) (Nat.zero_le _) (Nat.zero_le _) (fun v23 z23 h23 q23 => ?_)
      obtain ⟨rfl, hq23, M23, pf23, hc23, fr23⟩ := q23; replace hq23 := hq23.symm; subst hq23
      have pg23 := pg21.tr pf23
      have fg23 := fg21.tr fr23
      have X0_24 : h23 (D 0) = some (cMd M23.1 D) := hc23.1.m
      refine ww_istore_n (lv' := [(1, .int (nI i)), (0, .ref (D 0))]) C dX4_single_54 rfl (by decide) rfl ?_
      refine ww_aload_n C dX4_single_55 rfl 1 rfl rfl ?_
      refine ww_bipush C dX4_single_56 cB_52 ?_
      refine cv_X4_164_q (As := [.int (nI 52)]) (rest := []) C dX4_single_58 (ct_X4_take (Cx.fl C) (Cx.ok C) hc23 (k := 52) (by decide) (by decide)) (rc_X4 (Cx.ok C) (Or.inl X0_24)) rfl rfl (Nat.le_of_ble_eq_true rfl) (by omega) (Nat.zero_le _) (Nat.zero_le _) (fun z25 h25 q25 => ?_)
      obtain ⟨hq25, M25, pf25, hc25, fr25⟩ := q25; replace hq25 := hq25.symm; subst hq25
      have pg25 := pg23.tr pf25
      have fg25 := fg23.tr fr25
      have X0_26 : h25 (D 0) = some (cMd M25.1 D) := hc25.1.m
      refine ww_aload_n C dX4_single_61 rfl 1 rfl rfl ?_
      refine ww_dup C dX4_single_62 rfl ?_
      have hup : 1 ≤ qd (tkQ E 52 Q1) := by have := (dd.tr (k1.tr k2)).2.2.2.1; omega
      refine gf_X4_135_X4 C dX4_single_63 (Or.inl X0_26) rfl ?_
      refine ww_st (st' := [.int (nI (qd (tkQ E 52 Q1))), .ref (D 0)]) (by rw [show M25.1 7 = nI (qd (tkQ E 52 Q1)) from hc25.2.1.1.2.2.2.2]) ?_
      refine ww_iconst C dX4_single_66 cI_1 ?_
      refine ww_isubn C dX4_single_67 (by omega) ?_
      refine pf_X4_135_X4 (fs' := [.int (M25.1 0), .ref (D 1), .int (M25.1 1), .int (M25.1 2), .ref (D 2), .ref (D 3), .ref (D 4), .ref (D 5), .int (M25.1 3), .int (M25.1 4), .int (M25.1 5), .int (M25.1 6), .int (nI ((qd (tkQ E 52 Q1)) - 1)), .ref (D 6), .ref (D 7), .ref (D 8), .ref (D 9), .ref (D 10), .ref (D 11), .ref (D 12), .ref (D 13), .int (M25.1 8), .int (M25.1 9), .int (M25.1 10)]) C dX4_single_68 X0_26 rfl rfl (Nat.le_of_ble_eq_true rfl) rfl ?_
      refine ww_gen (fun h27 hE27 => ?_)
      have X0_26_h27 : h27 (D 0) = some (.inr (3, [.int (M25.1 0), .ref (D 1), .int (M25.1 1), .int (M25.1 2), .ref (D 2), .ref (D 3), .ref (D 4), .ref (D 5), .int (M25.1 3), .int (M25.1 4), .int (M25.1 5), .int (M25.1 6), .int (nI ((qd (tkQ E 52 Q1)) - 1)), .ref (D 6), .ref (D 7), .ref (D 8), .ref (D 9), .ref (D 10), .ref (D 11), .ref (D 12), .ref (D 13), .int (M25.1 8), .int (M25.1 9), .int (M25.1 10)])) := by rw [hE27]; exact up_s
      have hX28 : Mx (xG X) h27 D (upd M25.1 7 (nI (qd (tkQ E 52 Q1) - 1)), M25.2) := by rw [hE27]; exact Mx.i hc25.1 (j := 7) (Or.inl (by decide)) rfl
      have pf28 : PF M25 (upd M25.1 7 (nI (qd (tkQ E 52 Q1) - 1)), M25.2) := PF.rf.i (by omega)
      have hc28 : PCx (xG X) h27 D t E (upd M25.1 7 (nI (qd (tkQ E 52 Q1) - 1)), M25.2) (upQ (tkQ E 52 Q1)) := PCx.god hc25 pf28 hX28 (VQ.up hc25.2.1) hc25.2.2.2.2.1 rfl id hc25.2.2.2.2.2.2.2.2.2.2.1 ⟨Nat.le_trans (Nat.sub_le _ _) hc25.2.2.2.2.2.2.2.2.2.2.2.1, fun _ => by show qd (tkQ E 52 Q1) - 1 ≤ 8; have := hc25.2.2.2.2.2.2.2.2.2.2.2.1; omega⟩
      have pg28 := pg25.tr pf28
      have fg28 : FrD h h27 D := by rw [hE27]; exact FrD.w fg25 (i := 0) (by decide)
      have X0_29 : h27 (D 0) = some (cMd (upd M25.1 7 (nI (qd (tkQ E 52 Q1) - 1)), M25.2).1 D) := hc28.1.m
      refine ww_iload_n C dX4_single_71 rfl 0 rfl ?_
      exact ww_iret C dX4_single_72 ⟨rfl, ⟨rfl, (upd M25.1 7 (nI (qd (tkQ E 52 Q1) - 1)), M25.2), pg28, hc28, fg28⟩⟩
  · skip
    rw [c_6] at hm
    have hlt := isQ_lt hK hQl (by decide) c_6
    have hw : qw Q = false := (isQ_t c_6).1
    obtain ⟨i1, Q1, e1, e2⟩ := mB_s hm; cases e2
    have dd := qD.dp hlt
    have k1 := mm_k hK _ _ _ _ dd.2.1 _ _ e1
    have hn1 : qn Q1 < 800 := hn
    have X0_30 : h (D 0) = some (cMd M.1 D) := hc.1.m
    refine ww_aload_n C dX4_single_9 rfl 0 rfl rfl ?_
    refine cv_X4_172_q (As := []) (rest := []) C dX4_single_10 (ct_X4_deeper (Cx.fl C) (Cx.ok C) hc hw hlt) (rc_X4 (Cx.ok C) (Or.inl X0_30)) rfl rfl (Nat.le_of_ble_eq_true rfl) (by omega) (Nat.zero_le _) (Nat.zero_le _) (fun z31 h31 q31 => ?_)
    obtain ⟨hq31, M31, pf31, hc31, fr31⟩ := q31; replace hq31 := hq31.symm; subst hq31
    have pg31 := (PF.rf (M := M)).tr pf31
    have fg31 := (FrD.rf (h := h) (D := D)).tr fr31
    have X0_32 : h31 (D 0) = some (cMd M31.1 D) := hc31.1.m
    refine ww_aload_n C dX4_single_13 rfl 0 rfl rfl ?_
    refine cv_X4_199_q (As := []) (rest := []) C dX4_single_14 (hG z h31 D M31 (dpQ Q) _ _ hc31 e1 (Nat.le_of_lt hn1)) (rc_X4 (Cx.ok C) (Or.inl X0_32)) rfl rfl (Nat.le_of_ble_eq_true rfl) (by omega) (Nat.zero_le _) (Nat.zero_le _) (fun v33 z33 h33 q33 => ?_)
    obtain ⟨rfl, hq33, M33, pf33, hc33, fr33⟩ := q33; replace hq33 := hq33.symm; subst hq33
    have pg33 := pg31.tr pf33
    have fg33 := fg31.tr fr33
    have X0_34 : h33 (D 0) = some (cMd M33.1 D) := hc33.1.m
    refine ww_istore_n (lv' := [(1, .int (nI i1)), (0, .ref (D 0))]) C dX4_single_17 rfl (by decide) rfl ?_
    refine ww_aload_n C dX4_single_18 rfl 1 rfl rfl ?_
    refine ww_dup C dX4_single_19 rfl ?_
    have hup : 1 ≤ qd Q1 := by have := (dd.tr k1).2.2.2.1; omega
    refine gf_X4_135_X4 C dX4_single_20 (Or.inl X0_34) rfl ?_
    refine ww_st (st' := [.int (nI (qd Q1)), .ref (D 0)]) (by rw [show M33.1 7 = nI (qd Q1) from hc33.2.1.1.2.2.2.2]) ?_
    refine ww_iconst C dX4_single_23 cI_1 ?_
    refine ww_isubn C dX4_single_24 (by omega) ?_
    refine pf_X4_135_X4 (fs' := [.int (M33.1 0), .ref (D 1), .int (M33.1 1), .int (M33.1 2), .ref (D 2), .ref (D 3), .ref (D 4), .ref (D 5), .int (M33.1 3), .int (M33.1 4), .int (M33.1 5), .int (M33.1 6), .int (nI ((qd Q1) - 1)), .ref (D 6), .ref (D 7), .ref (D 8), .ref (D 9), .ref (D 10), .ref (D 11), .ref (D 12), .ref (D 13), .int (M33.1 8), .int (M33.1 9), .int (M33.1 10)]) C dX4_single_25 X0_34 rfl rfl (Nat.le_of_ble_eq_true rfl) rfl ?_
    refine ww_gen (fun h35 hE35 => ?_)
    have X0_34_h35 : h35 (D 0) = some (.inr (3, [.int (M33.1 0), .ref (D 1), .int (M33.1 1), .int (M33.1 2), .ref (D 2), .ref (D 3), .ref (D 4), .ref (D 5), .int (M33.1 3), .int (M33.1 4), .int (M33.1 5), .int (M33.1 6), .int (nI ((qd Q1) - 1)), .ref (D 6), .ref (D 7), .ref (D 8), .ref (D 9), .ref (D 10), .ref (D 11), .ref (D 12), .ref (D 13), .int (M33.1 8), .int (M33.1 9), .int (M33.1 10)])) := by rw [hE35]; exact up_s
    have hX36 : Mx (xG X) h35 D (upd M33.1 7 (nI (qd Q1 - 1)), M33.2) := by rw [hE35]; exact Mx.i hc33.1 (j := 7) (Or.inl (by decide)) rfl
    have pf36 : PF M33 (upd M33.1 7 (nI (qd Q1 - 1)), M33.2) := PF.rf.i (by omega)
    have hc36 : PCx (xG X) h35 D t E (upd M33.1 7 (nI (qd Q1 - 1)), M33.2) (upQ Q1) := PCx.god hc33 pf36 hX36 (VQ.up hc33.2.1) hc33.2.2.2.2.1 rfl id hc33.2.2.2.2.2.2.2.2.2.2.1 ⟨Nat.le_trans (Nat.sub_le _ _) hc33.2.2.2.2.2.2.2.2.2.2.2.1, fun _ => by show qd Q1 - 1 ≤ 8; have := hc33.2.2.2.2.2.2.2.2.2.2.2.1; omega⟩
    have pg36 := pg33.tr pf36
    have fg36 : FrD h h35 D := by rw [hE35]; exact FrD.w fg33 (i := 0) (by decide)
    have X0_37 : h35 (D 0) = some (cMd (upd M33.1 7 (nI (qd Q1 - 1)), M33.2).1 D) := hc36.1.m
    refine ww_aload_n C dX4_single_28 rfl 1 rfl rfl ?_
    refine ww_bipush C dX4_single_29 cB_19 ?_
    refine ww_iload_n C dX4_single_31 rfl 0 rfl ?_
    refine ww_iconst C dX4_single_32 cI_0 ?_
    refine cv_X4_178_q (As := [.int (nI 19), .int (nI i1), .int (nI 0)]) (rest := []) C dX4_single_33 (ct_X4_node (Cx.fl C) (Cx.ok C) hc36 (s := 19) (a := i1) (b := 0) hn1) (rc_X4 (Cx.ok C) (Or.inl X0_37)) rfl rfl (Nat.le_of_ble_eq_true rfl) (by omega) (Nat.zero_le _) (Nat.zero_le _) (fun v38 z38 h38 q38 => ?_)
    obtain ⟨rfl, hq38, M38, pf38, hc38, fr38⟩ := q38; replace hq38 := hq38.symm; subst hq38
    have pg38 := pg36.tr pf38
    have fg38 := fg36.tr fr38
    have X0_39 : h38 (D 0) = some (cMd M38.1 D) := hc38.1.m
    exact ww_iret C dX4_single_36 ⟨rfl, ⟨rfl, M38, pg38, hc38, fg38⟩⟩
theorem mc_all {l : Launch} {Γ : Gm} (hl : l.flags = flags0) (hΓ : GOK Γ) {E : PE} {t : TP} : ∀ n f, f ≤ n → (McV l Γ E t yX4_value cX4_value 2 0) f (2 * f + 4) ∧ (McV l Γ E t yX4_product cX4_product 3 1) f (2 * f + 4) ∧ (McV l Γ E t yX4_sum cX4_sum 3 3) f (2 * f + 4) ∧ (McV l Γ E t yX4_single cX4_single 2 5) f (2 * f + 4) ∧ (McV l Γ E t yX4_both cX4_both 2 6) f (2 * f + 4) ∧ (McV l Γ E t yX4_test cX4_test 2 8) f (2 * f + 4) := by
  intro n
  induction n with
  | zero =>
    intro f hf
    have : f = 0 := by omega
    subst this
    exact ⟨(fun _ _ _ _ _ _ _ _ h => by cases h), (fun _ _ _ _ _ _ _ _ h => by cases h), (fun _ _ _ _ _ _ _ _ h => by cases h), (fun _ _ _ _ _ _ _ _ h => by cases h), (fun _ _ _ _ _ _ _ _ h => by cases h), (fun _ _ _ _ _ _ _ _ h => by cases h)⟩
  | succ n ih =>
    intro f hf
    cases f with
    | zero => exact ih 0 (Nat.zero_le _)
    | succ f =>
      have a := ih f (by omega)
      exact ⟨fun z h D M Q i Q' hc hm hn => ct_X4_value hl hΓ hc a.1 a.2.2.1 hm hn, fun z h D M Q i Q' hc hm hn => ct_X4_product hl hΓ hc (fun f1 h1 => (ih f1 (by omega)).1) hm hn, fun z h D M Q i Q' hc hm hn => ct_X4_sum hl hΓ hc (fun f1 h1 => (ih f1 (by omega)).2.1) hm hn, fun z h D M Q i Q' hc hm hn => ct_X4_single hl hΓ hc a.2.2.2.1 a.2.2.2.2.2 a.2.2.1 hm hn, fun z h D M Q i Q' hc hm hn => ct_X4_both hl hΓ hc (fun f1 h1 => (ih f1 (by omega)).2.2.2.1) hm hn, fun z h D M Q i Q' hc hm hn => ct_X4_test hl hΓ hc (fun f1 h1 => (ih f1 (by omega)).2.2.2.2.1) hm hn⟩
end MO20
