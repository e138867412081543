section MO27
set_option maxRecDepth 100000
def q0Q : QS := ((0, false, 0, 0, 0), ((0, 0), (fun _ _ => 0), fun _ => none), ((5, 5, 0), (fun _ _ => 0), fun _ => 0))
/-- the new board -/
def nwB (Q : QS) : GB := ((Q.2.2.1.1, Q.2.2.1.2.1, qk Q), Q.2.2.2.1, (fun _ => 0), (fun _ => none), fun _ => 0)
/-- told and now stay -/
def Mtc (M M' : MS) : Prop := (∀ j, ((20 ≤ j ∧ j < 25) ∨ j = 30 ∨ j = 31) → M'.1 j = M.1 j) ∧ ∀ i, ((20 ≤ i ∧ i < 30) ∨ (40 ≤ i ∧ i < 43)) → M'.2.1 i = M.2.1 i
theorem Mtc.of {M M3 M4 : MS} {v w : Int32} (s : SFa (begT (upd (upd (upd (upd (upd M.1 0 (nI 0)) 3 (nI 0)) 4 (nI 0)) 5 (nI 0)) 7 (nI 0), M.2)) M3) (p : PG M3 M4) : Mtc M (upd (upd M4.1 1 v) 2 w, M4.2) := by
  refine ⟨fun j hj => ?_, fun i hi => ?_⟩
  · show upd (upd M4.1 1 v) 2 w j = _
    rw [upd_ne (by omega), upd_ne (by omega), p.1 j (by omega), s.1]
    show upd (upd (upd (upd (upd (upd (upd (upd (upd (upd M.1 0 _) 3 _) 4 _) 5 _) 7 _) 25 _) 26 _) 27 _) 28 _) 29 _ j = _
    rw [upd_ne (by omega), upd_ne (by omega), upd_ne (by omega), upd_ne (by omega), upd_ne (by omega), upd_ne (by omega), upd_ne (by omega), upd_ne (by omega), upd_ne (by omega), upd_ne (by omega)]
  · show M4.2.1 i = _
    rw [p.2.1 i (by omega), s.2.1 i (by omega)]
    rfl
theorem PCx.q0 {Γ : Gm} {h : AH} {D : Nat → Nat} {t : TP} {M : MS} (hX : Mx Γ h D M) (hk : TkV M t) (ht : TPo t) (h3 : M.1 3 = nI 0) (h4 : M.1 4 = nI 0) (h5 : M.1 5 = nI 0) (h7 : M.1 7 = nI 0) (h25 : M.1 25 = nI 5) (h26 : M.1 26 = nI 5) (h27 : M.1 27 = nI 0) (h28 : M.1 28 = nI 0) (h29 : M.1 29 = nI 0) : PCx Γ h D t (envQ t q0Q.2.2) M q0Q :=
  ⟨hX, ⟨⟨h3, h4, h5, fun q => absurd rfl q, h7⟩, ⟨h27, h28, h29⟩, fun _ => ⟨h25, h26, fun _ _ q => absurd q (Nat.not_lt_zero _), fun _ q => absurd q (Nat.not_lt_zero _), fun _ _ _ q => absurd q (Nat.not_lt_zero _), fun _ _ q => absurd q (Nat.not_lt_zero _), fun _ q => absurd q (Nat.not_lt_zero _), fun _ _ _ q => absurd q (Nat.not_lt_zero _)⟩⟩, hk, rfl, Nat.zero_le _, ht, fun _ _ q => absurd q (Nat.not_lt_zero _), Nat.zero_le _, Nat.zero_le _, Nat.zero_le _, ⟨Nat.zero_le _, (fun q => by cases q), fun q => absurd rfl q⟩, Nat.zero_le _, fun _ => Nat.zero_le _⟩
theorem plN_nw {Q : QS} : plN (nwB Q) = 0 := by
  unfold plN
  have : ∀ n, cnt (fun x => hasT (nwB Q) (some x)) n = 0 := by
    intro n
    induction n with
    | zero => rfl
    | succ n ih =>
      show cnt _ n + (if hasT (nwB Q) (some n) then 1 else 0) = 0
      rw [ih]; rfl
  exact this _
theorem te_fin {Γ : Gm} {z : ZR} {h h4 h9 : AH} {D : Nat → Nat} {t : TP} {M M3 M4 : MS} {I0 : Nat → Int32} {Q' : QS} {fa fb : Nat → Int32} (he : qe Q' = 0) (p : PG M3 M4) (hI : ∀ j, M3.1 j = (begT (I0, M.2)).1 j) (h0 : Mx Γ h4 D M4) (hT : VT M4 Q') (w7 : M4.1 28 = nI (qo Q')) (w6 : M4.1 27 = nI (qk Q')) (w8 : M4.1 29 = nI (qn Q')) (hX : Mx Γ h9 D ((begS (becT (upd (upd M4.1 1 (nI 0)) 2 (-1), M4.2)) fa fb).1, va_up (va_up (begS (becT (upd (upd M4.1 1 (nI 0)) 2 (-1), M4.2)) fa fb).2.1 40 (fun _ => -1)) 41 (fun _ => -1), M4.2.2)) (hf : FrD h h9 D) (hi0 : I0 0 = nI 0 := by rfl) : (fun (v : Value) (z' : ZR) (h' : AH) => v = .int (nI (qe Q')) ∧ z' = z ∧ ∃ M', (M'.1 0 = nI 0 ∧ M'.1 1 = nI 0 ∧ M'.1 2 = (if qe Q' = 0 then -1 else nI (tP t (qf Q')))) ∧ (qe Q' ≠ 0 → Mtc M M') ∧ (qe Q' = 0 → MBd M' 30 40 (nwB Q') ∧ M'.1 31 = nI 0 ∧ TdP M' Q'.2.1) ∧ Mx Γ h' D M' ∧ FrD h h' D) (.int (nI 0)) z h9 := by
  obtain ⟨t1, t2, t3, t4, t5, t6, t7, t8⟩ := hT
  refine ⟨by rw [he], rfl, ((begS (becT (upd (upd M4.1 1 (nI 0)) 2 (-1), M4.2)) fa fb).1, va_up (va_up (begS (becT (upd (upd M4.1 1 (nI 0)) 2 (-1), M4.2)) fa fb).2.1 40 (fun _ => -1)) 41 (fun _ => -1), M4.2.2), ⟨?_, rfl, by rw [if_pos he]; rfl⟩, fun q => absurd he q, fun _ => ⟨⟨t1, t2, w6, t3, ?_, ?_, rfl, (fun k x q => by cases q)⟩, rfl, ⟨w7, fun i k hi hk => ?_, t6, t7, fun i k hi hk => ?_⟩⟩, hX, hf⟩
  · show M4.1 0 = nI 0
    rw [p.1 0 (by omega), hI 0]
    exact hi0
  · rw [plN_nw]; rfl
  · show (fun _ => (-1 : Int32)) = fun x => oI (atO (nwB Q') x)
    funext x; rfl
  · rcases hi with rfl | rfl | rfl | rfl
    · exact t5 21 k (by decide) hk
    · exact t5 22 k (by decide) hk
    · exact t5 23 k (by decide) hk
    · exact t5 24 k (by decide) hk
  · rcases hi with rfl | rfl | rfl
    · exact t8 27 k (by decide) hk
    · exact t8 28 k (by decide) hk
    · exact t8 29 k (by decide) hk
set_option maxHeartbeats 2000000 in
theorem ct_X4_teach {l : Launch} {Γ : Gm} (hl : l.flags = flags0) (hΓ : GOK Γ) {z : ZR} {h : AH} {D : Nat → Nat} {t : TP} {M : MS} {Q' : QS} {f g : Nat} (hz : zle (cst Γ) z) (hX : Mx Γ h D M) (hv : TpV M t) (ht : TPo t) (hg : gaQ t f g q0Q = some Q') (hn : qn Q' ≤ 800) : Ct l Γ yX4_teach cX4_teach 1 (some .int) (2 * f + 20) 0 0 [.ref (D 0)] z h (Rv (fun v z' h' => v = .int (nI (qe Q')) ∧ z' = z ∧ ∃ M', (M'.1 0 = nI 0 ∧ M'.1 1 = nI 0 ∧ M'.1 2 = (if qe Q' = 0 then -1 else nI (tP t (qf Q')))) ∧ (qe Q' ≠ 0 → Mtc M M') ∧ (qe Q' = 0 → MBd M' 30 40 (nwB Q') ∧ M'.1 31 = nI 0 ∧ TdP M' Q'.2.1) ∧ Mx Γ h' D M' ∧ FrD h h' D)) := by
  refine Ct.of hl hΓ (by decide +kernel) (Nat.le_of_ble_eq_true rfl) (fun X e1 e2 C => ?_)
  subst e1; subst e2
  have C : Cx X cX4_teach 1 "RingDominoModel" "teach" (some .int) [] (2 * f + 20) := C
  obtain ⟨v1, v2⟩ := id hv
  have h20 := ht.1
  show WW X (Rv (fun v z' h' => v = .int (nI (qe Q')) ∧ z' = z ∧ ∃ M', (M'.1 0 = nI 0 ∧ M'.1 1 = nI 0 ∧ M'.1 2 = (if qe Q' = 0 then -1 else nI (tP t (qf Q')))) ∧ (qe Q' ≠ 0 → Mtc M M') ∧ (qe Q' = 0 → MBd M' 30 40 (nwB Q') ∧ M'.1 31 = nI 0 ∧ TdP M' Q'.2.1) ∧ Mx (xG X) h' D M' ∧ FrD h h' D)) z h 0 0 0 [(0, .ref (D 0))] []
  have X0 : h (D 0) = some (cMd M.1 D) := hX.m
  have X8 : h (D 8) = some (cTd (M.1 25) (M.1 26) (M.1 27) (M.1 28) (M.1 29) (fun i => D (30 + i))) := hX.1 8 (by decide)
  refine ww_aload_n C dX4_teach_0 rfl 0 rfl rfl ?_
  refine ww_iconst C dX4_teach_1 cI_0 ?_
  refine pf_X4_65_X4 (fs' := [.int (nI 0), .ref (D 1), .int (M.1 1), .int (M.1 2), .ref (D 2), .ref (D 3), .ref (D 4), .ref (D 5), .int (M.1 3), .int (M.1 4), .int (M.1 5), .int (M.1 6), .int (M.1 7), .ref (D 6), .ref (D 7), .ref (D 8), .ref (D 9), .ref (D 10), .ref (D 11), .ref (D 12), .ref (D 13), .int (M.1 8), .int (M.1 9), .int (M.1 10)]) C dX4_teach_2 X0 rfl rfl (Nat.le_of_ble_eq_true rfl) rfl ?_
  refine ww_gen (fun h1 hE1 => ?_)
  have X8_h1 : h1 (D 8) = some (.inr (4, [.int (M.1 25), .int (M.1 26), .int (M.1 27), .ref (D 30), .int (M.1 28), .ref (D 31), .ref (D 32), .ref (D 33), .ref (D 34), .ref (D 35), .ref (D 36), .int (M.1 29), .ref (D 37), .ref (D 38), .ref (D 39)])) := by rw [hE1, up_n (Ne.symm (fun q => by cases hX.2 0 8 (by decide) (by decide) q))]; exact X8
  have X0_h1 : h1 (D 0) = some (.inr (3, [.int (nI 0), .ref (D 1), .int (M.1 1), .int (M.1 2), .ref (D 2), .ref (D 3), .ref (D 4), .ref (D 5), .int (M.1 3), .int (M.1 4), .int (M.1 5), .int (M.1 6), .int (M.1 7), .ref (D 6), .ref (D 7), .ref (D 8), .ref (D 9), .ref (D 10), .ref (D 11), .ref (D 12), .ref (D 13), .int (M.1 8), .int (M.1 9), .int (M.1 10)])) := by rw [hE1]; exact up_s
  refine ww_aload_n C dX4_teach_5 rfl 0 rfl rfl ?_
  refine ww_iconst C dX4_teach_6 cI_0 ?_
  refine pf_X4_120_X4 (fs' := [.int (nI 0), .ref (D 1), .int (M.1 1), .int (M.1 2), .ref (D 2), .ref (D 3), .ref (D 4), .ref (D 5), .int (nI 0), .int (M.1 4), .int (M.1 5), .int (M.1 6), .int (M.1 7), .ref (D 6), .ref (D 7), .ref (D 8), .ref (D 9), .ref (D 10), .ref (D 11), .ref (D 12), .ref (D 13), .int (M.1 8), .int (M.1 9), .int (M.1 10)]) C dX4_teach_7 X0_h1 rfl rfl (Nat.le_of_ble_eq_true rfl) rfl ?_
  refine ww_gen (fun h2 hE2 => ?_)
  have X8_h2 : h2 (D 8) = some (.inr (4, [.int (M.1 25), .int (M.1 26), .int (M.1 27), .ref (D 30), .int (M.1 28), .ref (D 31), .ref (D 32), .ref (D 33), .ref (D 34), .ref (D 35), .ref (D 36), .int (M.1 29), .ref (D 37), .ref (D 38), .ref (D 39)])) := by rw [hE2, up_n (Ne.symm (fun q => by cases hX.2 0 8 (by decide) (by decide) q))]; exact X8_h1
  have X0_h2 : h2 (D 0) = some (.inr (3, [.int (nI 0), .ref (D 1), .int (M.1 1), .int (M.1 2), .ref (D 2), .ref (D 3), .ref (D 4), .ref (D 5), .int (nI 0), .int (M.1 4), .int (M.1 5), .int (M.1 6), .int (M.1 7), .ref (D 6), .ref (D 7), .ref (D 8), .ref (D 9), .ref (D 10), .ref (D 11), .ref (D 12), .ref (D 13), .int (M.1 8), .int (M.1 9), .int (M.1 10)])) := by rw [hE2]; exact up_s
  refine ww_aload_n C dX4_teach_10 rfl 0 rfl rfl ?_
  refine ww_iconst C dX4_teach_11 cI_0 ?_
  refine pf_X4_116_X4 (fs' := [.int (nI 0), .ref (D 1), .int (M.1 1), .int (M.1 2), .ref (D 2), .ref (D 3), .ref (D 4), .ref (D 5), .int (nI 0), .int (nI 0), .int (M.1 5), .int (M.1 6), .int (M.1 7), .ref (D 6), .ref (D 7), .ref (D 8), .ref (D 9), .ref (D 10), .ref (D 11), .ref (D 12), .ref (D 13), .int (M.1 8), .int (M.1 9), .int (M.1 10)]) C dX4_teach_12 X0_h2 nar_z0 fit_z0 (Nat.le_of_ble_eq_true rfl) rfl ?_
  refine ww_gen (fun h3 hE3 => ?_)
  have X8_h3 : h3 (D 8) = some (.inr (4, [.int (M.1 25), .int (M.1 26), .int (M.1 27), .ref (D 30), .int (M.1 28), .ref (D 31), .ref (D 32), .ref (D 33), .ref (D 34), .ref (D 35), .ref (D 36), .int (M.1 29), .ref (D 37), .ref (D 38), .ref (D 39)])) := by rw [hE3, up_n (Ne.symm (fun q => by cases hX.2 0 8 (by decide) (by decide) q))]; exact X8_h2
  have X0_h3 : h3 (D 0) = some (.inr (3, [.int (nI 0), .ref (D 1), .int (M.1 1), .int (M.1 2), .ref (D 2), .ref (D 3), .ref (D 4), .ref (D 5), .int (nI 0), .int (nI 0), .int (M.1 5), .int (M.1 6), .int (M.1 7), .ref (D 6), .ref (D 7), .ref (D 8), .ref (D 9), .ref (D 10), .ref (D 11), .ref (D 12), .ref (D 13), .int (M.1 8), .int (M.1 9), .int (M.1 10)])) := by rw [hE3]; exact up_s
  refine ww_aload_n C dX4_teach_15 rfl 0 rfl rfl ?_
  refine ww_iconst C dX4_teach_16 cI_0 ?_
  refine pf_X4_123_X4 (fs' := [.int (nI 0), .ref (D 1), .int (M.1 1), .int (M.1 2), .ref (D 2), .ref (D 3), .ref (D 4), .ref (D 5), .int (nI 0), .int (nI 0), .int (nI 0), .int (M.1 6), .int (M.1 7), .ref (D 6), .ref (D 7), .ref (D 8), .ref (D 9), .ref (D 10), .ref (D 11), .ref (D 12), .ref (D 13), .int (M.1 8), .int (M.1 9), .int (M.1 10)]) C dX4_teach_17 X0_h3 rfl rfl (Nat.le_of_ble_eq_true rfl) rfl ?_
  refine ww_gen (fun h4 hE4 => ?_)
  have X8_h4 : h4 (D 8) = some (.inr (4, [.int (M.1 25), .int (M.1 26), .int (M.1 27), .ref (D 30), .int (M.1 28), .ref (D 31), .ref (D 32), .ref (D 33), .ref (D 34), .ref (D 35), .ref (D 36), .int (M.1 29), .ref (D 37), .ref (D 38), .ref (D 39)])) := by rw [hE4, up_n (Ne.symm (fun q => by cases hX.2 0 8 (by decide) (by decide) q))]; exact X8_h3
  have X0_h4 : h4 (D 0) = some (.inr (3, [.int (nI 0), .ref (D 1), .int (M.1 1), .int (M.1 2), .ref (D 2), .ref (D 3), .ref (D 4), .ref (D 5), .int (nI 0), .int (nI 0), .int (nI 0), .int (M.1 6), .int (M.1 7), .ref (D 6), .ref (D 7), .ref (D 8), .ref (D 9), .ref (D 10), .ref (D 11), .ref (D 12), .ref (D 13), .int (M.1 8), .int (M.1 9), .int (M.1 10)])) := by rw [hE4]; exact up_s
  refine ww_aload_n C dX4_teach_20 rfl 0 rfl rfl ?_
  refine ww_iconst C dX4_teach_21 cI_0 ?_
  refine pf_X4_135_X4 (fs' := [.int (nI 0), .ref (D 1), .int (M.1 1), .int (M.1 2), .ref (D 2), .ref (D 3), .ref (D 4), .ref (D 5), .int (nI 0), .int (nI 0), .int (nI 0), .int (M.1 6), .int (nI 0), .ref (D 6), .ref (D 7), .ref (D 8), .ref (D 9), .ref (D 10), .ref (D 11), .ref (D 12), .ref (D 13), .int (M.1 8), .int (M.1 9), .int (M.1 10)]) C dX4_teach_22 X0_h4 rfl rfl (Nat.le_of_ble_eq_true rfl) rfl ?_
  refine ww_gen (fun h5 hE5 => ?_)
  have X8_h5 : h5 (D 8) = some (.inr (4, [.int (M.1 25), .int (M.1 26), .int (M.1 27), .ref (D 30), .int (M.1 28), .ref (D 31), .ref (D 32), .ref (D 33), .ref (D 34), .ref (D 35), .ref (D 36), .int (M.1 29), .ref (D 37), .ref (D 38), .ref (D 39)])) := by rw [hE5, up_n (Ne.symm (fun q => by cases hX.2 0 8 (by decide) (by decide) q))]; exact X8_h4
  have X0_h5 : h5 (D 0) = some (.inr (3, [.int (nI 0), .ref (D 1), .int (M.1 1), .int (M.1 2), .ref (D 2), .ref (D 3), .ref (D 4), .ref (D 5), .int (nI 0), .int (nI 0), .int (nI 0), .int (M.1 6), .int (nI 0), .ref (D 6), .ref (D 7), .ref (D 8), .ref (D 9), .ref (D 10), .ref (D 11), .ref (D 12), .ref (D 13), .int (M.1 8), .int (M.1 9), .int (M.1 10)])) := by rw [hE5]; exact up_s
  have hX1 : Mx (xG X) h5 D (upd (upd (upd (upd (upd M.1 0 (nI 0)) 3 (nI 0)) 4 (nI 0)) 5 (nI 0)) 7 (nI 0), M.2) := by rw [hE5, hE4, hE3, hE2, hE1]; exact (Mx.i (Mx.i (Mx.i (Mx.i (Mx.i hX (j := 0) (Or.inl (by decide)) rfl) (j := 3) (Or.inl (by decide)) rfl) (j := 4) (Or.inl (by decide)) rfl) (j := 5) (Or.inl (by decide)) rfl) (j := 7) (Or.inl (by decide)) rfl)
  have fr1 : FrD h h5 D := by rw [hE5, hE4, hE3, hE2, hE1]; exact (FrD.w (FrD.w (FrD.w (FrD.w (FrD.w FrD.rf (i := 0) (by decide)) (i := 0) (by decide)) (i := 0) (by decide)) (i := 0) (by decide)) (i := 0) (by decide))
  refine ww_aload_n C dX4_teach_25 rfl 0 rfl rfl ?_
  refine gf_X4_39_X4 C dX4_teach_26 (Or.inl X0_h5) rfl ?_
  refine cv_X4_257_q (As := []) (rest := []) C dX4_teach_29 (ct_X5_begin (Cx.fl C) (Cx.ok C) hX1) (rc_X5 (Cx.ok C) (Or.inl X8_h5)) rfl rfl (Nat.le_of_ble_eq_true rfl) (by omega) (Nat.zero_le _) (Nat.zero_le _) (fun z2 h2 q2 => ?_)
  obtain ⟨hz2, hX2, fr2⟩ := q2; replace hz2 := hz2.symm; subst hz2
  have hv2 : TpV (begT (upd (upd (upd (upd (upd M.1 0 (nI 0)) 3 (nI 0)) 4 (nI 0)) 5 (nI 0)) 7 (nI 0), M.2)) t := hv
  have X0 : h2 (D 0) = some (cMd (begT (upd (upd (upd (upd (upd M.1 0 (nI 0)) 3 (nI 0)) 4 (nI 0)) 5 (nI 0)) 7 (nI 0), M.2)).1 D) := hX2.m
  refine ww_aload_n C dX4_teach_32 rfl 0 rfl rfl ?_
  refine cv_X4_258_q (As := []) (rest := []) C dX4_teach_33 (ct_X4_readAll (Cx.fl C) (Cx.ok C) hz hX2 hv2 ht) (rc_X4 (Cx.ok C) (Or.inl X0)) rfl rfl (Nat.le_of_ble_eq_true rfl) (by omega) (Nat.zero_le _) (Nat.zero_le _) (fun z3 h3 q3 => ?_)
  obtain ⟨hz3, M3, s3, hk3, hX3, fr3⟩ := q3; replace hz3 := hz3.symm; subst hz3
  have hI3 : ∀ j, M3.1 j = (begT (upd (upd (upd (upd (upd M.1 0 (nI 0)) 3 (nI 0)) 4 (nI 0)) 5 (nI 0)) 7 (nI 0), M.2)).1 j := fun j => by rw [s3.1]
  have hc3 : PCx (xG X) h3 D t (envQ t q0Q.2.2) M3 q0Q := PCx.q0 hX3 hk3 ht (hI3 3) (hI3 4) (hI3 5) (hI3 7) (hI3 25) (hI3 26) (hI3 27) (hI3 28) (hI3 29)
  have X0 : h3 (D 0) = some (cMd M3.1 D) := hX3.m
  refine ww_aload_n C dX4_teach_36 rfl 0 rfl rfl ?_
  refine cv_X4_261_q (As := []) (rest := []) C dX4_teach_37 (ct_X4_game (Cx.fl C) (Cx.ok C) hc3 hg hn) (rc_X4 (Cx.ok C) (Or.inl X0)) rfl rfl (Nat.le_of_ble_eq_true rfl) (by omega) (Nat.zero_le _) (Nat.zero_le _) (fun z4 h4 q4 => ?_)
  obtain ⟨hz4, M4, pg4, hc4, fr4⟩ := q4; replace hz4 := hz4.symm; subst hz4
  obtain ⟨c1, ⟨⟨w1, w2, w3, w4, w5⟩, ⟨w6, w7, w8⟩, w9⟩, ck, cE, c5, c6, c7, c8, c9, c10, c11, c12, c13⟩ := id hc4
  have hfr := ((fr1.tr fr2).tr fr3).tr fr4
  have X0 : h4 (D 0) = some (cMd M4.1 D) := c1.m
  refine ww_aload_n C dX4_teach_40 rfl 0 rfl rfl ?_
  refine ww_iconst C dX4_teach_41 cI_0 ?_
  refine pf_X4_72_X4 (fs' := [.int (M4.1 0), .ref (D 1), .int (nI 0), .int (M4.1 2), .ref (D 2), .ref (D 3), .ref (D 4), .ref (D 5), .int (M4.1 3), .int (M4.1 4), .int (M4.1 5), .int (M4.1 6), .int (M4.1 7), .ref (D 6), .ref (D 7), .ref (D 8), .ref (D 9), .ref (D 10), .ref (D 11), .ref (D 12), .ref (D 13), .int (M4.1 8), .int (M4.1 9), .int (M4.1 10)]) C dX4_teach_42 X0 rfl rfl (Nat.le_of_ble_eq_true rfl) rfl ?_
  refine ww_gen (fun h6 hE6 => ?_)
  have X0_h6 : h6 (D 0) = some (.inr (3, [.int (M4.1 0), .ref (D 1), .int (nI 0), .int (M4.1 2), .ref (D 2), .ref (D 3), .ref (D 4), .ref (D 5), .int (M4.1 3), .int (M4.1 4), .int (M4.1 5), .int (M4.1 6), .int (M4.1 7), .ref (D 6), .ref (D 7), .ref (D 8), .ref (D 9), .ref (D 10), .ref (D 11), .ref (D 12), .ref (D 13), .int (M4.1 8), .int (M4.1 9), .int (M4.1 10)])) := by rw [hE6]; exact up_s
  have hX5 : Mx (xG X) h6 D (upd M4.1 1 (nI 0), M4.2) := by rw [hE6]; exact Mx.i c1 (j := 1) (Or.inl (by decide)) rfl
  have fr5 : FrD h h6 D := by rw [hE6]; exact FrD.w hfr (i := 0) (by decide)
  have X0 : h6 (D 0) = some (cMd (upd M4.1 1 (nI 0), M4.2).1 D) := hX5.m
  have X7 : h6 (D 7) = some (cTd ((upd M4.1 1 (nI 0), M4.2).1 20) ((upd M4.1 1 (nI 0), M4.2).1 21) ((upd M4.1 1 (nI 0), M4.2).1 22) ((upd M4.1 1 (nI 0), M4.2).1 23) ((upd M4.1 1 (nI 0), M4.2).1 24) (fun i => D (20 + i))) := hX5.1 7 (by decide)
  have X8 : h6 (D 8) = some (cTd ((upd M4.1 1 (nI 0), M4.2).1 25) ((upd M4.1 1 (nI 0), M4.2).1 26) ((upd M4.1 1 (nI 0), M4.2).1 27) ((upd M4.1 1 (nI 0), M4.2).1 28) ((upd M4.1 1 (nI 0), M4.2).1 29) (fun i => D (30 + i))) := hX5.1 8 (by decide)
  have X10 : h6 (D 10) = some (cSt (fun i => D (40 + i)) ((upd M4.1 1 (nI 0), M4.2).1 30) ((upd M4.1 1 (nI 0), M4.2).1 31)) := hX5.1 10 (by decide)
  have Y4 : h6 (D 4) = some (cI (xG X) 402 ((upd M4.1 1 (nI 0), M4.2).2.1 4)) := hX5.1 4 (by decide)
  have he5 : qe Q' ≤ 5 := c11.1
  have htc := tl_tc t
  have hcn := tcn_lt t
  refine ww_aload_n C dX4_teach_45 rfl 0 rfl rfl ?_
  refine ww_aload_n C dX4_teach_46 rfl 0 rfl rfl ?_
  refine gf_X4_123_X4 C dX4_teach_47 (Or.inl X0) rfl ?_
  refine ww_st (st' := [.int (nI (qe Q')), .ref (D 0)]) (by rw [show ((upd M4.1 1 (nI 0), M4.2)).1 5 = nI (qe Q') from w3]; try rfl) ?_
  refine ww_if_ne_n (tgt := 57) C dX4_teach_50 (by decide) (by omega) (fun c_50 => ?_) (fun c_50 => ?_)
  · skip
    have hqf : qf Q' ≤ tl t := c11.2.2 (by omega)
    refine ww_aload_n C dX4_teach_57 rfl 0 rfl rfl ?_
    refine gf_X4_23_X4 C dX4_teach_58 (Or.inl X0) rfl ?_
    refine ww_aload_n C dX4_teach_61 rfl 0 rfl rfl ?_
    refine gf_X4_126_X4 C dX4_teach_62 (Or.inl X0) rfl ?_
    refine ww_st (st' := [.int (nI (qf Q')), .ref (D 4), .ref (D 0)]) (by rw [show ((upd M4.1 1 (nI 0), M4.2)).1 6 = nI (qf Q') from w4 (by omega)]; try rfl) ?_
    refine ww_iald C dX4_teach_65 (Or.inl Y4) (by omega) (by decide) ?_
    refine ww_st (st' := [.int (nI (tP t (qf Q'))), .ref (D 0)]) (by rw [show ((upd M4.1 1 (nI 0), M4.2)).2.1 4 (qf Q') = nI (tP t (qf Q')) from ck.2.2.2.1 _ (by omega)]) ?_
    refine pf_X4_13_X4 (fs' := [.int ((upd M4.1 1 (nI 0), M4.2).1 0), .ref (D 1), .int ((upd M4.1 1 (nI 0), M4.2).1 1), .int (nI (tP t (qf Q'))), .ref (D 2), .ref (D 3), .ref (D 4), .ref (D 5), .int ((upd M4.1 1 (nI 0), M4.2).1 3), .int ((upd M4.1 1 (nI 0), M4.2).1 4), .int ((upd M4.1 1 (nI 0), M4.2).1 5), .int ((upd M4.1 1 (nI 0), M4.2).1 6), .int ((upd M4.1 1 (nI 0), M4.2).1 7), .ref (D 6), .ref (D 7), .ref (D 8), .ref (D 9), .ref (D 10), .ref (D 11), .ref (D 12), .ref (D 13), .int ((upd M4.1 1 (nI 0), M4.2).1 8), .int ((upd M4.1 1 (nI 0), M4.2).1 9), .int ((upd M4.1 1 (nI 0), M4.2).1 10)]) C dX4_teach_66 X0 rfl rfl (Nat.le_of_ble_eq_true rfl) rfl ?_
    refine ww_gen (fun h7 hE7 => ?_)
    have X7_h7 : h7 (D 7) = some (.inr (4, [.int ((upd M4.1 1 (nI 0), M4.2).1 20), .int ((upd M4.1 1 (nI 0), M4.2).1 21), .int ((upd M4.1 1 (nI 0), M4.2).1 22), .ref (D 20), .int ((upd M4.1 1 (nI 0), M4.2).1 23), .ref (D 21), .ref (D 22), .ref (D 23), .ref (D 24), .ref (D 25), .ref (D 26), .int ((upd M4.1 1 (nI 0), M4.2).1 24), .ref (D 27), .ref (D 28), .ref (D 29)])) := by rw [hE7, up_n (Ne.symm (fun q => by cases hX5.2 0 7 (by decide) (by decide) q))]; exact X7
    have X8_h7 : h7 (D 8) = some (.inr (4, [.int ((upd M4.1 1 (nI 0), M4.2).1 25), .int ((upd M4.1 1 (nI 0), M4.2).1 26), .int ((upd M4.1 1 (nI 0), M4.2).1 27), .ref (D 30), .int ((upd M4.1 1 (nI 0), M4.2).1 28), .ref (D 31), .ref (D 32), .ref (D 33), .ref (D 34), .ref (D 35), .ref (D 36), .int ((upd M4.1 1 (nI 0), M4.2).1 29), .ref (D 37), .ref (D 38), .ref (D 39)])) := by rw [hE7, up_n (Ne.symm (fun q => by cases hX5.2 0 8 (by decide) (by decide) q))]; exact X8
    have X10_h7 : h7 (D 10) = some (.inr (5, [.ref (D 40), .ref (D 41), .ref (D 42), .int ((upd M4.1 1 (nI 0), M4.2).1 30), .int ((upd M4.1 1 (nI 0), M4.2).1 31)])) := by rw [hE7, up_n (Ne.symm (fun q => by cases hX5.2 0 10 (by decide) (by decide) q))]; exact X10
    have Y4_h7 : h7 (D 4) = some (.inl (gA (xG X) 0, (402, .inl ((upd M4.1 1 (nI 0), M4.2).2.1 4)))) := by rw [hE7, up_n (Ne.symm (fun q => by cases hX5.2 0 4 (by decide) (by decide) q))]; exact Y4
    have X0_h7 : h7 (D 0) = some (.inr (3, [.int ((upd M4.1 1 (nI 0), M4.2).1 0), .ref (D 1), .int ((upd M4.1 1 (nI 0), M4.2).1 1), .int (nI (tP t (qf Q'))), .ref (D 2), .ref (D 3), .ref (D 4), .ref (D 5), .int ((upd M4.1 1 (nI 0), M4.2).1 3), .int ((upd M4.1 1 (nI 0), M4.2).1 4), .int ((upd M4.1 1 (nI 0), M4.2).1 5), .int ((upd M4.1 1 (nI 0), M4.2).1 6), .int ((upd M4.1 1 (nI 0), M4.2).1 7), .ref (D 6), .ref (D 7), .ref (D 8), .ref (D 9), .ref (D 10), .ref (D 11), .ref (D 12), .ref (D 13), .int ((upd M4.1 1 (nI 0), M4.2).1 8), .int ((upd M4.1 1 (nI 0), M4.2).1 9), .int ((upd M4.1 1 (nI 0), M4.2).1 10)])) := by rw [hE7]; exact up_s
    have hX6 : Mx (xG X) h7 D (upd (upd M4.1 1 (nI 0)) 2 (nI (tP t (qf Q'))), M4.2) := by rw [hE7]; exact Mx.i hX5 (j := 2) (Or.inl (by decide)) rfl
    have fr6 : FrD h h7 D := by rw [hE7]; exact FrD.w fr5 (i := 0) (by decide)
    have X0 : h7 (D 0) = some (cMd (upd (upd M4.1 1 (nI 0)) 2 (nI (tP t (qf Q'))), M4.2).1 D) := hX6.m
    have X7 : h7 (D 7) = some (cTd ((upd (upd M4.1 1 (nI 0)) 2 (nI (tP t (qf Q'))), M4.2).1 20) ((upd (upd M4.1 1 (nI 0)) 2 (nI (tP t (qf Q'))), M4.2).1 21) ((upd (upd M4.1 1 (nI 0)) 2 (nI (tP t (qf Q'))), M4.2).1 22) ((upd (upd M4.1 1 (nI 0)) 2 (nI (tP t (qf Q'))), M4.2).1 23) ((upd (upd M4.1 1 (nI 0)) 2 (nI (tP t (qf Q'))), M4.2).1 24) (fun i => D (20 + i))) := hX6.1 7 (by decide)
    have X8 : h7 (D 8) = some (cTd ((upd (upd M4.1 1 (nI 0)) 2 (nI (tP t (qf Q'))), M4.2).1 25) ((upd (upd M4.1 1 (nI 0)) 2 (nI (tP t (qf Q'))), M4.2).1 26) ((upd (upd M4.1 1 (nI 0)) 2 (nI (tP t (qf Q'))), M4.2).1 27) ((upd (upd M4.1 1 (nI 0)) 2 (nI (tP t (qf Q'))), M4.2).1 28) ((upd (upd M4.1 1 (nI 0)) 2 (nI (tP t (qf Q'))), M4.2).1 29) (fun i => D (30 + i))) := hX6.1 8 (by decide)
    have X10 : h7 (D 10) = some (cSt (fun i => D (40 + i)) ((upd (upd M4.1 1 (nI 0)) 2 (nI (tP t (qf Q'))), M4.2).1 30) ((upd (upd M4.1 1 (nI 0)) 2 (nI (tP t (qf Q'))), M4.2).1 31)) := hX6.1 10 (by decide)
    refine ww_aload_n C dX4_teach_69 rfl 0 rfl rfl ?_
    refine gf_X4_123_X4 C dX4_teach_70 (Or.inl X0) rfl ?_
    refine ww_st (st' := [.int (nI (qe Q'))]) (by rw [show ((upd (upd M4.1 1 (nI 0)) 2 (nI (tP t (qf Q'))), M4.2)).1 5 = nI (qe Q') from w3]; try rfl) ?_
    refine ww_if_eq_f (tgt := 81) C dX4_teach_73 (by decide) (nI_ne0 (by omega) (by omega)) ?_
    refine ww_aload_n C dX4_teach_76 rfl 0 rfl rfl ?_
    refine gf_X4_123_X4 C dX4_teach_77 (Or.inl X0) rfl ?_
    refine ww_st (st' := [.int (nI (qe Q'))]) (by rw [show ((upd (upd M4.1 1 (nI 0)) 2 (nI (tP t (qf Q'))), M4.2)).1 5 = nI (qe Q') from w3]; try rfl) ?_
    exact ww_iret C dX4_teach_80 ⟨rfl, rfl, (upd (upd M4.1 1 (nI 0)) 2 (nI (tP t (qf Q'))), M4.2), ⟨(pg4.1 0 (by omega)).trans (hI3 0), rfl, by rw [if_neg (by omega)]; rfl⟩, fun _ => Mtc.of s3 pg4, fun q => by omega, hX6, fr6⟩
  · skip
    refine ww_iconst C dX4_teach_53 cI_m1 ?_
    refine ww_goto (tgt := 66) C dX4_teach_54 (by decide) ?_
    refine pf_X4_13_X4 (fs' := [.int ((upd M4.1 1 (nI 0), M4.2).1 0), .ref (D 1), .int ((upd M4.1 1 (nI 0), M4.2).1 1), .int (-1), .ref (D 2), .ref (D 3), .ref (D 4), .ref (D 5), .int ((upd M4.1 1 (nI 0), M4.2).1 3), .int ((upd M4.1 1 (nI 0), M4.2).1 4), .int ((upd M4.1 1 (nI 0), M4.2).1 5), .int ((upd M4.1 1 (nI 0), M4.2).1 6), .int ((upd M4.1 1 (nI 0), M4.2).1 7), .ref (D 6), .ref (D 7), .ref (D 8), .ref (D 9), .ref (D 10), .ref (D 11), .ref (D 12), .ref (D 13), .int ((upd M4.1 1 (nI 0), M4.2).1 8), .int ((upd M4.1 1 (nI 0), M4.2).1 9), .int ((upd M4.1 1 (nI 0), M4.2).1 10)]) C dX4_teach_66 X0 rfl rfl (Nat.le_of_ble_eq_true rfl) rfl ?_
    refine ww_gen (fun h8 hE8 => ?_)
    have X7_h8 : h8 (D 7) = some (.inr (4, [.int ((upd M4.1 1 (nI 0), M4.2).1 20), .int ((upd M4.1 1 (nI 0), M4.2).1 21), .int ((upd M4.1 1 (nI 0), M4.2).1 22), .ref (D 20), .int ((upd M4.1 1 (nI 0), M4.2).1 23), .ref (D 21), .ref (D 22), .ref (D 23), .ref (D 24), .ref (D 25), .ref (D 26), .int ((upd M4.1 1 (nI 0), M4.2).1 24), .ref (D 27), .ref (D 28), .ref (D 29)])) := by rw [hE8, up_n (Ne.symm (fun q => by cases hX5.2 0 7 (by decide) (by decide) q))]; exact X7
    have X8_h8 : h8 (D 8) = some (.inr (4, [.int ((upd M4.1 1 (nI 0), M4.2).1 25), .int ((upd M4.1 1 (nI 0), M4.2).1 26), .int ((upd M4.1 1 (nI 0), M4.2).1 27), .ref (D 30), .int ((upd M4.1 1 (nI 0), M4.2).1 28), .ref (D 31), .ref (D 32), .ref (D 33), .ref (D 34), .ref (D 35), .ref (D 36), .int ((upd M4.1 1 (nI 0), M4.2).1 29), .ref (D 37), .ref (D 38), .ref (D 39)])) := by rw [hE8, up_n (Ne.symm (fun q => by cases hX5.2 0 8 (by decide) (by decide) q))]; exact X8
    have X10_h8 : h8 (D 10) = some (.inr (5, [.ref (D 40), .ref (D 41), .ref (D 42), .int ((upd M4.1 1 (nI 0), M4.2).1 30), .int ((upd M4.1 1 (nI 0), M4.2).1 31)])) := by rw [hE8, up_n (Ne.symm (fun q => by cases hX5.2 0 10 (by decide) (by decide) q))]; exact X10
    have Y4_h8 : h8 (D 4) = some (.inl (gA (xG X) 0, (402, .inl ((upd M4.1 1 (nI 0), M4.2).2.1 4)))) := by rw [hE8, up_n (Ne.symm (fun q => by cases hX5.2 0 4 (by decide) (by decide) q))]; exact Y4
    have X0_h8 : h8 (D 0) = some (.inr (3, [.int ((upd M4.1 1 (nI 0), M4.2).1 0), .ref (D 1), .int ((upd M4.1 1 (nI 0), M4.2).1 1), .int (-1), .ref (D 2), .ref (D 3), .ref (D 4), .ref (D 5), .int ((upd M4.1 1 (nI 0), M4.2).1 3), .int ((upd M4.1 1 (nI 0), M4.2).1 4), .int ((upd M4.1 1 (nI 0), M4.2).1 5), .int ((upd M4.1 1 (nI 0), M4.2).1 6), .int ((upd M4.1 1 (nI 0), M4.2).1 7), .ref (D 6), .ref (D 7), .ref (D 8), .ref (D 9), .ref (D 10), .ref (D 11), .ref (D 12), .ref (D 13), .int ((upd M4.1 1 (nI 0), M4.2).1 8), .int ((upd M4.1 1 (nI 0), M4.2).1 9), .int ((upd M4.1 1 (nI 0), M4.2).1 10)])) := by rw [hE8]; exact up_s
    have hX6 : Mx (xG X) h8 D (upd (upd M4.1 1 (nI 0)) 2 (-1), M4.2) := by rw [hE8]; exact Mx.i hX5 (j := 2) (Or.inl (by decide)) rfl
    have fr6 : FrD h h8 D := by rw [hE8]; exact FrD.w fr5 (i := 0) (by decide)
    have X0 : h8 (D 0) = some (cMd (upd (upd M4.1 1 (nI 0)) 2 (-1), M4.2).1 D) := hX6.m
    have X7 : h8 (D 7) = some (cTd ((upd (upd M4.1 1 (nI 0)) 2 (-1), M4.2).1 20) ((upd (upd M4.1 1 (nI 0)) 2 (-1), M4.2).1 21) ((upd (upd M4.1 1 (nI 0)) 2 (-1), M4.2).1 22) ((upd (upd M4.1 1 (nI 0)) 2 (-1), M4.2).1 23) ((upd (upd M4.1 1 (nI 0)) 2 (-1), M4.2).1 24) (fun i => D (20 + i))) := hX6.1 7 (by decide)
    have X8 : h8 (D 8) = some (cTd ((upd (upd M4.1 1 (nI 0)) 2 (-1), M4.2).1 25) ((upd (upd M4.1 1 (nI 0)) 2 (-1), M4.2).1 26) ((upd (upd M4.1 1 (nI 0)) 2 (-1), M4.2).1 27) ((upd (upd M4.1 1 (nI 0)) 2 (-1), M4.2).1 28) ((upd (upd M4.1 1 (nI 0)) 2 (-1), M4.2).1 29) (fun i => D (30 + i))) := hX6.1 8 (by decide)
    have X10 : h8 (D 10) = some (cSt (fun i => D (40 + i)) ((upd (upd M4.1 1 (nI 0)) 2 (-1), M4.2).1 30) ((upd (upd M4.1 1 (nI 0)) 2 (-1), M4.2).1 31)) := hX6.1 10 (by decide)
    have hw0 : qw Q' = false := by cases hq : qw Q' with | false => rfl | true => (have := c11.2.1 hq; omega)
    have hT := w9 hw0
    refine ww_aload_n C dX4_teach_69 rfl 0 rfl rfl ?_
    refine gf_X4_123_X4 C dX4_teach_70 (Or.inl X0) rfl ?_
    refine ww_st (st' := [.int (nI (qe Q'))]) (by rw [show ((upd (upd M4.1 1 (nI 0)) 2 (-1), M4.2)).1 5 = nI (qe Q') from w3]; try rfl) ?_
    refine ww_if_eq_t (tgt := 81) C dX4_teach_73 (by decide) (by rw [c_50]; rfl) ?_
    refine ww_aload_n C dX4_teach_81 rfl 0 rfl rfl ?_
    refine gf_X4_35_X4 C dX4_teach_82 (Or.inl X0) rfl ?_
    refine ww_aload_n C dX4_teach_85 rfl 0 rfl rfl ?_
    refine gf_X4_39_X4 C dX4_teach_86 (Or.inl X0) rfl ?_
    refine cv_X4_264_q (As := [.ref (D 8)]) (rest := []) C dX4_teach_89 (ct_X5_become (Cx.fl C) (Cx.ok C) hX6) (rc_X5 (Cx.ok C) (Or.inl X7)) rfl rfl (Nat.le_of_ble_eq_true rfl) (by omega) (Nat.zero_le _) (Nat.zero_le _) (fun z7 h7 q7 => ?_)
    obtain ⟨hz7, hX7, fr7⟩ := q7; replace hz7 := hz7.symm; subst hz7
    have X0 : h7 (D 0) = some (cMd (becT (upd (upd M4.1 1 (nI 0)) 2 (-1), M4.2)).1 D) := hX7.m
    have X10 : h7 (D 10) = some (cSt (fun i => D (40 + i)) ((becT (upd (upd M4.1 1 (nI 0)) 2 (-1), M4.2)).1 30) ((becT (upd (upd M4.1 1 (nI 0)) 2 (-1), M4.2)).1 31)) := hX7.1 10 (by decide)
    refine ww_aload_n C dX4_teach_92 rfl 0 rfl rfl ?_
    refine gf_X4_48_X4 C dX4_teach_93 (Or.inl X0) rfl ?_
    refine cv_X4_62_q (As := []) (rest := []) C dX4_teach_96 (ct_X6_begin (Cx.fl C) (Cx.ok C) hX7) (rc_X6 (Cx.ok C) (Or.inl X10)) rfl rfl (Nat.le_of_ble_eq_true rfl) (by omega) (Nat.zero_le _) (Nat.zero_le _) (fun z8 h8 q8 => ?_)
    obtain ⟨hz8, fa, fb, hfa, hfb, hX8, fr8⟩ := q8; replace hz8 := hz8.symm; subst hz8
    have Y40 : h8 (D 40) = some (cI (xG X) 49 fa) := hX8.1 40 (by decide)
    refine ww_extI (g := fun _ => -1) Y40 hfa ?_
    have hX9 := hX8.r (i := 40) (f := fun _ => -1) (by decide)
    have Y41 : (up h8 (D 40) (cI (xG X) 49 (fun _ => -1))) (D 41) = some (cI (xG X) 16 fb) := hX9.1 41 (by decide)
    refine ww_extI (g := fun _ => -1) Y41 hfb ?_
    have hX10 := hX9.r (i := 41) (f := fun _ => -1) (by decide)
    refine ww_iconst C dX4_teach_99 cI_0 ?_
    exact ww_iret C dX4_teach_100 (te_fin c_50 pg4 hI3 c1 hT w7 w6 w8 hX10 (FrD.w (FrD.w ((fr6.tr fr7).tr fr8) (i := 40) (by decide)) (i := 41) (by decide)))
end MO27
