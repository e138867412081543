section MO22
set_option maxRecDepth 100000
theorem ot_n {E : PE} {n : Nat} (hK : KOk E.1 n) {f k dz tl fr : Nat} {s : Nat → Nat} {Q Q' : QS} (hQ : qt Q ≤ n) (h : otQ E f k dz tl fr s Q = some Q') : qn Q ≤ qn Q' := by
  unfold otQ at h
  split at h
  · rename_i q
    have hl := isQ_lt hK hQ (by decide) q
    cases hm : mm E f 8 0 (avQ Q) with
    | none => rw [hm] at h; cases h
    | some y => obtain ⟨i, Q1⟩ := y; rw [hm] at h; cases h; exact (mm_k hK _ _ _ (avQ Q) hl _ _ hm).2.2.1
  · cases h; exact Nat.le_refl _
theorem PCx.ord {Γ : Gm} {h h2 h9 : AH} {D : Nat → Nat} {t : TP} {E : PE} {M M2 : MS} {Q Q1 : QS} {dz a : Nat} {s : Nat → Nat} {te : Option Nat} (hc : PCx Γ h D t E M Q) (hcl : PCx Γ h2 D t E M2 Q1) (hX : Mx Γ h9 D (upd M2.1 28 (nI (min 16 (qo Q + 1))), M2.2)) (kq : qK (tl t) Q Q1) (hdz : dz ≤ 2) (f31 : M2.2.1 31 (qo Q) = nI dz) (f32 : M2.2.1 32 (qo Q) = nI a) (f33 : M2.2.1 33 (qo Q) = nI (qn Q)) (f34 : M2.2.1 34 (qo Q) = nI (qn Q1)) (f35 : dz = 0 → ∀ p, p < 3 → M2.2.1 35 (3 * qo Q + p) = nI (s p)) (f36 : M2.2.1 36 (qo Q) = oI te) (hn : qn (oeQ (qo Q) dz a (qn Q) s te Q1) ≤ 800) : PCx Γ h9 D t (envQ t (oeQ (qo Q) dz a (qn Q) s te Q1).2.2) (upd M2.1 28 (nI (min 16 (qo Q + 1))), M2.2) (oeQ (qo Q) dz a (qn Q) s te Q1) := by
  obtain ⟨c1, ⟨v1, v2, v3⟩, c3, c4, c5, c6, c7, c8, c9, c10, c11, c12, c13⟩ := hcl
  have ho16 : qo Q ≤ 16 := hc.2.2.2.2.2.2.2.2.1
  have hqo : qo Q1 = qo Q := kq.2.2.2.2.2.1
  have eo : qo (oeQ (qo Q) dz a (qn Q) s te Q1) = min 16 (qo Q + 1) := rfl
  refine ⟨hX, ⟨v1, ⟨v2.1, rfl, v2.2.2⟩, fun q => ?_⟩, c3.pg (PG.rf.i (by omega)), rfl, c5, c6, c7, c8, by rw [eo]; omega, hn, c11, c12, c13⟩
  obtain ⟨t1, t2, t3, t4, t5, t6, t7, t8⟩ := v3 q
  rw [hqo] at t5 t6 t7
  have rw5 : ∀ i k, i = 21 ∨ i = 22 ∨ i = 23 ∨ i = 24 → k ≠ qo Q → (oeQ (qo Q) dz a (qn Q) s te Q1).2.1.2.1 i k = Q1.2.1.2.1 i k := by
    intro i k hi hk
    show va_up (va_up (va_up (va_up (va_up Q1.2.1.2.1 21 (va_up (Q1.2.1.2.1 21) (qo Q) dz)) 22 (va_up (Q1.2.1.2.1 22) (qo Q) a)) 23 (va_up (Q1.2.1.2.1 23) (qo Q) (qn Q))) 24 (va_up (Q1.2.1.2.1 24) (qo Q) (qn Q1))) 25 (fun i => if 3 * qo Q ≤ i ∧ dz = 0 then s (i - 3 * qo Q) else Q1.2.1.2.1 25 i) i k = _
    rcases hi with rfl | rfl | rfl | rfl
    · rw [va_ne (by decide), va_ne (by decide), va_ne (by decide), va_ne (by decide), va_eq, va_ne hk]
    · rw [va_ne (by decide), va_ne (by decide), va_ne (by decide), va_eq, va_ne hk]
    · rw [va_ne (by decide), va_ne (by decide), va_eq, va_ne hk]
    · rw [va_ne (by decide), va_eq, va_ne hk]
  have r21 : ∀ k, (oeQ (qo Q) dz a (qn Q) s te Q1).2.1.2.1 21 k = va_up (Q1.2.1.2.1 21) (qo Q) dz k := fun k => rfl
  have r25 : ∀ k, (oeQ (qo Q) dz a (qn Q) s te Q1).2.1.2.1 25 k = if 3 * qo Q ≤ k ∧ dz = 0 then s (k - 3 * qo Q) else Q1.2.1.2.1 25 k := fun k => rfl
  refine ⟨t1, t2, t3, t4, fun i k hi hk => ?_, fun k p hk h0 hp => ?_, fun k hk => ?_, fun i k hi hk => ?_⟩
  · rw [eo] at hk
    by_cases e : k = qo Q
    · subst e
      rcases hi with rfl | rfl | rfl | rfl
      · show M2.2.1 31 (qo Q) = nI (va_up (Q1.2.1.2.1 21) (qo Q) dz (qo Q)); rw [va_eq]; exact f31
      · show M2.2.1 32 (qo Q) = nI (va_up (Q1.2.1.2.1 22) (qo Q) a (qo Q)); rw [va_eq]; exact f32
      · show M2.2.1 33 (qo Q) = nI (va_up (Q1.2.1.2.1 23) (qo Q) (qn Q) (qo Q)); rw [va_eq]; exact f33
      · show M2.2.1 34 (qo Q) = nI (va_up (Q1.2.1.2.1 24) (qo Q) (qn Q1) (qo Q)); rw [va_eq]; exact f34
    · rw [rw5 i k hi e]; exact t5 i k hi (by omega)
  · rw [eo] at hk
    rw [r21] at h0
    rw [r25]
    by_cases e : k = qo Q
    · subst e
      rw [va_eq] at h0
      rw [if_pos ⟨by omega, h0⟩, show 3 * qo Q + p - 3 * qo Q = p by omega]
      exact f35 h0 p hp
    · rw [va_ne e] at h0
      rw [if_neg (by omega)]
      exact t6 k p (by omega) h0 hp
  · rw [eo] at hk
    show M2.2.1 36 k = oI (va_up Q1.2.1.2.2 (qo Q) te k)
    by_cases e : k = qo Q
    · subst e; rw [va_eq]; exact f36
    · rw [va_ne e]; exact t7 k (by omega)
  · have e7 : ∀ i, i = 27 ∨ i = 28 ∨ i = 29 → (oeQ (qo Q) dz a (qn Q) s te Q1).2.1.2.1 i = Q1.2.1.2.1 i := by rintro i (rfl | rfl | rfl) <;> rfl
    rw [e7 i hi]
    exact t8 i k hi hk
set_option maxHeartbeats 2000000 in
theorem ct_X4_order {l : Launch} {Γ : Gm} (hl : l.flags = flags0) (hΓ : GOK Γ) {z : ZR} {h : AH} {D : Nat → Nat} {t : TP} {E : PE} {M : MS} {Q : QS} {Q' : QS} {f dz : Nat} (hc : PCx Γ h D t E M Q) (hS : McV l Γ E t yX4_sum cX4_sum 3 3 f (2 * f + 4)) (hT : McV l Γ E t yX4_test cX4_test 2 8 f (2 * f + 4)) (hdz : dz ≤ 2) (hw : qw Q = false) (hlt : qt Q < tl t) (hm : orQ E f dz Q = some Q') (hn : qn Q' ≤ 800) : Ct l Γ yX4_order cX4_order 3 none (2 * f + 7) 0 0 [.ref (D 0), .int (nI dz)] z h (Rn (PPg Γ z h D t M Q')) := by
  refine Ct.of hl hΓ (by decide +kernel) (Nat.le_of_ble_eq_true rfl) (fun X e1 e2 C => ?_)
  subst e1; subst e2
  have C : Cx X cX4_order 3 "RingDominoModel" "order" none [] (2 * f + 7) := C
  have hK := hc.K
  have hQl := hc.2.2.2.2.1
  have ho16 := hc.2.2.2.2.2.2.2.2.1
  have hkm : min 16 (qo Q) = qo Q := by omega
  show WW X (Rn (PPg (xG X) z h D t M Q')) z h 0 0 0 [(0, .ref (D 0)), (1, .int (nI dz))] []
  have X0_1 : h (D 0) = some (cMd M.1 D) := hc.1.m
  have X8_1 : h (D 8) = some (cTd (M.1 25) (M.1 26) (M.1 27) (M.1 28) (M.1 29) (fun i => D (30 + i))) := hc.1.1 8 (by decide)
  refine ww_bipush C dX4_order_0 cB_16 ?_
  refine ww_aload_n C dX4_order_2 rfl 0 rfl rfl ?_
  refine gf_X4_39_X4 C dX4_order_3 (Or.inl X0_1) rfl ?_
  refine gf_X4_220_X5 C dX4_order_6 (Or.inl X8_1) rfl ?_
  refine ww_st (st' := [.int (nI (qo Q)), .int (nI 16)]) (by rw [show M.1 28 = nI (qo Q) from hc.2.1.2.1.2.1]) ?_
  refine cs_X4_211_r (As := [.int (nI 16), .int (nI (qo Q))]) (rest := []) C dX4_order_9 (ct_J14_min (Cx.fl C) (Cx.ok C) (by decide) (by omega)) rfl rfl (Nat.le_of_ble_eq_true rfl) (by omega) (Nat.zero_le _) (Nat.zero_le _) ?_
  refine ww_istore_n (lv' := [(2, .int (nI (min 16 (qo Q)))), (0, .ref (D 0)), (1, .int (nI dz))]) C dX4_order_12 rfl (by decide) rfl ?_
  refine ww_lv (lv' := [(2, .int (nI (qo Q))), (0, .ref (D 0)), (1, .int (nI dz))]) (by rw [hkm]) ?_
  have k1 : qK (tl t) Q (o1Q Q) := by
    unfold o1Q
    split
    · exact (qK.mk hQl).tr (qK.av (by rw [qt_mk]; exact hlt))
    · exact qK.av hlt
  have w34 : ∀ (M1 : MS) (h1 : AH), PCx (xG X) h1 D t E M1 (o1Q Q) → PG M M1 → FrD h h1 D → WW X (Rn (PPg (xG X) z h D t M Q')) z h1 0 0 34 [(2, .int (nI (qo Q))), (0, .ref (D 0)), (1, .int (nI dz))] [] := by
    intro M1 h1 hc1 pg1 fr1
    have X0_2 : h1 (D 0) = some (cMd M1.1 D) := hc1.1.m
    have X8_2 : h1 (D 8) = some (cTd (M1.1 25) (M1.1 26) (M1.1 27) (M1.1 28) (M1.1 29) (fun i => D (30 + i))) := hc1.1.1 8 (by decide)
    have Y33_2 : h1 (D 33) = some (cI (xG X) 17 (M1.2.1 33)) := hc1.1.1 33 (by decide)
    have hqo_a : qo (o1Q Q) = qo Q := k1.2.2.2.2.2.1
    have hq1n : qn (o1Q Q) = qn Q := by unfold o1Q; split; { show qn (mkQ 4 Q) = _; show (mkQ 4 Q).2.1.1.2 = _; rw [q2_mk] }; { rfl }
    refine ww_aload_n C dX4_order_34 rfl 1 rfl rfl ?_
    refine gf_X4_39_X4 C dX4_order_35 (Or.inl X0_2) rfl ?_
    refine gf_X4_223_X5 C dX4_order_38 (Or.inl X8_2) rfl ?_
    refine ww_iload_n C dX4_order_41 rfl 0 rfl ?_
    refine ww_aload_n C dX4_order_42 rfl 1 rfl rfl ?_
    refine gf_X4_39_X4 C dX4_order_43 (Or.inl X0_2) rfl ?_
    refine gf_X4_138_X5 C dX4_order_46 (Or.inl X8_2) rfl ?_
    refine ww_st (st' := [.int (nI (qn Q)), .int (nI (qo Q)), .ref (D 33)]) (by rw [show M1.1 29 = nI (qn (o1Q Q)) from hc1.2.1.2.1.2.2, hq1n]) ?_
    refine ww_iast C dX4_order_49 Y33_2 (by omega) (by decide) ?_
    refine ww_gen (fun h3 hE3 => ?_)
    have X0_2_h3 : h3 (D 0) = some (.inr (3, [.int (M1.1 0), .ref (D 1), .int (M1.1 1), .int (M1.1 2), .ref (D 2), .ref (D 3), .ref (D 4), .ref (D 5), .int (M1.1 3), .int (M1.1 4), .int (M1.1 5), .int (M1.1 6), .int (M1.1 7), .ref (D 6), .ref (D 7), .ref (D 8), .ref (D 9), .ref (D 10), .ref (D 11), .ref (D 12), .ref (D 13), .int (M1.1 8), .int (M1.1 9), .int (M1.1 10)])) := by rw [hE3, up_n (fun q => by cases hc1.1.2 0 33 (by decide) (by decide) q)]; exact X0_2
    have X8_2_h3 : h3 (D 8) = some (.inr (4, [.int (M1.1 25), .int (M1.1 26), .int (M1.1 27), .ref (D 30), .int (M1.1 28), .ref (D 31), .ref (D 32), .ref (D 33), .ref (D 34), .ref (D 35), .ref (D 36), .int (M1.1 29), .ref (D 37), .ref (D 38), .ref (D 39)])) := by rw [hE3, up_n (fun q => by cases hc1.1.2 8 33 (by decide) (by decide) q)]; exact X8_2
    have Y33_2_h3 : h3 (D 33) = some (.inl (gA (xG X) 0, (17, .inl (upd (M1.2.1 33) (qo Q) (nI (qn Q)))))) := by rw [hE3]; exact up_s
    have hX4 : Mx (xG X) h3 D (M1.1, va_up M1.2.1 33 (upd (M1.2.1 33) (qo Q) (nI (qn Q))), M1.2.2) := by rw [hE3]; exact Mx.r hc1.1 (i := 33) (by decide)
    have hc4 : PCx (xG X) h3 D t E (M1.1, va_up M1.2.1 33 (upd (M1.2.1 33) (qo Q) (nI (qn Q))), M1.2.2) (o1Q Q) := PCx.rw hc1 hX4 (by omega) (by show qo (o1Q Q) ≤ _; have := hqo_a; omega)
    have pg4 : PG M (M1.1, va_up M1.2.1 33 (upd (M1.2.1 33) (qo Q) (nI (qn Q))), M1.2.2) := pg1.r (by omega)
    have fg4 : FrD h h3 D := by rw [hE3]; exact FrD.w fr1 (i := 33) (by decide)
    have g33_qoQ_4 : (M1.1, va_up M1.2.1 33 (upd (M1.2.1 33) (qo Q) (nI (qn Q))), M1.2.2).2.1 33 (qo Q) = nI (qn Q) := by show upd (M1.2.1 33) (qo Q) (nI (qn Q)) (qo Q) = _; rw [upd_eq]
    have X0_5 : h3 (D 0) = some (cMd (M1.1, va_up M1.2.1 33 (upd (M1.2.1 33) (qo Q) (nI (qn Q))), M1.2.2).1 D) := hc4.1.m
    have X0_6 : h3 (D 0) = some (cMd (M1.1, va_up M1.2.1 33 (upd (M1.2.1 33) (qo Q) (nI (qn Q))), M1.2.2).1 D) := hc4.1.m
    have X8_6 : h3 (D 8) = some (cTd ((M1.1, va_up M1.2.1 33 (upd (M1.2.1 33) (qo Q) (nI (qn Q))), M1.2.2).1 25) ((M1.1, va_up M1.2.1 33 (upd (M1.2.1 33) (qo Q) (nI (qn Q))), M1.2.2).1 26) ((M1.1, va_up M1.2.1 33 (upd (M1.2.1 33) (qo Q) (nI (qn Q))), M1.2.2).1 27) ((M1.1, va_up M1.2.1 33 (upd (M1.2.1 33) (qo Q) (nI (qn Q))), M1.2.2).1 28) ((M1.1, va_up M1.2.1 33 (upd (M1.2.1 33) (qo Q) (nI (qn Q))), M1.2.2).1 29) (fun i => D (30 + i))) := hc4.1.1 8 (by decide)
    have Y31_6 : h3 (D 31) = some (cI (xG X) 17 ((M1.1, va_up M1.2.1 33 (upd (M1.2.1 33) (qo Q) (nI (qn Q))), M1.2.2).2.1 31)) := hc4.1.1 31 (by decide)
    refine ww_aload_n C dX4_order_50 rfl 1 rfl rfl ?_
    refine gf_X4_39_X4 C dX4_order_51 (Or.inl X0_6) rfl ?_
    refine gf_X4_226_X5 C dX4_order_54 (Or.inl X8_6) rfl ?_
    refine ww_iload_n C dX4_order_57 rfl 0 rfl ?_
    refine ww_iload_n C dX4_order_58 rfl 2 rfl ?_
    refine ww_iast C dX4_order_59 Y31_6 (by omega) (by decide) ?_
    refine ww_gen (fun h7 hE7 => ?_)
    have X0_6_h7 : h7 (D 0) = some (.inr (3, [.int ((M1.1, va_up M1.2.1 33 (upd (M1.2.1 33) (qo Q) (nI (qn Q))), M1.2.2).1 0), .ref (D 1), .int ((M1.1, va_up M1.2.1 33 (upd (M1.2.1 33) (qo Q) (nI (qn Q))), M1.2.2).1 1), .int ((M1.1, va_up M1.2.1 33 (upd (M1.2.1 33) (qo Q) (nI (qn Q))), M1.2.2).1 2), .ref (D 2), .ref (D 3), .ref (D 4), .ref (D 5), .int ((M1.1, va_up M1.2.1 33 (upd (M1.2.1 33) (qo Q) (nI (qn Q))), M1.2.2).1 3), .int ((M1.1, va_up M1.2.1 33 (upd (M1.2.1 33) (qo Q) (nI (qn Q))), M1.2.2).1 4), .int ((M1.1, va_up M1.2.1 33 (upd (M1.2.1 33) (qo Q) (nI (qn Q))), M1.2.2).1 5), .int ((M1.1, va_up M1.2.1 33 (upd (M1.2.1 33) (qo Q) (nI (qn Q))), M1.2.2).1 6), .int ((M1.1, va_up M1.2.1 33 (upd (M1.2.1 33) (qo Q) (nI (qn Q))), M1.2.2).1 7), .ref (D 6), .ref (D 7), .ref (D 8), .ref (D 9), .ref (D 10), .ref (D 11), .ref (D 12), .ref (D 13), .int ((M1.1, va_up M1.2.1 33 (upd (M1.2.1 33) (qo Q) (nI (qn Q))), M1.2.2).1 8), .int ((M1.1, va_up M1.2.1 33 (upd (M1.2.1 33) (qo Q) (nI (qn Q))), M1.2.2).1 9), .int ((M1.1, va_up M1.2.1 33 (upd (M1.2.1 33) (qo Q) (nI (qn Q))), M1.2.2).1 10)])) := by rw [hE7, up_n (fun q => by cases hc4.1.2 0 31 (by decide) (by decide) q)]; exact X0_6
    have X8_6_h7 : h7 (D 8) = some (.inr (4, [.int ((M1.1, va_up M1.2.1 33 (upd (M1.2.1 33) (qo Q) (nI (qn Q))), M1.2.2).1 25), .int ((M1.1, va_up M1.2.1 33 (upd (M1.2.1 33) (qo Q) (nI (qn Q))), M1.2.2).1 26), .int ((M1.1, va_up M1.2.1 33 (upd (M1.2.1 33) (qo Q) (nI (qn Q))), M1.2.2).1 27), .ref (D 30), .int ((M1.1, va_up M1.2.1 33 (upd (M1.2.1 33) (qo Q) (nI (qn Q))), M1.2.2).1 28), .ref (D 31), .ref (D 32), .ref (D 33), .ref (D 34), .ref (D 35), .ref (D 36), .int ((M1.1, va_up M1.2.1 33 (upd (M1.2.1 33) (qo Q) (nI (qn Q))), M1.2.2).1 29), .ref (D 37), .ref (D 38), .ref (D 39)])) := by rw [hE7, up_n (fun q => by cases hc4.1.2 8 31 (by decide) (by decide) q)]; exact X8_6
    have Y31_6_h7 : h7 (D 31) = some (.inl (gA (xG X) 0, (17, .inl (upd ((M1.1, va_up M1.2.1 33 (upd (M1.2.1 33) (qo Q) (nI (qn Q))), M1.2.2).2.1 31) (qo Q) (nI dz))))) := by rw [hE7]; exact up_s
    have hX8 : Mx (xG X) h7 D ((M1.1, va_up M1.2.1 33 (upd (M1.2.1 33) (qo Q) (nI (qn Q))), M1.2.2).1, va_up (M1.1, va_up M1.2.1 33 (upd (M1.2.1 33) (qo Q) (nI (qn Q))), M1.2.2).2.1 31 (upd ((M1.1, va_up M1.2.1 33 (upd (M1.2.1 33) (qo Q) (nI (qn Q))), M1.2.2).2.1 31) (qo Q) (nI dz)), (M1.1, va_up M1.2.1 33 (upd (M1.2.1 33) (qo Q) (nI (qn Q))), M1.2.2).2.2) := by rw [hE7]; exact Mx.r hc4.1 (i := 31) (by decide)
    have hc8 : PCx (xG X) h7 D t E ((M1.1, va_up M1.2.1 33 (upd (M1.2.1 33) (qo Q) (nI (qn Q))), M1.2.2).1, va_up (M1.1, va_up M1.2.1 33 (upd (M1.2.1 33) (qo Q) (nI (qn Q))), M1.2.2).2.1 31 (upd ((M1.1, va_up M1.2.1 33 (upd (M1.2.1 33) (qo Q) (nI (qn Q))), M1.2.2).2.1 31) (qo Q) (nI dz)), (M1.1, va_up M1.2.1 33 (upd (M1.2.1 33) (qo Q) (nI (qn Q))), M1.2.2).2.2) (o1Q Q) := PCx.rw hc4 hX8 (by omega) (by show qo (o1Q Q) ≤ _; have := hqo_a; omega)
    have pg8 : PG M ((M1.1, va_up M1.2.1 33 (upd (M1.2.1 33) (qo Q) (nI (qn Q))), M1.2.2).1, va_up (M1.1, va_up M1.2.1 33 (upd (M1.2.1 33) (qo Q) (nI (qn Q))), M1.2.2).2.1 31 (upd ((M1.1, va_up M1.2.1 33 (upd (M1.2.1 33) (qo Q) (nI (qn Q))), M1.2.2).2.1 31) (qo Q) (nI dz)), (M1.1, va_up M1.2.1 33 (upd (M1.2.1 33) (qo Q) (nI (qn Q))), M1.2.2).2.2) := pg4.r (by omega)
    have fg8 : FrD h h7 D := by rw [hE7]; exact FrD.w fg4 (i := 31) (by decide)
    have g33_qoQ_8 : ((M1.1, va_up M1.2.1 33 (upd (M1.2.1 33) (qo Q) (nI (qn Q))), M1.2.2).1, va_up (M1.1, va_up M1.2.1 33 (upd (M1.2.1 33) (qo Q) (nI (qn Q))), M1.2.2).2.1 31 (upd ((M1.1, va_up M1.2.1 33 (upd (M1.2.1 33) (qo Q) (nI (qn Q))), M1.2.2).2.1 31) (qo Q) (nI dz)), (M1.1, va_up M1.2.1 33 (upd (M1.2.1 33) (qo Q) (nI (qn Q))), M1.2.2).2.2).2.1 33 (qo Q) = nI (qn Q) := g33_qoQ_4
    have g31_qoQ_8 : ((M1.1, va_up M1.2.1 33 (upd (M1.2.1 33) (qo Q) (nI (qn Q))), M1.2.2).1, va_up (M1.1, va_up M1.2.1 33 (upd (M1.2.1 33) (qo Q) (nI (qn Q))), M1.2.2).2.1 31 (upd ((M1.1, va_up M1.2.1 33 (upd (M1.2.1 33) (qo Q) (nI (qn Q))), M1.2.2).2.1 31) (qo Q) (nI dz)), (M1.1, va_up M1.2.1 33 (upd (M1.2.1 33) (qo Q) (nI (qn Q))), M1.2.2).2.2).2.1 31 (qo Q) = nI dz := by show upd ((M1.1, va_up M1.2.1 33 (upd (M1.2.1 33) (qo Q) (nI (qn Q))), M1.2.2).2.1 31) (qo Q) (nI dz) (qo Q) = _; rw [upd_eq]
    have X0_9 : h7 (D 0) = some (cMd ((M1.1, va_up M1.2.1 33 (upd (M1.2.1 33) (qo Q) (nI (qn Q))), M1.2.2).1, va_up (M1.1, va_up M1.2.1 33 (upd (M1.2.1 33) (qo Q) (nI (qn Q))), M1.2.2).2.1 31 (upd ((M1.1, va_up M1.2.1 33 (upd (M1.2.1 33) (qo Q) (nI (qn Q))), M1.2.2).2.1 31) (qo Q) (nI dz)), (M1.1, va_up M1.2.1 33 (upd (M1.2.1 33) (qo Q) (nI (qn Q))), M1.2.2).2.2).1 D) := hc8.1.m
    have X0_10 : h7 (D 0) = some (cMd ((M1.1, va_up M1.2.1 33 (upd (M1.2.1 33) (qo Q) (nI (qn Q))), M1.2.2).1, va_up (M1.1, va_up M1.2.1 33 (upd (M1.2.1 33) (qo Q) (nI (qn Q))), M1.2.2).2.1 31 (upd ((M1.1, va_up M1.2.1 33 (upd (M1.2.1 33) (qo Q) (nI (qn Q))), M1.2.2).2.1 31) (qo Q) (nI dz)), (M1.1, va_up M1.2.1 33 (upd (M1.2.1 33) (qo Q) (nI (qn Q))), M1.2.2).2.2).1 D) := hc8.1.m
    have X8_10 : h7 (D 8) = some (cTd (((M1.1, va_up M1.2.1 33 (upd (M1.2.1 33) (qo Q) (nI (qn Q))), M1.2.2).1, va_up (M1.1, va_up M1.2.1 33 (upd (M1.2.1 33) (qo Q) (nI (qn Q))), M1.2.2).2.1 31 (upd ((M1.1, va_up M1.2.1 33 (upd (M1.2.1 33) (qo Q) (nI (qn Q))), M1.2.2).2.1 31) (qo Q) (nI dz)), (M1.1, va_up M1.2.1 33 (upd (M1.2.1 33) (qo Q) (nI (qn Q))), M1.2.2).2.2).1 25) (((M1.1, va_up M1.2.1 33 (upd (M1.2.1 33) (qo Q) (nI (qn Q))), M1.2.2).1, va_up (M1.1, va_up M1.2.1 33 (upd (M1.2.1 33) (qo Q) (nI (qn Q))), M1.2.2).2.1 31 (upd ((M1.1, va_up M1.2.1 33 (upd (M1.2.1 33) (qo Q) (nI (qn Q))), M1.2.2).2.1 31) (qo Q) (nI dz)), (M1.1, va_up M1.2.1 33 (upd (M1.2.1 33) (qo Q) (nI (qn Q))), M1.2.2).2.2).1 26) (((M1.1, va_up M1.2.1 33 (upd (M1.2.1 33) (qo Q) (nI (qn Q))), M1.2.2).1, va_up (M1.1, va_up M1.2.1 33 (upd (M1.2.1 33) (qo Q) (nI (qn Q))), M1.2.2).2.1 31 (upd ((M1.1, va_up M1.2.1 33 (upd (M1.2.1 33) (qo Q) (nI (qn Q))), M1.2.2).2.1 31) (qo Q) (nI dz)), (M1.1, va_up M1.2.1 33 (upd (M1.2.1 33) (qo Q) (nI (qn Q))), M1.2.2).2.2).1 27) (((M1.1, va_up M1.2.1 33 (upd (M1.2.1 33) (qo Q) (nI (qn Q))), M1.2.2).1, va_up (M1.1, va_up M1.2.1 33 (upd (M1.2.1 33) (qo Q) (nI (qn Q))), M1.2.2).2.1 31 (upd ((M1.1, va_up M1.2.1 33 (upd (M1.2.1 33) (qo Q) (nI (qn Q))), M1.2.2).2.1 31) (qo Q) (nI dz)), (M1.1, va_up M1.2.1 33 (upd (M1.2.1 33) (qo Q) (nI (qn Q))), M1.2.2).2.2).1 28) (((M1.1, va_up M1.2.1 33 (upd (M1.2.1 33) (qo Q) (nI (qn Q))), M1.2.2).1, va_up (M1.1, va_up M1.2.1 33 (upd (M1.2.1 33) (qo Q) (nI (qn Q))), M1.2.2).2.1 31 (upd ((M1.1, va_up M1.2.1 33 (upd (M1.2.1 33) (qo Q) (nI (qn Q))), M1.2.2).2.1 31) (qo Q) (nI dz)), (M1.1, va_up M1.2.1 33 (upd (M1.2.1 33) (qo Q) (nI (qn Q))), M1.2.2).2.2).1 29) (fun i => D (30 + i))) := hc8.1.1 8 (by decide)
    refine ww_aload_n C dX4_order_60 rfl 1 rfl rfl ?_
    refine gf_X4_39_X4 C dX4_order_61 (Or.inl X0_10) rfl ?_
    refine gf_X4_229_X5 C dX4_order_64 (Or.inl X8_10) rfl ?_
    refine ww_iload_n C dX4_order_67 rfl 0 rfl ?_
    refine ww_aload_n C dX4_order_68 rfl 1 rfl rfl ?_
    refine cv_X4_185_q (As := []) (rest := [.int (nI (qo Q)), .ref (D 32)]) C dX4_order_69 (ct_X4_name (Cx.fl C) (Cx.ok C) hc8 ) (rc_X4 (Cx.ok C) (Or.inl X0_10)) rfl rfl (Nat.le_of_ble_eq_true rfl) (by omega) (Nat.zero_le _) (Nat.zero_le _) (fun v11 z11 h11 q11 => ?_)
    obtain ⟨rfl, hq11, M11, pf11, hc11, fr11⟩ := q11; replace hq11 := hq11.symm; subst hq11
    have pg11 := pg8.tr pf11.g
    have fg11 := fg8.tr fr11
    have X0_12 : h11 (D 0) = some (cMd M11.1 D) := hc11.1.m
    have g33_qoQ_11 : M11.2.1 33 (qo Q) = nI (qn Q) := by rw [pf11.2.1 33 (by omega)]; exact g33_qoQ_8
    have g31_qoQ_11 : M11.2.1 31 (qo Q) = nI dz := by rw [pf11.2.1 31 (by omega)]; exact g31_qoQ_8
    have k2 := k1.tr (qK.nm hK k1.2.1)
    have hqo_b : qo ((nmQ E (o1Q Q)).2) = qo Q := k2.2.2.2.2.2.1
    have X0_13 : h11 (D 0) = some (cMd M11.1 D) := hc11.1.m
    have X8_13 : h11 (D 8) = some (cTd (M11.1 25) (M11.1 26) (M11.1 27) (M11.1 28) (M11.1 29) (fun i => D (30 + i))) := hc11.1.1 8 (by decide)
    have Y32_13 : h11 (D 32) = some (cI (xG X) 17 (M11.2.1 32)) := hc11.1.1 32 (by decide)
    refine ww_iast C dX4_order_72 Y32_13 (by omega) (by decide) ?_
    refine ww_gen (fun h14 hE14 => ?_)
    have X0_13_h14 : h14 (D 0) = some (.inr (3, [.int (M11.1 0), .ref (D 1), .int (M11.1 1), .int (M11.1 2), .ref (D 2), .ref (D 3), .ref (D 4), .ref (D 5), .int (M11.1 3), .int (M11.1 4), .int (M11.1 5), .int (M11.1 6), .int (M11.1 7), .ref (D 6), .ref (D 7), .ref (D 8), .ref (D 9), .ref (D 10), .ref (D 11), .ref (D 12), .ref (D 13), .int (M11.1 8), .int (M11.1 9), .int (M11.1 10)])) := by rw [hE14, up_n (fun q => by cases hc11.1.2 0 32 (by decide) (by decide) q)]; exact X0_13
    have X8_13_h14 : h14 (D 8) = some (.inr (4, [.int (M11.1 25), .int (M11.1 26), .int (M11.1 27), .ref (D 30), .int (M11.1 28), .ref (D 31), .ref (D 32), .ref (D 33), .ref (D 34), .ref (D 35), .ref (D 36), .int (M11.1 29), .ref (D 37), .ref (D 38), .ref (D 39)])) := by rw [hE14, up_n (fun q => by cases hc11.1.2 8 32 (by decide) (by decide) q)]; exact X8_13
    have Y32_13_h14 : h14 (D 32) = some (.inl (gA (xG X) 0, (17, .inl (upd (M11.2.1 32) (qo Q) (nI ((nmQ E (o1Q Q)).1)))))) := by rw [hE14]; exact up_s
    have hX15 : Mx (xG X) h14 D (M11.1, va_up M11.2.1 32 (upd (M11.2.1 32) (qo Q) (nI (nmQ E (o1Q Q)).1)), M11.2.2) := by rw [hE14]; exact Mx.r hc11.1 (i := 32) (by decide)
    have hc15 : PCx (xG X) h14 D t E (M11.1, va_up M11.2.1 32 (upd (M11.2.1 32) (qo Q) (nI (nmQ E (o1Q Q)).1)), M11.2.2) ((nmQ E (o1Q Q)).2) := PCx.rw hc11 hX15 (by omega) (by show qo ((nmQ E (o1Q Q)).2) ≤ _; have := hqo_b; omega)
    have pg15 : PG M (M11.1, va_up M11.2.1 32 (upd (M11.2.1 32) (qo Q) (nI (nmQ E (o1Q Q)).1)), M11.2.2) := pg11.r (by omega)
    have fg15 : FrD h h14 D := by rw [hE14]; exact FrD.w fg11 (i := 32) (by decide)
    have g33_qoQ_15 : (M11.1, va_up M11.2.1 32 (upd (M11.2.1 32) (qo Q) (nI (nmQ E (o1Q Q)).1)), M11.2.2).2.1 33 (qo Q) = nI (qn Q) := g33_qoQ_11
    have g31_qoQ_15 : (M11.1, va_up M11.2.1 32 (upd (M11.2.1 32) (qo Q) (nI (nmQ E (o1Q Q)).1)), M11.2.2).2.1 31 (qo Q) = nI dz := g31_qoQ_11
    have g32_qoQ_15 : (M11.1, va_up M11.2.1 32 (upd (M11.2.1 32) (qo Q) (nI (nmQ E (o1Q Q)).1)), M11.2.2).2.1 32 (qo Q) = nI (nmQ E (o1Q Q)).1 := by show upd (M11.2.1 32) (qo Q) (nI (nmQ E (o1Q Q)).1) (qo Q) = _; rw [upd_eq]
    have X0_16 : h14 (D 0) = some (cMd (M11.1, va_up M11.2.1 32 (upd (M11.2.1 32) (qo Q) (nI (nmQ E (o1Q Q)).1)), M11.2.2).1 D) := hc15.1.m
    have w142 : ∀ (s : Nat → Nat) (Q3 : QS) (M3 : MS) (h3 : AH), qK (tl t) Q Q3 → PCx (xG X) h3 D t E M3 Q3 → PG M M3 → FrD h h3 D → otQ E f (qo Q) dz (nmQ E (o1Q Q)).1 (qn Q) s Q3 = some Q' → M3.2.1 33 (qo Q) = nI (qn Q) → M3.2.1 31 (qo Q) = nI dz → M3.2.1 32 (qo Q) = nI (nmQ E (o1Q Q)).1 → (dz = 0 → ∀ p, p < 3 → M3.2.1 35 (3 * qo Q + p) = nI (s p)) → WW X (Rn (PPg (xG X) z h D t M Q')) z h3 0 0 142 [(2, .int (nI (qo Q))), (0, .ref (D 0)), (1, .int (nI dz))] [] := by
      intro s Q3 M3 h3 k3 hc3 pg3 fr3 hm3 f33 f31 f32 f35
      unfold otQ at hm3
      have X0_17 : h3 (D 0) = some (cMd M3.1 D) := hc3.1.m
      have X8_17 : h3 (D 8) = some (cTd (M3.1 25) (M3.1 26) (M3.1 27) (M3.1 28) (M3.1 29) (fun i => D (30 + i))) := hc3.1.1 8 (by decide)
      refine ww_aload_n C dX4_order_142 rfl 1 rfl rfl ?_
      refine gf_X4_39_X4 C dX4_order_143 (Or.inl X0_17) rfl ?_
      refine gf_X4_235_X5 C dX4_order_146 (Or.inl X8_17) rfl ?_
      refine ww_iload_n C dX4_order_149 rfl 0 rfl ?_
      refine ww_aload_n C dX4_order_150 rfl 1 rfl rfl ?_
      refine ww_bipush C dX4_order_151 cB_8 ?_
      refine cv_X4_182_q (As := [.int (nI 8)]) (rest := [.int (nI (qo Q)), .ref (D 36)]) C dX4_order_153 (ct_X4_takes (Cx.fl C) (Cx.ok C) hc3 (k := 8) (by decide) (by decide)) (rc_X4 (Cx.ok C) (Or.inl X0_17)) rfl rfl (Nat.le_of_ble_eq_true rfl) (by omega) (Nat.zero_le _) (Nat.zero_le _) (fun v18 z18 h18 q18 => ?_)
      obtain ⟨rfl, hq18, M18, pf18, hc18, fr18⟩ := q18; replace hq18 := hq18.symm; subst hq18
      have pg18 := pg3.tr pf18.g
      have fg18 := fr3.tr fr18
      have X0_19 : h18 (D 0) = some (cMd M18.1 D) := hc18.1.m
      have g33_qoQ_18 : M18.2.1 33 (qo Q) = nI (qn Q) := by rw [pf18.2.1 33 (by omega)]; exact f33
      have g31_qoQ_18 : M18.2.1 31 (qo Q) = nI dz := by rw [pf18.2.1 31 (by omega)]; exact f31
      have g32_qoQ_18 : M18.2.1 32 (qo Q) = nI (nmQ E (o1Q Q)).1 := by rw [pf18.2.1 32 (by omega)]; exact f32
      have f35a : dz = 0 → ∀ p, p < 3 → M18.2.1 35 (3 * qo Q + p) = nI (s p) := fun q p hp => by rw [pf18.2.1 35 (by omega)]; exact f35 q p hp
      refine ww_if_eq_b (tgt := 166) C dX4_order_156 (by decide) (fun c_156 => ?_) (fun c_156 => ?_)
      · skip
        rw [c_156] at hm3; cases hm3
        rw [if_neg (by rw [c_156]; decide)] at hc18
        refine ww_iconst C dX4_order_166 cI_m1 ?_
        have kq := k3
        have hqo_d : qo Q3 = qo Q := kq.2.2.2.2.2.1
        have X0_20 : h18 (D 0) = some (cMd M18.1 D) := hc18.1.m
        have X8_20 : h18 (D 8) = some (cTd (M18.1 25) (M18.1 26) (M18.1 27) (M18.1 28) (M18.1 29) (fun i => D (30 + i))) := hc18.1.1 8 (by decide)
        have Y36_20 : h18 (D 36) = some (cI (xG X) 17 (M18.2.1 36)) := hc18.1.1 36 (by decide)
        refine ww_iast C dX4_order_167 Y36_20 (by omega) (by decide) ?_
        refine ww_gen (fun h21 hE21 => ?_)
        have X0_20_h21 : h21 (D 0) = some (.inr (3, [.int (M18.1 0), .ref (D 1), .int (M18.1 1), .int (M18.1 2), .ref (D 2), .ref (D 3), .ref (D 4), .ref (D 5), .int (M18.1 3), .int (M18.1 4), .int (M18.1 5), .int (M18.1 6), .int (M18.1 7), .ref (D 6), .ref (D 7), .ref (D 8), .ref (D 9), .ref (D 10), .ref (D 11), .ref (D 12), .ref (D 13), .int (M18.1 8), .int (M18.1 9), .int (M18.1 10)])) := by rw [hE21, up_n (fun q => by cases hc18.1.2 0 36 (by decide) (by decide) q)]; exact X0_20
        have X8_20_h21 : h21 (D 8) = some (.inr (4, [.int (M18.1 25), .int (M18.1 26), .int (M18.1 27), .ref (D 30), .int (M18.1 28), .ref (D 31), .ref (D 32), .ref (D 33), .ref (D 34), .ref (D 35), .ref (D 36), .int (M18.1 29), .ref (D 37), .ref (D 38), .ref (D 39)])) := by rw [hE21, up_n (fun q => by cases hc18.1.2 8 36 (by decide) (by decide) q)]; exact X8_20
        have Y36_20_h21 : h21 (D 36) = some (.inl (gA (xG X) 0, (17, .inl (upd (M18.2.1 36) (qo Q) (-1))))) := by rw [hE21]; exact up_s
        have hX22 : Mx (xG X) h21 D (M18.1, va_up M18.2.1 36 (upd (M18.2.1 36) (qo Q) (-1)), M18.2.2) := by rw [hE21]; exact Mx.r hc18.1 (i := 36) (by decide)
        have hc22 : PCx (xG X) h21 D t E (M18.1, va_up M18.2.1 36 (upd (M18.2.1 36) (qo Q) (-1)), M18.2.2) Q3 := PCx.rw hc18 hX22 (by omega) (by show qo Q3 ≤ _; have := hqo_d; omega)
        have pg22 : PG M (M18.1, va_up M18.2.1 36 (upd (M18.2.1 36) (qo Q) (-1)), M18.2.2) := pg18.r (by omega)
        have fg22 : FrD h h21 D := by rw [hE21]; exact FrD.w fg18 (i := 36) (by decide)
        have g33_qoQ_22 : (M18.1, va_up M18.2.1 36 (upd (M18.2.1 36) (qo Q) (-1)), M18.2.2).2.1 33 (qo Q) = nI (qn Q) := g33_qoQ_18
        have g31_qoQ_22 : (M18.1, va_up M18.2.1 36 (upd (M18.2.1 36) (qo Q) (-1)), M18.2.2).2.1 31 (qo Q) = nI dz := g31_qoQ_18
        have g32_qoQ_22 : (M18.1, va_up M18.2.1 36 (upd (M18.2.1 36) (qo Q) (-1)), M18.2.2).2.1 32 (qo Q) = nI (nmQ E (o1Q Q)).1 := g32_qoQ_18
        have g36_qoQ_22 : (M18.1, va_up M18.2.1 36 (upd (M18.2.1 36) (qo Q) (-1)), M18.2.2).2.1 36 (qo Q) = -1 := by show upd (M18.2.1 36) (qo Q) (-1) (qo Q) = _; rw [upd_eq]
        have X0_23 : h21 (D 0) = some (cMd (M18.1, va_up M18.2.1 36 (upd (M18.2.1 36) (qo Q) (-1)), M18.2.2).1 D) := hc22.1.m
        have X0_24 : h21 (D 0) = some (cMd (M18.1, va_up M18.2.1 36 (upd (M18.2.1 36) (qo Q) (-1)), M18.2.2).1 D) := hc22.1.m
        have X8_24 : h21 (D 8) = some (cTd ((M18.1, va_up M18.2.1 36 (upd (M18.2.1 36) (qo Q) (-1)), M18.2.2).1 25) ((M18.1, va_up M18.2.1 36 (upd (M18.2.1 36) (qo Q) (-1)), M18.2.2).1 26) ((M18.1, va_up M18.2.1 36 (upd (M18.2.1 36) (qo Q) (-1)), M18.2.2).1 27) ((M18.1, va_up M18.2.1 36 (upd (M18.2.1 36) (qo Q) (-1)), M18.2.2).1 28) ((M18.1, va_up M18.2.1 36 (upd (M18.2.1 36) (qo Q) (-1)), M18.2.2).1 29) (fun i => D (30 + i))) := hc22.1.1 8 (by decide)
        have Y34_24 : h21 (D 34) = some (cI (xG X) 17 ((M18.1, va_up M18.2.1 36 (upd (M18.2.1 36) (qo Q) (-1)), M18.2.2).2.1 34)) := hc22.1.1 34 (by decide)
        refine ww_aload_n C dX4_order_168 rfl 1 rfl rfl ?_
        refine gf_X4_39_X4 C dX4_order_169 (Or.inl X0_24) rfl ?_
        refine gf_X4_237_X5 C dX4_order_172 (Or.inl X8_24) rfl ?_
        refine ww_iload_n C dX4_order_175 rfl 0 rfl ?_
        refine ww_aload_n C dX4_order_176 rfl 1 rfl rfl ?_
        refine gf_X4_39_X4 C dX4_order_177 (Or.inl X0_24) rfl ?_
        refine gf_X4_138_X5 C dX4_order_180 (Or.inl X8_24) rfl ?_
        refine ww_st (st' := [.int (nI (qn Q3)), .int (nI (qo Q)), .ref (D 34)]) (by rw [show (M18.1, va_up M18.2.1 36 (upd (M18.2.1 36) (qo Q) (-1)), M18.2.2).1 29 = nI (qn Q3) from hc22.2.1.2.1.2.2]) ?_
        refine ww_iast C dX4_order_183 Y34_24 (by omega) (by decide) ?_
        refine ww_gen (fun h25 hE25 => ?_)
        have X0_24_h25 : h25 (D 0) = some (.inr (3, [.int ((M18.1, va_up M18.2.1 36 (upd (M18.2.1 36) (qo Q) (-1)), M18.2.2).1 0), .ref (D 1), .int ((M18.1, va_up M18.2.1 36 (upd (M18.2.1 36) (qo Q) (-1)), M18.2.2).1 1), .int ((M18.1, va_up M18.2.1 36 (upd (M18.2.1 36) (qo Q) (-1)), M18.2.2).1 2), .ref (D 2), .ref (D 3), .ref (D 4), .ref (D 5), .int ((M18.1, va_up M18.2.1 36 (upd (M18.2.1 36) (qo Q) (-1)), M18.2.2).1 3), .int ((M18.1, va_up M18.2.1 36 (upd (M18.2.1 36) (qo Q) (-1)), M18.2.2).1 4), .int ((M18.1, va_up M18.2.1 36 (upd (M18.2.1 36) (qo Q) (-1)), M18.2.2).1 5), .int ((M18.1, va_up M18.2.1 36 (upd (M18.2.1 36) (qo Q) (-1)), M18.2.2).1 6), .int ((M18.1, va_up M18.2.1 36 (upd (M18.2.1 36) (qo Q) (-1)), M18.2.2).1 7), .ref (D 6), .ref (D 7), .ref (D 8), .ref (D 9), .ref (D 10), .ref (D 11), .ref (D 12), .ref (D 13), .int ((M18.1, va_up M18.2.1 36 (upd (M18.2.1 36) (qo Q) (-1)), M18.2.2).1 8), .int ((M18.1, va_up M18.2.1 36 (upd (M18.2.1 36) (qo Q) (-1)), M18.2.2).1 9), .int ((M18.1, va_up M18.2.1 36 (upd (M18.2.1 36) (qo Q) (-1)), M18.2.2).1 10)])) := by rw [hE25, up_n (fun q => by cases hc22.1.2 0 34 (by decide) (by decide) q)]; exact X0_24
        have X8_24_h25 : h25 (D 8) = some (.inr (4, [.int ((M18.1, va_up M18.2.1 36 (upd (M18.2.1 36) (qo Q) (-1)), M18.2.2).1 25), .int ((M18.1, va_up M18.2.1 36 (upd (M18.2.1 36) (qo Q) (-1)), M18.2.2).1 26), .int ((M18.1, va_up M18.2.1 36 (upd (M18.2.1 36) (qo Q) (-1)), M18.2.2).1 27), .ref (D 30), .int ((M18.1, va_up M18.2.1 36 (upd (M18.2.1 36) (qo Q) (-1)), M18.2.2).1 28), .ref (D 31), .ref (D 32), .ref (D 33), .ref (D 34), .ref (D 35), .ref (D 36), .int ((M18.1, va_up M18.2.1 36 (upd (M18.2.1 36) (qo Q) (-1)), M18.2.2).1 29), .ref (D 37), .ref (D 38), .ref (D 39)])) := by rw [hE25, up_n (fun q => by cases hc22.1.2 8 34 (by decide) (by decide) q)]; exact X8_24
        have Y34_24_h25 : h25 (D 34) = some (.inl (gA (xG X) 0, (17, .inl (upd ((M18.1, va_up M18.2.1 36 (upd (M18.2.1 36) (qo Q) (-1)), M18.2.2).2.1 34) (qo Q) (nI (qn Q3)))))) := by rw [hE25]; exact up_s
        have hX26 : Mx (xG X) h25 D ((M18.1, va_up M18.2.1 36 (upd (M18.2.1 36) (qo Q) (-1)), M18.2.2).1, va_up (M18.1, va_up M18.2.1 36 (upd (M18.2.1 36) (qo Q) (-1)), M18.2.2).2.1 34 (upd ((M18.1, va_up M18.2.1 36 (upd (M18.2.1 36) (qo Q) (-1)), M18.2.2).2.1 34) (qo Q) (nI (qn Q3))), (M18.1, va_up M18.2.1 36 (upd (M18.2.1 36) (qo Q) (-1)), M18.2.2).2.2) := by rw [hE25]; exact Mx.r hc22.1 (i := 34) (by decide)
        have hc26 : PCx (xG X) h25 D t E ((M18.1, va_up M18.2.1 36 (upd (M18.2.1 36) (qo Q) (-1)), M18.2.2).1, va_up (M18.1, va_up M18.2.1 36 (upd (M18.2.1 36) (qo Q) (-1)), M18.2.2).2.1 34 (upd ((M18.1, va_up M18.2.1 36 (upd (M18.2.1 36) (qo Q) (-1)), M18.2.2).2.1 34) (qo Q) (nI (qn Q3))), (M18.1, va_up M18.2.1 36 (upd (M18.2.1 36) (qo Q) (-1)), M18.2.2).2.2) Q3 := PCx.rw hc22 hX26 (by omega) (by show qo Q3 ≤ _; have := hqo_d; omega)
        have pg26 : PG M ((M18.1, va_up M18.2.1 36 (upd (M18.2.1 36) (qo Q) (-1)), M18.2.2).1, va_up (M18.1, va_up M18.2.1 36 (upd (M18.2.1 36) (qo Q) (-1)), M18.2.2).2.1 34 (upd ((M18.1, va_up M18.2.1 36 (upd (M18.2.1 36) (qo Q) (-1)), M18.2.2).2.1 34) (qo Q) (nI (qn Q3))), (M18.1, va_up M18.2.1 36 (upd (M18.2.1 36) (qo Q) (-1)), M18.2.2).2.2) := pg22.r (by omega)
        have fg26 : FrD h h25 D := by rw [hE25]; exact FrD.w fg22 (i := 34) (by decide)
        have g33_qoQ_26 : ((M18.1, va_up M18.2.1 36 (upd (M18.2.1 36) (qo Q) (-1)), M18.2.2).1, va_up (M18.1, va_up M18.2.1 36 (upd (M18.2.1 36) (qo Q) (-1)), M18.2.2).2.1 34 (upd ((M18.1, va_up M18.2.1 36 (upd (M18.2.1 36) (qo Q) (-1)), M18.2.2).2.1 34) (qo Q) (nI (qn Q3))), (M18.1, va_up M18.2.1 36 (upd (M18.2.1 36) (qo Q) (-1)), M18.2.2).2.2).2.1 33 (qo Q) = nI (qn Q) := g33_qoQ_22
        have g31_qoQ_26 : ((M18.1, va_up M18.2.1 36 (upd (M18.2.1 36) (qo Q) (-1)), M18.2.2).1, va_up (M18.1, va_up M18.2.1 36 (upd (M18.2.1 36) (qo Q) (-1)), M18.2.2).2.1 34 (upd ((M18.1, va_up M18.2.1 36 (upd (M18.2.1 36) (qo Q) (-1)), M18.2.2).2.1 34) (qo Q) (nI (qn Q3))), (M18.1, va_up M18.2.1 36 (upd (M18.2.1 36) (qo Q) (-1)), M18.2.2).2.2).2.1 31 (qo Q) = nI dz := g31_qoQ_22
        have g32_qoQ_26 : ((M18.1, va_up M18.2.1 36 (upd (M18.2.1 36) (qo Q) (-1)), M18.2.2).1, va_up (M18.1, va_up M18.2.1 36 (upd (M18.2.1 36) (qo Q) (-1)), M18.2.2).2.1 34 (upd ((M18.1, va_up M18.2.1 36 (upd (M18.2.1 36) (qo Q) (-1)), M18.2.2).2.1 34) (qo Q) (nI (qn Q3))), (M18.1, va_up M18.2.1 36 (upd (M18.2.1 36) (qo Q) (-1)), M18.2.2).2.2).2.1 32 (qo Q) = nI (nmQ E (o1Q Q)).1 := g32_qoQ_22
        have g36_qoQ_26 : ((M18.1, va_up M18.2.1 36 (upd (M18.2.1 36) (qo Q) (-1)), M18.2.2).1, va_up (M18.1, va_up M18.2.1 36 (upd (M18.2.1 36) (qo Q) (-1)), M18.2.2).2.1 34 (upd ((M18.1, va_up M18.2.1 36 (upd (M18.2.1 36) (qo Q) (-1)), M18.2.2).2.1 34) (qo Q) (nI (qn Q3))), (M18.1, va_up M18.2.1 36 (upd (M18.2.1 36) (qo Q) (-1)), M18.2.2).2.2).2.1 36 (qo Q) = -1 := g36_qoQ_22
        have g34_qoQ_26 : ((M18.1, va_up M18.2.1 36 (upd (M18.2.1 36) (qo Q) (-1)), M18.2.2).1, va_up (M18.1, va_up M18.2.1 36 (upd (M18.2.1 36) (qo Q) (-1)), M18.2.2).2.1 34 (upd ((M18.1, va_up M18.2.1 36 (upd (M18.2.1 36) (qo Q) (-1)), M18.2.2).2.1 34) (qo Q) (nI (qn Q3))), (M18.1, va_up M18.2.1 36 (upd (M18.2.1 36) (qo Q) (-1)), M18.2.2).2.2).2.1 34 (qo Q) = nI (qn Q3) := by show upd ((M18.1, va_up M18.2.1 36 (upd (M18.2.1 36) (qo Q) (-1)), M18.2.2).2.1 34) (qo Q) (nI (qn Q3)) (qo Q) = _; rw [upd_eq]
        have X0_27 : h25 (D 0) = some (cMd ((M18.1, va_up M18.2.1 36 (upd (M18.2.1 36) (qo Q) (-1)), M18.2.2).1, va_up (M18.1, va_up M18.2.1 36 (upd (M18.2.1 36) (qo Q) (-1)), M18.2.2).2.1 34 (upd ((M18.1, va_up M18.2.1 36 (upd (M18.2.1 36) (qo Q) (-1)), M18.2.2).2.1 34) (qo Q) (nI (qn Q3))), (M18.1, va_up M18.2.1 36 (upd (M18.2.1 36) (qo Q) (-1)), M18.2.2).2.2).1 D) := hc26.1.m
        have X0_28 : h25 (D 0) = some (cMd ((M18.1, va_up M18.2.1 36 (upd (M18.2.1 36) (qo Q) (-1)), M18.2.2).1, va_up (M18.1, va_up M18.2.1 36 (upd (M18.2.1 36) (qo Q) (-1)), M18.2.2).2.1 34 (upd ((M18.1, va_up M18.2.1 36 (upd (M18.2.1 36) (qo Q) (-1)), M18.2.2).2.1 34) (qo Q) (nI (qn Q3))), (M18.1, va_up M18.2.1 36 (upd (M18.2.1 36) (qo Q) (-1)), M18.2.2).2.2).1 D) := hc26.1.m
        have X8_28 : h25 (D 8) = some (cTd (((M18.1, va_up M18.2.1 36 (upd (M18.2.1 36) (qo Q) (-1)), M18.2.2).1, va_up (M18.1, va_up M18.2.1 36 (upd (M18.2.1 36) (qo Q) (-1)), M18.2.2).2.1 34 (upd ((M18.1, va_up M18.2.1 36 (upd (M18.2.1 36) (qo Q) (-1)), M18.2.2).2.1 34) (qo Q) (nI (qn Q3))), (M18.1, va_up M18.2.1 36 (upd (M18.2.1 36) (qo Q) (-1)), M18.2.2).2.2).1 25) (((M18.1, va_up M18.2.1 36 (upd (M18.2.1 36) (qo Q) (-1)), M18.2.2).1, va_up (M18.1, va_up M18.2.1 36 (upd (M18.2.1 36) (qo Q) (-1)), M18.2.2).2.1 34 (upd ((M18.1, va_up M18.2.1 36 (upd (M18.2.1 36) (qo Q) (-1)), M18.2.2).2.1 34) (qo Q) (nI (qn Q3))), (M18.1, va_up M18.2.1 36 (upd (M18.2.1 36) (qo Q) (-1)), M18.2.2).2.2).1 26) (((M18.1, va_up M18.2.1 36 (upd (M18.2.1 36) (qo Q) (-1)), M18.2.2).1, va_up (M18.1, va_up M18.2.1 36 (upd (M18.2.1 36) (qo Q) (-1)), M18.2.2).2.1 34 (upd ((M18.1, va_up M18.2.1 36 (upd (M18.2.1 36) (qo Q) (-1)), M18.2.2).2.1 34) (qo Q) (nI (qn Q3))), (M18.1, va_up M18.2.1 36 (upd (M18.2.1 36) (qo Q) (-1)), M18.2.2).2.2).1 27) (((M18.1, va_up M18.2.1 36 (upd (M18.2.1 36) (qo Q) (-1)), M18.2.2).1, va_up (M18.1, va_up M18.2.1 36 (upd (M18.2.1 36) (qo Q) (-1)), M18.2.2).2.1 34 (upd ((M18.1, va_up M18.2.1 36 (upd (M18.2.1 36) (qo Q) (-1)), M18.2.2).2.1 34) (qo Q) (nI (qn Q3))), (M18.1, va_up M18.2.1 36 (upd (M18.2.1 36) (qo Q) (-1)), M18.2.2).2.2).1 28) (((M18.1, va_up M18.2.1 36 (upd (M18.2.1 36) (qo Q) (-1)), M18.2.2).1, va_up (M18.1, va_up M18.2.1 36 (upd (M18.2.1 36) (qo Q) (-1)), M18.2.2).2.1 34 (upd ((M18.1, va_up M18.2.1 36 (upd (M18.2.1 36) (qo Q) (-1)), M18.2.2).2.1 34) (qo Q) (nI (qn Q3))), (M18.1, va_up M18.2.1 36 (upd (M18.2.1 36) (qo Q) (-1)), M18.2.2).2.2).1 29) (fun i => D (30 + i))) := hc26.1.1 8 (by decide)
        refine ww_aload_n C dX4_order_184 rfl 1 rfl rfl ?_
        refine gf_X4_39_X4 C dX4_order_185 (Or.inl X0_28) rfl ?_
        refine ww_bipush C dX4_order_188 cB_16 ?_
        refine ww_iload_n C dX4_order_190 rfl 0 rfl ?_
        refine ww_iconst C dX4_order_191 cI_1 ?_
        refine ww_iaddn C dX4_order_192 ?_
        refine cs_X4_211_r (As := [.int (nI 16), .int (nI ((qo Q) + 1))]) (rest := [.ref (D 8)]) C dX4_order_193 (ct_J14_min (Cx.fl C) (Cx.ok C) (by decide) (by omega)) rfl rfl (Nat.le_of_ble_eq_true rfl) (by omega) (Nat.zero_le _) (Nat.zero_le _) ?_
        refine pf_X4_220_X5 (fs' := [.int (((M18.1, va_up M18.2.1 36 (upd (M18.2.1 36) (qo Q) (-1)), M18.2.2).1, va_up (M18.1, va_up M18.2.1 36 (upd (M18.2.1 36) (qo Q) (-1)), M18.2.2).2.1 34 (upd ((M18.1, va_up M18.2.1 36 (upd (M18.2.1 36) (qo Q) (-1)), M18.2.2).2.1 34) (qo Q) (nI (qn Q3))), (M18.1, va_up M18.2.1 36 (upd (M18.2.1 36) (qo Q) (-1)), M18.2.2).2.2).1 25), .int (((M18.1, va_up M18.2.1 36 (upd (M18.2.1 36) (qo Q) (-1)), M18.2.2).1, va_up (M18.1, va_up M18.2.1 36 (upd (M18.2.1 36) (qo Q) (-1)), M18.2.2).2.1 34 (upd ((M18.1, va_up M18.2.1 36 (upd (M18.2.1 36) (qo Q) (-1)), M18.2.2).2.1 34) (qo Q) (nI (qn Q3))), (M18.1, va_up M18.2.1 36 (upd (M18.2.1 36) (qo Q) (-1)), M18.2.2).2.2).1 26), .int (((M18.1, va_up M18.2.1 36 (upd (M18.2.1 36) (qo Q) (-1)), M18.2.2).1, va_up (M18.1, va_up M18.2.1 36 (upd (M18.2.1 36) (qo Q) (-1)), M18.2.2).2.1 34 (upd ((M18.1, va_up M18.2.1 36 (upd (M18.2.1 36) (qo Q) (-1)), M18.2.2).2.1 34) (qo Q) (nI (qn Q3))), (M18.1, va_up M18.2.1 36 (upd (M18.2.1 36) (qo Q) (-1)), M18.2.2).2.2).1 27), .ref (D 30), .int (nI (min 16 (qo Q + 1))), .ref (D 31), .ref (D 32), .ref (D 33), .ref (D 34), .ref (D 35), .ref (D 36), .int (((M18.1, va_up M18.2.1 36 (upd (M18.2.1 36) (qo Q) (-1)), M18.2.2).1, va_up (M18.1, va_up M18.2.1 36 (upd (M18.2.1 36) (qo Q) (-1)), M18.2.2).2.1 34 (upd ((M18.1, va_up M18.2.1 36 (upd (M18.2.1 36) (qo Q) (-1)), M18.2.2).2.1 34) (qo Q) (nI (qn Q3))), (M18.1, va_up M18.2.1 36 (upd (M18.2.1 36) (qo Q) (-1)), M18.2.2).2.2).1 29), .ref (D 37), .ref (D 38), .ref (D 39)]) C dX4_order_196 X8_28 rfl rfl (Nat.le_of_ble_eq_true rfl) rfl ?_
        refine ww_gen (fun h29 hE29 => ?_)
        have X0_28_h29 : h29 (D 0) = some (.inr (3, [.int (((M18.1, va_up M18.2.1 36 (upd (M18.2.1 36) (qo Q) (-1)), M18.2.2).1, va_up (M18.1, va_up M18.2.1 36 (upd (M18.2.1 36) (qo Q) (-1)), M18.2.2).2.1 34 (upd ((M18.1, va_up M18.2.1 36 (upd (M18.2.1 36) (qo Q) (-1)), M18.2.2).2.1 34) (qo Q) (nI (qn Q3))), (M18.1, va_up M18.2.1 36 (upd (M18.2.1 36) (qo Q) (-1)), M18.2.2).2.2).1 0), .ref (D 1), .int (((M18.1, va_up M18.2.1 36 (upd (M18.2.1 36) (qo Q) (-1)), M18.2.2).1, va_up (M18.1, va_up M18.2.1 36 (upd (M18.2.1 36) (qo Q) (-1)), M18.2.2).2.1 34 (upd ((M18.1, va_up M18.2.1 36 (upd (M18.2.1 36) (qo Q) (-1)), M18.2.2).2.1 34) (qo Q) (nI (qn Q3))), (M18.1, va_up M18.2.1 36 (upd (M18.2.1 36) (qo Q) (-1)), M18.2.2).2.2).1 1), .int (((M18.1, va_up M18.2.1 36 (upd (M18.2.1 36) (qo Q) (-1)), M18.2.2).1, va_up (M18.1, va_up M18.2.1 36 (upd (M18.2.1 36) (qo Q) (-1)), M18.2.2).2.1 34 (upd ((M18.1, va_up M18.2.1 36 (upd (M18.2.1 36) (qo Q) (-1)), M18.2.2).2.1 34) (qo Q) (nI (qn Q3))), (M18.1, va_up M18.2.1 36 (upd (M18.2.1 36) (qo Q) (-1)), M18.2.2).2.2).1 2), .ref (D 2), .ref (D 3), .ref (D 4), .ref (D 5), .int (((M18.1, va_up M18.2.1 36 (upd (M18.2.1 36) (qo Q) (-1)), M18.2.2).1, va_up (M18.1, va_up M18.2.1 36 (upd (M18.2.1 36) (qo Q) (-1)), M18.2.2).2.1 34 (upd ((M18.1, va_up M18.2.1 36 (upd (M18.2.1 36) (qo Q) (-1)), M18.2.2).2.1 34) (qo Q) (nI (qn Q3))), (M18.1, va_up M18.2.1 36 (upd (M18.2.1 36) (qo Q) (-1)), M18.2.2).2.2).1 3), .int (((M18.1, va_up M18.2.1 36 (upd (M18.2.1 36) (qo Q) (-1)), M18.2.2).1, va_up (M18.1, va_up M18.2.1 36 (upd (M18.2.1 36) (qo Q) (-1)), M18.2.2).2.1 34 (upd ((M18.1, va_up M18.2.1 36 (upd (M18.2.1 36) (qo Q) (-1)), M18.2.2).2.1 34) (qo Q) (nI (qn Q3))), (M18.1, va_up M18.2.1 36 (upd (M18.2.1 36) (qo Q) (-1)), M18.2.2).2.2).1 4), .int (((M18.1, va_up M18.2.1 36 (upd (M18.2.1 36) (qo Q) (-1)), M18.2.2).1, va_up (M18.1, va_up M18.2.1 36 (upd (M18.2.1 36) (qo Q) (-1)), M18.2.2).2.1 34 (upd ((M18.1, va_up M18.2.1 36 (upd (M18.2.1 36) (qo Q) (-1)), M18.2.2).2.1 34) (qo Q) (nI (qn Q3))), (M18.1, va_up M18.2.1 36 (upd (M18.2.1 36) (qo Q) (-1)), M18.2.2).2.2).1 5), .int (((M18.1, va_up M18.2.1 36 (upd (M18.2.1 36) (qo Q) (-1)), M18.2.2).1, va_up (M18.1, va_up M18.2.1 36 (upd (M18.2.1 36) (qo Q) (-1)), M18.2.2).2.1 34 (upd ((M18.1, va_up M18.2.1 36 (upd (M18.2.1 36) (qo Q) (-1)), M18.2.2).2.1 34) (qo Q) (nI (qn Q3))), (M18.1, va_up M18.2.1 36 (upd (M18.2.1 36) (qo Q) (-1)), M18.2.2).2.2).1 6), .int (((M18.1, va_up M18.2.1 36 (upd (M18.2.1 36) (qo Q) (-1)), M18.2.2).1, va_up (M18.1, va_up M18.2.1 36 (upd (M18.2.1 36) (qo Q) (-1)), M18.2.2).2.1 34 (upd ((M18.1, va_up M18.2.1 36 (upd (M18.2.1 36) (qo Q) (-1)), M18.2.2).2.1 34) (qo Q) (nI (qn Q3))), (M18.1, va_up M18.2.1 36 (upd (M18.2.1 36) (qo Q) (-1)), M18.2.2).2.2).1 7), .ref (D 6), .ref (D 7), .ref (D 8), .ref (D 9), .ref (D 10), .ref (D 11), .ref (D 12), .ref (D 13), .int (((M18.1, va_up M18.2.1 36 (upd (M18.2.1 36) (qo Q) (-1)), M18.2.2).1, va_up (M18.1, va_up M18.2.1 36 (upd (M18.2.1 36) (qo Q) (-1)), M18.2.2).2.1 34 (upd ((M18.1, va_up M18.2.1 36 (upd (M18.2.1 36) (qo Q) (-1)), M18.2.2).2.1 34) (qo Q) (nI (qn Q3))), (M18.1, va_up M18.2.1 36 (upd (M18.2.1 36) (qo Q) (-1)), M18.2.2).2.2).1 8), .int (((M18.1, va_up M18.2.1 36 (upd (M18.2.1 36) (qo Q) (-1)), M18.2.2).1, va_up (M18.1, va_up M18.2.1 36 (upd (M18.2.1 36) (qo Q) (-1)), M18.2.2).2.1 34 (upd ((M18.1, va_up M18.2.1 36 (upd (M18.2.1 36) (qo Q) (-1)), M18.2.2).2.1 34) (qo Q) (nI (qn Q3))), (M18.1, va_up M18.2.1 36 (upd (M18.2.1 36) (qo Q) (-1)), M18.2.2).2.2).1 9), .int (((M18.1, va_up M18.2.1 36 (upd (M18.2.1 36) (qo Q) (-1)), M18.2.2).1, va_up (M18.1, va_up M18.2.1 36 (upd (M18.2.1 36) (qo Q) (-1)), M18.2.2).2.1 34 (upd ((M18.1, va_up M18.2.1 36 (upd (M18.2.1 36) (qo Q) (-1)), M18.2.2).2.1 34) (qo Q) (nI (qn Q3))), (M18.1, va_up M18.2.1 36 (upd (M18.2.1 36) (qo Q) (-1)), M18.2.2).2.2).1 10)])) := by rw [hE29, up_n (fun q => by cases hc26.1.2 0 8 (by decide) (by decide) q)]; exact X0_28
        have X8_28_h29 : h29 (D 8) = some (.inr (4, [.int (((M18.1, va_up M18.2.1 36 (upd (M18.2.1 36) (qo Q) (-1)), M18.2.2).1, va_up (M18.1, va_up M18.2.1 36 (upd (M18.2.1 36) (qo Q) (-1)), M18.2.2).2.1 34 (upd ((M18.1, va_up M18.2.1 36 (upd (M18.2.1 36) (qo Q) (-1)), M18.2.2).2.1 34) (qo Q) (nI (qn Q3))), (M18.1, va_up M18.2.1 36 (upd (M18.2.1 36) (qo Q) (-1)), M18.2.2).2.2).1 25), .int (((M18.1, va_up M18.2.1 36 (upd (M18.2.1 36) (qo Q) (-1)), M18.2.2).1, va_up (M18.1, va_up M18.2.1 36 (upd (M18.2.1 36) (qo Q) (-1)), M18.2.2).2.1 34 (upd ((M18.1, va_up M18.2.1 36 (upd (M18.2.1 36) (qo Q) (-1)), M18.2.2).2.1 34) (qo Q) (nI (qn Q3))), (M18.1, va_up M18.2.1 36 (upd (M18.2.1 36) (qo Q) (-1)), M18.2.2).2.2).1 26), .int (((M18.1, va_up M18.2.1 36 (upd (M18.2.1 36) (qo Q) (-1)), M18.2.2).1, va_up (M18.1, va_up M18.2.1 36 (upd (M18.2.1 36) (qo Q) (-1)), M18.2.2).2.1 34 (upd ((M18.1, va_up M18.2.1 36 (upd (M18.2.1 36) (qo Q) (-1)), M18.2.2).2.1 34) (qo Q) (nI (qn Q3))), (M18.1, va_up M18.2.1 36 (upd (M18.2.1 36) (qo Q) (-1)), M18.2.2).2.2).1 27), .ref (D 30), .int (nI (min 16 (qo Q + 1))), .ref (D 31), .ref (D 32), .ref (D 33), .ref (D 34), .ref (D 35), .ref (D 36), .int (((M18.1, va_up M18.2.1 36 (upd (M18.2.1 36) (qo Q) (-1)), M18.2.2).1, va_up (M18.1, va_up M18.2.1 36 (upd (M18.2.1 36) (qo Q) (-1)), M18.2.2).2.1 34 (upd ((M18.1, va_up M18.2.1 36 (upd (M18.2.1 36) (qo Q) (-1)), M18.2.2).2.1 34) (qo Q) (nI (qn Q3))), (M18.1, va_up M18.2.1 36 (upd (M18.2.1 36) (qo Q) (-1)), M18.2.2).2.2).1 29), .ref (D 37), .ref (D 38), .ref (D 39)])) := by rw [hE29]; exact up_s
        have hX99 : Mx (xG X) h29 D (upd ((M18.1, va_up M18.2.1 36 (upd (M18.2.1 36) (qo Q) (-1)), M18.2.2).1, va_up (M18.1, va_up M18.2.1 36 (upd (M18.2.1 36) (qo Q) (-1)), M18.2.2).2.1 34 (upd ((M18.1, va_up M18.2.1 36 (upd (M18.2.1 36) (qo Q) (-1)), M18.2.2).2.1 34) (qo Q) (nI (qn Q3))), (M18.1, va_up M18.2.1 36 (upd (M18.2.1 36) (qo Q) (-1)), M18.2.2).2.2).1 28 (nI (min 16 (qo Q + 1))), ((M18.1, va_up M18.2.1 36 (upd (M18.2.1 36) (qo Q) (-1)), M18.2.2).1, va_up (M18.1, va_up M18.2.1 36 (upd (M18.2.1 36) (qo Q) (-1)), M18.2.2).2.1 34 (upd ((M18.1, va_up M18.2.1 36 (upd (M18.2.1 36) (qo Q) (-1)), M18.2.2).2.1 34) (qo Q) (nI (qn Q3))), (M18.1, va_up M18.2.1 36 (upd (M18.2.1 36) (qo Q) (-1)), M18.2.2).2.2).2) := by rw [hE29]; exact Mx.i hc26.1 (j := 28) (Or.inr (by decide)) rfl
        exact ww_vret C dX4_order_199 ⟨rfl, (upd ((M18.1, va_up M18.2.1 36 (upd (M18.2.1 36) (qo Q) (-1)), M18.2.2).1, va_up (M18.1, va_up M18.2.1 36 (upd (M18.2.1 36) (qo Q) (-1)), M18.2.2).2.1 34 (upd ((M18.1, va_up M18.2.1 36 (upd (M18.2.1 36) (qo Q) (-1)), M18.2.2).2.1 34) (qo Q) (nI (qn Q3))), (M18.1, va_up M18.2.1 36 (upd (M18.2.1 36) (qo Q) (-1)), M18.2.2).2.2).1 28 (nI (min 16 (qo Q + 1))), ((M18.1, va_up M18.2.1 36 (upd (M18.2.1 36) (qo Q) (-1)), M18.2.2).1, va_up (M18.1, va_up M18.2.1 36 (upd (M18.2.1 36) (qo Q) (-1)), M18.2.2).2.1 34 (upd ((M18.1, va_up M18.2.1 36 (upd (M18.2.1 36) (qo Q) (-1)), M18.2.2).2.1 34) (qo Q) (nI (qn Q3))), (M18.1, va_up M18.2.1 36 (upd (M18.2.1 36) (qo Q) (-1)), M18.2.2).2.2).2), pg26.i (by omega), PCx.ord (te := none) hc hc26 hX99 kq hdz g31_qoQ_26 g32_qoQ_26 g33_qoQ_26 g34_qoQ_26 f35a g36_qoQ_26 hn, by rw [hE29]; exact FrD.w fg26 (i := 8) (by decide)⟩
      · skip
        rw [c_156] at hm3
        rw [if_pos c_156] at hc18
        have hl3 := isQ_lt hK k3.2.1 (by decide) c_156
        cases hm8 : mm E f 8 0 (avQ Q3) with
        | none => rw [hm8] at hm3; cases hm3
        | some y =>
          obtain ⟨i8, Q8⟩ := y; rw [hm8] at hm3; cases hm3
          have k8 := mm_k hK _ _ _ (avQ Q3) hl3 _ _ hm8
          have X0_30 : h18 (D 0) = some (cMd M18.1 D) := hc18.1.m
          have X8_30 : h18 (D 8) = some (cTd (M18.1 25) (M18.1 26) (M18.1 27) (M18.1 28) (M18.1 29) (fun i => D (30 + i))) := hc18.1.1 8 (by decide)
          refine ww_aload_n C dX4_order_159 rfl 1 rfl rfl ?_
          refine cv_X4_202_q (As := []) (rest := [.int (nI (qo Q)), .ref (D 36)]) C dX4_order_160 (hT z h18 D M18 (avQ Q3) _ _ hc18 hm8 hn) (rc_X4 (Cx.ok C) (Or.inl X0_30)) rfl rfl (Nat.le_of_ble_eq_true rfl) (by omega) (Nat.zero_le _) (Nat.zero_le _) (fun v31 z31 h31 q31 => ?_)
          obtain ⟨rfl, hq31, M31, pf31, hc31, fr31⟩ := q31; replace hq31 := hq31.symm; subst hq31
          have pg31 := pg18.tr pf31.g
          have fg31 := fg18.tr fr31
          have X0_32 : h31 (D 0) = some (cMd M31.1 D) := hc31.1.m
          have g33_qoQ_31 : M31.2.1 33 (qo Q) = nI (qn Q) := by rw [pf31.2.1 33 (by omega)]; exact g33_qoQ_18
          have g31_qoQ_31 : M31.2.1 31 (qo Q) = nI dz := by rw [pf31.2.1 31 (by omega)]; exact g31_qoQ_18
          have g32_qoQ_31 : M31.2.1 32 (qo Q) = nI (nmQ E (o1Q Q)).1 := by rw [pf31.2.1 32 (by omega)]; exact g32_qoQ_18
          have f35b : dz = 0 → ∀ p, p < 3 → M31.2.1 35 (3 * qo Q + p) = nI (s p) := fun q p hp => by rw [pf31.2.1 35 (by omega)]; exact f35a q p hp
          refine ww_goto (tgt := 167) C dX4_order_163 (by decide) ?_
          have kq := k3.tr ((qK.av hl3).tr k8)
          have hqo_d : qo Q8 = qo Q := kq.2.2.2.2.2.1
          have X0_33 : h31 (D 0) = some (cMd M31.1 D) := hc31.1.m
          have X8_33 : h31 (D 8) = some (cTd (M31.1 25) (M31.1 26) (M31.1 27) (M31.1 28) (M31.1 29) (fun i => D (30 + i))) := hc31.1.1 8 (by decide)
          have Y36_33 : h31 (D 36) = some (cI (xG X) 17 (M31.2.1 36)) := hc31.1.1 36 (by decide)
          refine ww_iast C dX4_order_167 Y36_33 (by omega) (by decide) ?_
          refine ww_gen (fun h34 hE34 => ?_)
          have X0_33_h34 : h34 (D 0) = some (.inr (3, [.int (M31.1 0), .ref (D 1), .int (M31.1 1), .int (M31.1 2), .ref (D 2), .ref (D 3), .ref (D 4), .ref (D 5), .int (M31.1 3), .int (M31.1 4), .int (M31.1 5), .int (M31.1 6), .int (M31.1 7), .ref (D 6), .ref (D 7), .ref (D 8), .ref (D 9), .ref (D 10), .ref (D 11), .ref (D 12), .ref (D 13), .int (M31.1 8), .int (M31.1 9), .int (M31.1 10)])) := by rw [hE34, up_n (fun q => by cases hc31.1.2 0 36 (by decide) (by decide) q)]; exact X0_33
          have X8_33_h34 : h34 (D 8) = some (.inr (4, [.int (M31.1 25), .int (M31.1 26), .int (M31.1 27), .ref (D 30), .int (M31.1 28), .ref (D 31), .ref (D 32), .ref (D 33), .ref (D 34), .ref (D 35), .ref (D 36), .int (M31.1 29), .ref (D 37), .ref (D 38), .ref (D 39)])) := by rw [hE34, up_n (fun q => by cases hc31.1.2 8 36 (by decide) (by decide) q)]; exact X8_33
          have Y36_33_h34 : h34 (D 36) = some (.inl (gA (xG X) 0, (17, .inl (upd (M31.2.1 36) (qo Q) (nI i8))))) := by rw [hE34]; exact up_s
          have hX35 : Mx (xG X) h34 D (M31.1, va_up M31.2.1 36 (upd (M31.2.1 36) (qo Q) (nI i8)), M31.2.2) := by rw [hE34]; exact Mx.r hc31.1 (i := 36) (by decide)
          have hc35 : PCx (xG X) h34 D t E (M31.1, va_up M31.2.1 36 (upd (M31.2.1 36) (qo Q) (nI i8)), M31.2.2) Q8 := PCx.rw hc31 hX35 (by omega) (by show qo Q8 ≤ _; have := hqo_d; omega)
          have pg35 : PG M (M31.1, va_up M31.2.1 36 (upd (M31.2.1 36) (qo Q) (nI i8)), M31.2.2) := pg31.r (by omega)
          have fg35 : FrD h h34 D := by rw [hE34]; exact FrD.w fg31 (i := 36) (by decide)
          have g33_qoQ_35 : (M31.1, va_up M31.2.1 36 (upd (M31.2.1 36) (qo Q) (nI i8)), M31.2.2).2.1 33 (qo Q) = nI (qn Q) := g33_qoQ_31
          have g31_qoQ_35 : (M31.1, va_up M31.2.1 36 (upd (M31.2.1 36) (qo Q) (nI i8)), M31.2.2).2.1 31 (qo Q) = nI dz := g31_qoQ_31
          have g32_qoQ_35 : (M31.1, va_up M31.2.1 36 (upd (M31.2.1 36) (qo Q) (nI i8)), M31.2.2).2.1 32 (qo Q) = nI (nmQ E (o1Q Q)).1 := g32_qoQ_31
          have g36_qoQ_35 : (M31.1, va_up M31.2.1 36 (upd (M31.2.1 36) (qo Q) (nI i8)), M31.2.2).2.1 36 (qo Q) = nI i8 := by show upd (M31.2.1 36) (qo Q) (nI i8) (qo Q) = _; rw [upd_eq]
          have X0_36 : h34 (D 0) = some (cMd (M31.1, va_up M31.2.1 36 (upd (M31.2.1 36) (qo Q) (nI i8)), M31.2.2).1 D) := hc35.1.m
          have X0_37 : h34 (D 0) = some (cMd (M31.1, va_up M31.2.1 36 (upd (M31.2.1 36) (qo Q) (nI i8)), M31.2.2).1 D) := hc35.1.m
          have X8_37 : h34 (D 8) = some (cTd ((M31.1, va_up M31.2.1 36 (upd (M31.2.1 36) (qo Q) (nI i8)), M31.2.2).1 25) ((M31.1, va_up M31.2.1 36 (upd (M31.2.1 36) (qo Q) (nI i8)), M31.2.2).1 26) ((M31.1, va_up M31.2.1 36 (upd (M31.2.1 36) (qo Q) (nI i8)), M31.2.2).1 27) ((M31.1, va_up M31.2.1 36 (upd (M31.2.1 36) (qo Q) (nI i8)), M31.2.2).1 28) ((M31.1, va_up M31.2.1 36 (upd (M31.2.1 36) (qo Q) (nI i8)), M31.2.2).1 29) (fun i => D (30 + i))) := hc35.1.1 8 (by decide)
          have Y34_37 : h34 (D 34) = some (cI (xG X) 17 ((M31.1, va_up M31.2.1 36 (upd (M31.2.1 36) (qo Q) (nI i8)), M31.2.2).2.1 34)) := hc35.1.1 34 (by decide)
          refine ww_aload_n C dX4_order_168 rfl 1 rfl rfl ?_
          refine gf_X4_39_X4 C dX4_order_169 (Or.inl X0_37) rfl ?_
          refine gf_X4_237_X5 C dX4_order_172 (Or.inl X8_37) rfl ?_
          refine ww_iload_n C dX4_order_175 rfl 0 rfl ?_
          refine ww_aload_n C dX4_order_176 rfl 1 rfl rfl ?_
          refine gf_X4_39_X4 C dX4_order_177 (Or.inl X0_37) rfl ?_
          refine gf_X4_138_X5 C dX4_order_180 (Or.inl X8_37) rfl ?_
          refine ww_st (st' := [.int (nI (qn Q8)), .int (nI (qo Q)), .ref (D 34)]) (by rw [show (M31.1, va_up M31.2.1 36 (upd (M31.2.1 36) (qo Q) (nI i8)), M31.2.2).1 29 = nI (qn Q8) from hc35.2.1.2.1.2.2]) ?_
          refine ww_iast C dX4_order_183 Y34_37 (by omega) (by decide) ?_
          refine ww_gen (fun h38 hE38 => ?_)
          have X0_37_h38 : h38 (D 0) = some (.inr (3, [.int ((M31.1, va_up M31.2.1 36 (upd (M31.2.1 36) (qo Q) (nI i8)), M31.2.2).1 0), .ref (D 1), .int ((M31.1, va_up M31.2.1 36 (upd (M31.2.1 36) (qo Q) (nI i8)), M31.2.2).1 1), .int ((M31.1, va_up M31.2.1 36 (upd (M31.2.1 36) (qo Q) (nI i8)), M31.2.2).1 2), .ref (D 2), .ref (D 3), .ref (D 4), .ref (D 5), .int ((M31.1, va_up M31.2.1 36 (upd (M31.2.1 36) (qo Q) (nI i8)), M31.2.2).1 3), .int ((M31.1, va_up M31.2.1 36 (upd (M31.2.1 36) (qo Q) (nI i8)), M31.2.2).1 4), .int ((M31.1, va_up M31.2.1 36 (upd (M31.2.1 36) (qo Q) (nI i8)), M31.2.2).1 5), .int ((M31.1, va_up M31.2.1 36 (upd (M31.2.1 36) (qo Q) (nI i8)), M31.2.2).1 6), .int ((M31.1, va_up M31.2.1 36 (upd (M31.2.1 36) (qo Q) (nI i8)), M31.2.2).1 7), .ref (D 6), .ref (D 7), .ref (D 8), .ref (D 9), .ref (D 10), .ref (D 11), .ref (D 12), .ref (D 13), .int ((M31.1, va_up M31.2.1 36 (upd (M31.2.1 36) (qo Q) (nI i8)), M31.2.2).1 8), .int ((M31.1, va_up M31.2.1 36 (upd (M31.2.1 36) (qo Q) (nI i8)), M31.2.2).1 9), .int ((M31.1, va_up M31.2.1 36 (upd (M31.2.1 36) (qo Q) (nI i8)), M31.2.2).1 10)])) := by rw [hE38, up_n (fun q => by cases hc35.1.2 0 34 (by decide) (by decide) q)]; exact X0_37
          have X8_37_h38 : h38 (D 8) = some (.inr (4, [.int ((M31.1, va_up M31.2.1 36 (upd (M31.2.1 36) (qo Q) (nI i8)), M31.2.2).1 25), .int ((M31.1, va_up M31.2.1 36 (upd (M31.2.1 36) (qo Q) (nI i8)), M31.2.2).1 26), .int ((M31.1, va_up M31.2.1 36 (upd (M31.2.1 36) (qo Q) (nI i8)), M31.2.2).1 27), .ref (D 30), .int ((M31.1, va_up M31.2.1 36 (upd (M31.2.1 36) (qo Q) (nI i8)), M31.2.2).1 28), .ref (D 31), .ref (D 32), .ref (D 33), .ref (D 34), .ref (D 35), .ref (D 36), .int ((M31.1, va_up M31.2.1 36 (upd (M31.2.1 36) (qo Q) (nI i8)), M31.2.2).1 29), .ref (D 37), .ref (D 38), .ref (D 39)])) := by rw [hE38, up_n (fun q => by cases hc35.1.2 8 34 (by decide) (by decide) q)]; exact X8_37
          have Y34_37_h38 : h38 (D 34) = some (.inl (gA (xG X) 0, (17, .inl (upd ((M31.1, va_up M31.2.1 36 (upd (M31.2.1 36) (qo Q) (nI i8)), M31.2.2).2.1 34) (qo Q) (nI (qn Q8)))))) := by rw [hE38]; exact up_s
          have hX39 : Mx (xG X) h38 D ((M31.1, va_up M31.2.1 36 (upd (M31.2.1 36) (qo Q) (nI i8)), M31.2.2).1, va_up (M31.1, va_up M31.2.1 36 (upd (M31.2.1 36) (qo Q) (nI i8)), M31.2.2).2.1 34 (upd ((M31.1, va_up M31.2.1 36 (upd (M31.2.1 36) (qo Q) (nI i8)), M31.2.2).2.1 34) (qo Q) (nI (qn Q8))), (M31.1, va_up M31.2.1 36 (upd (M31.2.1 36) (qo Q) (nI i8)), M31.2.2).2.2) := by rw [hE38]; exact Mx.r hc35.1 (i := 34) (by decide)
          have hc39 : PCx (xG X) h38 D t E ((M31.1, va_up M31.2.1 36 (upd (M31.2.1 36) (qo Q) (nI i8)), M31.2.2).1, va_up (M31.1, va_up M31.2.1 36 (upd (M31.2.1 36) (qo Q) (nI i8)), M31.2.2).2.1 34 (upd ((M31.1, va_up M31.2.1 36 (upd (M31.2.1 36) (qo Q) (nI i8)), M31.2.2).2.1 34) (qo Q) (nI (qn Q8))), (M31.1, va_up M31.2.1 36 (upd (M31.2.1 36) (qo Q) (nI i8)), M31.2.2).2.2) Q8 := PCx.rw hc35 hX39 (by omega) (by show qo Q8 ≤ _; have := hqo_d; omega)
          have pg39 : PG M ((M31.1, va_up M31.2.1 36 (upd (M31.2.1 36) (qo Q) (nI i8)), M31.2.2).1, va_up (M31.1, va_up M31.2.1 36 (upd (M31.2.1 36) (qo Q) (nI i8)), M31.2.2).2.1 34 (upd ((M31.1, va_up M31.2.1 36 (upd (M31.2.1 36) (qo Q) (nI i8)), M31.2.2).2.1 34) (qo Q) (nI (qn Q8))), (M31.1, va_up M31.2.1 36 (upd (M31.2.1 36) (qo Q) (nI i8)), M31.2.2).2.2) := pg35.r (by omega)
          have fg39 : FrD h h38 D := by rw [hE38]; exact FrD.w fg35 (i := 34) (by decide)
          have g33_qoQ_39 : ((M31.1, va_up M31.2.1 36 (upd (M31.2.1 36) (qo Q) (nI i8)), M31.2.2).1, va_up (M31.1, va_up M31.2.1 36 (upd (M31.2.1 36) (qo Q) (nI i8)), M31.2.2).2.1 34 (upd ((M31.1, va_up M31.2.1 36 (upd (M31.2.1 36) (qo Q) (nI i8)), M31.2.2).2.1 34) (qo Q) (nI (qn Q8))), (M31.1, va_up M31.2.1 36 (upd (M31.2.1 36) (qo Q) (nI i8)), M31.2.2).2.2).2.1 33 (qo Q) = nI (qn Q) := g33_qoQ_35
          have g31_qoQ_39 : ((M31.1, va_up M31.2.1 36 (upd (M31.2.1 36) (qo Q) (nI i8)), M31.2.2).1, va_up (M31.1, va_up M31.2.1 36 (upd (M31.2.1 36) (qo Q) (nI i8)), M31.2.2).2.1 34 (upd ((M31.1, va_up M31.2.1 36 (upd (M31.2.1 36) (qo Q) (nI i8)), M31.2.2).2.1 34) (qo Q) (nI (qn Q8))), (M31.1, va_up M31.2.1 36 (upd (M31.2.1 36) (qo Q) (nI i8)), M31.2.2).2.2).2.1 31 (qo Q) = nI dz := g31_qoQ_35
          have g32_qoQ_39 : ((M31.1, va_up M31.2.1 36 (upd (M31.2.1 36) (qo Q) (nI i8)), M31.2.2).1, va_up (M31.1, va_up M31.2.1 36 (upd (M31.2.1 36) (qo Q) (nI i8)), M31.2.2).2.1 34 (upd ((M31.1, va_up M31.2.1 36 (upd (M31.2.1 36) (qo Q) (nI i8)), M31.2.2).2.1 34) (qo Q) (nI (qn Q8))), (M31.1, va_up M31.2.1 36 (upd (M31.2.1 36) (qo Q) (nI i8)), M31.2.2).2.2).2.1 32 (qo Q) = nI (nmQ E (o1Q Q)).1 := g32_qoQ_35
          have g36_qoQ_39 : ((M31.1, va_up M31.2.1 36 (upd (M31.2.1 36) (qo Q) (nI i8)), M31.2.2).1, va_up (M31.1, va_up M31.2.1 36 (upd (M31.2.1 36) (qo Q) (nI i8)), M31.2.2).2.1 34 (upd ((M31.1, va_up M31.2.1 36 (upd (M31.2.1 36) (qo Q) (nI i8)), M31.2.2).2.1 34) (qo Q) (nI (qn Q8))), (M31.1, va_up M31.2.1 36 (upd (M31.2.1 36) (qo Q) (nI i8)), M31.2.2).2.2).2.1 36 (qo Q) = nI i8 := g36_qoQ_35
          have g34_qoQ_39 : ((M31.1, va_up M31.2.1 36 (upd (M31.2.1 36) (qo Q) (nI i8)), M31.2.2).1, va_up (M31.1, va_up M31.2.1 36 (upd (M31.2.1 36) (qo Q) (nI i8)), M31.2.2).2.1 34 (upd ((M31.1, va_up M31.2.1 36 (upd (M31.2.1 36) (qo Q) (nI i8)), M31.2.2).2.1 34) (qo Q) (nI (qn Q8))), (M31.1, va_up M31.2.1 36 (upd (M31.2.1 36) (qo Q) (nI i8)), M31.2.2).2.2).2.1 34 (qo Q) = nI (qn Q8) := by show upd ((M31.1, va_up M31.2.1 36 (upd (M31.2.1 36) (qo Q) (nI i8)), M31.2.2).2.1 34) (qo Q) (nI (qn Q8)) (qo Q) = _; rw [upd_eq]
          have X0_40 : h38 (D 0) = some (cMd ((M31.1, va_up M31.2.1 36 (upd (M31.2.1 36) (qo Q) (nI i8)), M31.2.2).1, va_up (M31.1, va_up M31.2.1 36 (upd (M31.2.1 36) (qo Q) (nI i8)), M31.2.2).2.1 34 (upd ((M31.1, va_up M31.2.1 36 (upd (M31.2.1 36) (qo Q) (nI i8)), M31.2.2).2.1 34) (qo Q) (nI (qn Q8))), (M31.1, va_up M31.2.1 36 (upd (M31.2.1 36) (qo Q) (nI i8)), M31.2.2).2.2).1 D) := hc39.1.m
          have X0_41 : h38 (D 0) = some (cMd ((M31.1, va_up M31.2.1 36 (upd (M31.2.1 36) (qo Q) (nI i8)), M31.2.2).1, va_up (M31.1, va_up M31.2.1 36 (upd (M31.2.1 36) (qo Q) (nI i8)), M31.2.2).2.1 34 (upd ((M31.1, va_up M31.2.1 36 (upd (M31.2.1 36) (qo Q) (nI i8)), M31.2.2).2.1 34) (qo Q) (nI (qn Q8))), (M31.1, va_up M31.2.1 36 (upd (M31.2.1 36) (qo Q) (nI i8)), M31.2.2).2.2).1 D) := hc39.1.m
          have X8_41 : h38 (D 8) = some (cTd (((M31.1, va_up M31.2.1 36 (upd (M31.2.1 36) (qo Q) (nI i8)), M31.2.2).1, va_up (M31.1, va_up M31.2.1 36 (upd (M31.2.1 36) (qo Q) (nI i8)), M31.2.2).2.1 34 (upd ((M31.1, va_up M31.2.1 36 (upd (M31.2.1 36) (qo Q) (nI i8)), M31.2.2).2.1 34) (qo Q) (nI (qn Q8))), (M31.1, va_up M31.2.1 36 (upd (M31.2.1 36) (qo Q) (nI i8)), M31.2.2).2.2).1 25) (((M31.1, va_up M31.2.1 36 (upd (M31.2.1 36) (qo Q) (nI i8)), M31.2.2).1, va_up (M31.1, va_up M31.2.1 36 (upd (M31.2.1 36) (qo Q) (nI i8)), M31.2.2).2.1 34 (upd ((M31.1, va_up M31.2.1 36 (upd (M31.2.1 36) (qo Q) (nI i8)), M31.2.2).2.1 34) (qo Q) (nI (qn Q8))), (M31.1, va_up M31.2.1 36 (upd (M31.2.1 36) (qo Q) (nI i8)), M31.2.2).2.2).1 26) (((M31.1, va_up M31.2.1 36 (upd (M31.2.1 36) (qo Q) (nI i8)), M31.2.2).1, va_up (M31.1, va_up M31.2.1 36 (upd (M31.2.1 36) (qo Q) (nI i8)), M31.2.2).2.1 34 (upd ((M31.1, va_up M31.2.1 36 (upd (M31.2.1 36) (qo Q) (nI i8)), M31.2.2).2.1 34) (qo Q) (nI (qn Q8))), (M31.1, va_up M31.2.1 36 (upd (M31.2.1 36) (qo Q) (nI i8)), M31.2.2).2.2).1 27) (((M31.1, va_up M31.2.1 36 (upd (M31.2.1 36) (qo Q) (nI i8)), M31.2.2).1, va_up (M31.1, va_up M31.2.1 36 (upd (M31.2.1 36) (qo Q) (nI i8)), M31.2.2).2.1 34 (upd ((M31.1, va_up M31.2.1 36 (upd (M31.2.1 36) (qo Q) (nI i8)), M31.2.2).2.1 34) (qo Q) (nI (qn Q8))), (M31.1, va_up M31.2.1 36 (upd (M31.2.1 36) (qo Q) (nI i8)), M31.2.2).2.2).1 28) (((M31.1, va_up M31.2.1 36 (upd (M31.2.1 36) (qo Q) (nI i8)), M31.2.2).1, va_up (M31.1, va_up M31.2.1 36 (upd (M31.2.1 36) (qo Q) (nI i8)), M31.2.2).2.1 34 (upd ((M31.1, va_up M31.2.1 36 (upd (M31.2.1 36) (qo Q) (nI i8)), M31.2.2).2.1 34) (qo Q) (nI (qn Q8))), (M31.1, va_up M31.2.1 36 (upd (M31.2.1 36) (qo Q) (nI i8)), M31.2.2).2.2).1 29) (fun i => D (30 + i))) := hc39.1.1 8 (by decide)
          refine ww_aload_n C dX4_order_184 rfl 1 rfl rfl ?_
          refine gf_X4_39_X4 C dX4_order_185 (Or.inl X0_41) rfl ?_
          refine ww_bipush C dX4_order_188 cB_16 ?_
          refine ww_iload_n C dX4_order_190 rfl 0 rfl ?_
          refine ww_iconst C dX4_order_191 cI_1 ?_
          refine ww_iaddn C dX4_order_192 ?_
          refine cs_X4_211_r (As := [.int (nI 16), .int (nI ((qo Q) + 1))]) (rest := [.ref (D 8)]) C dX4_order_193 (ct_J14_min (Cx.fl C) (Cx.ok C) (by decide) (by omega)) rfl rfl (Nat.le_of_ble_eq_true rfl) (by omega) (Nat.zero_le _) (Nat.zero_le _) ?_
          refine pf_X4_220_X5 (fs' := [.int (((M31.1, va_up M31.2.1 36 (upd (M31.2.1 36) (qo Q) (nI i8)), M31.2.2).1, va_up (M31.1, va_up M31.2.1 36 (upd (M31.2.1 36) (qo Q) (nI i8)), M31.2.2).2.1 34 (upd ((M31.1, va_up M31.2.1 36 (upd (M31.2.1 36) (qo Q) (nI i8)), M31.2.2).2.1 34) (qo Q) (nI (qn Q8))), (M31.1, va_up M31.2.1 36 (upd (M31.2.1 36) (qo Q) (nI i8)), M31.2.2).2.2).1 25), .int (((M31.1, va_up M31.2.1 36 (upd (M31.2.1 36) (qo Q) (nI i8)), M31.2.2).1, va_up (M31.1, va_up M31.2.1 36 (upd (M31.2.1 36) (qo Q) (nI i8)), M31.2.2).2.1 34 (upd ((M31.1, va_up M31.2.1 36 (upd (M31.2.1 36) (qo Q) (nI i8)), M31.2.2).2.1 34) (qo Q) (nI (qn Q8))), (M31.1, va_up M31.2.1 36 (upd (M31.2.1 36) (qo Q) (nI i8)), M31.2.2).2.2).1 26), .int (((M31.1, va_up M31.2.1 36 (upd (M31.2.1 36) (qo Q) (nI i8)), M31.2.2).1, va_up (M31.1, va_up M31.2.1 36 (upd (M31.2.1 36) (qo Q) (nI i8)), M31.2.2).2.1 34 (upd ((M31.1, va_up M31.2.1 36 (upd (M31.2.1 36) (qo Q) (nI i8)), M31.2.2).2.1 34) (qo Q) (nI (qn Q8))), (M31.1, va_up M31.2.1 36 (upd (M31.2.1 36) (qo Q) (nI i8)), M31.2.2).2.2).1 27), .ref (D 30), .int (nI (min 16 (qo Q + 1))), .ref (D 31), .ref (D 32), .ref (D 33), .ref (D 34), .ref (D 35), .ref (D 36), .int (((M31.1, va_up M31.2.1 36 (upd (M31.2.1 36) (qo Q) (nI i8)), M31.2.2).1, va_up (M31.1, va_up M31.2.1 36 (upd (M31.2.1 36) (qo Q) (nI i8)), M31.2.2).2.1 34 (upd ((M31.1, va_up M31.2.1 36 (upd (M31.2.1 36) (qo Q) (nI i8)), M31.2.2).2.1 34) (qo Q) (nI (qn Q8))), (M31.1, va_up M31.2.1 36 (upd (M31.2.1 36) (qo Q) (nI i8)), M31.2.2).2.2).1 29), .ref (D 37), .ref (D 38), .ref (D 39)]) C dX4_order_196 X8_41 rfl rfl (Nat.le_of_ble_eq_true rfl) rfl ?_
          refine ww_gen (fun h42 hE42 => ?_)
          have X0_41_h42 : h42 (D 0) = some (.inr (3, [.int (((M31.1, va_up M31.2.1 36 (upd (M31.2.1 36) (qo Q) (nI i8)), M31.2.2).1, va_up (M31.1, va_up M31.2.1 36 (upd (M31.2.1 36) (qo Q) (nI i8)), M31.2.2).2.1 34 (upd ((M31.1, va_up M31.2.1 36 (upd (M31.2.1 36) (qo Q) (nI i8)), M31.2.2).2.1 34) (qo Q) (nI (qn Q8))), (M31.1, va_up M31.2.1 36 (upd (M31.2.1 36) (qo Q) (nI i8)), M31.2.2).2.2).1 0), .ref (D 1), .int (((M31.1, va_up M31.2.1 36 (upd (M31.2.1 36) (qo Q) (nI i8)), M31.2.2).1, va_up (M31.1, va_up M31.2.1 36 (upd (M31.2.1 36) (qo Q) (nI i8)), M31.2.2).2.1 34 (upd ((M31.1, va_up M31.2.1 36 (upd (M31.2.1 36) (qo Q) (nI i8)), M31.2.2).2.1 34) (qo Q) (nI (qn Q8))), (M31.1, va_up M31.2.1 36 (upd (M31.2.1 36) (qo Q) (nI i8)), M31.2.2).2.2).1 1), .int (((M31.1, va_up M31.2.1 36 (upd (M31.2.1 36) (qo Q) (nI i8)), M31.2.2).1, va_up (M31.1, va_up M31.2.1 36 (upd (M31.2.1 36) (qo Q) (nI i8)), M31.2.2).2.1 34 (upd ((M31.1, va_up M31.2.1 36 (upd (M31.2.1 36) (qo Q) (nI i8)), M31.2.2).2.1 34) (qo Q) (nI (qn Q8))), (M31.1, va_up M31.2.1 36 (upd (M31.2.1 36) (qo Q) (nI i8)), M31.2.2).2.2).1 2), .ref (D 2), .ref (D 3), .ref (D 4), .ref (D 5), .int (((M31.1, va_up M31.2.1 36 (upd (M31.2.1 36) (qo Q) (nI i8)), M31.2.2).1, va_up (M31.1, va_up M31.2.1 36 (upd (M31.2.1 36) (qo Q) (nI i8)), M31.2.2).2.1 34 (upd ((M31.1, va_up M31.2.1 36 (upd (M31.2.1 36) (qo Q) (nI i8)), M31.2.2).2.1 34) (qo Q) (nI (qn Q8))), (M31.1, va_up M31.2.1 36 (upd (M31.2.1 36) (qo Q) (nI i8)), M31.2.2).2.2).1 3), .int (((M31.1, va_up M31.2.1 36 (upd (M31.2.1 36) (qo Q) (nI i8)), M31.2.2).1, va_up (M31.1, va_up M31.2.1 36 (upd (M31.2.1 36) (qo Q) (nI i8)), M31.2.2).2.1 34 (upd ((M31.1, va_up M31.2.1 36 (upd (M31.2.1 36) (qo Q) (nI i8)), M31.2.2).2.1 34) (qo Q) (nI (qn Q8))), (M31.1, va_up M31.2.1 36 (upd (M31.2.1 36) (qo Q) (nI i8)), M31.2.2).2.2).1 4), .int (((M31.1, va_up M31.2.1 36 (upd (M31.2.1 36) (qo Q) (nI i8)), M31.2.2).1, va_up (M31.1, va_up M31.2.1 36 (upd (M31.2.1 36) (qo Q) (nI i8)), M31.2.2).2.1 34 (upd ((M31.1, va_up M31.2.1 36 (upd (M31.2.1 36) (qo Q) (nI i8)), M31.2.2).2.1 34) (qo Q) (nI (qn Q8))), (M31.1, va_up M31.2.1 36 (upd (M31.2.1 36) (qo Q) (nI i8)), M31.2.2).2.2).1 5), .int (((M31.1, va_up M31.2.1 36 (upd (M31.2.1 36) (qo Q) (nI i8)), M31.2.2).1, va_up (M31.1, va_up M31.2.1 36 (upd (M31.2.1 36) (qo Q) (nI i8)), M31.2.2).2.1 34 (upd ((M31.1, va_up M31.2.1 36 (upd (M31.2.1 36) (qo Q) (nI i8)), M31.2.2).2.1 34) (qo Q) (nI (qn Q8))), (M31.1, va_up M31.2.1 36 (upd (M31.2.1 36) (qo Q) (nI i8)), M31.2.2).2.2).1 6), .int (((M31.1, va_up M31.2.1 36 (upd (M31.2.1 36) (qo Q) (nI i8)), M31.2.2).1, va_up (M31.1, va_up M31.2.1 36 (upd (M31.2.1 36) (qo Q) (nI i8)), M31.2.2).2.1 34 (upd ((M31.1, va_up M31.2.1 36 (upd (M31.2.1 36) (qo Q) (nI i8)), M31.2.2).2.1 34) (qo Q) (nI (qn Q8))), (M31.1, va_up M31.2.1 36 (upd (M31.2.1 36) (qo Q) (nI i8)), M31.2.2).2.2).1 7), .ref (D 6), .ref (D 7), .ref (D 8), .ref (D 9), .ref (D 10), .ref (D 11), .ref (D 12), .ref (D 13), .int (((M31.1, va_up M31.2.1 36 (upd (M31.2.1 36) (qo Q) (nI i8)), M31.2.2).1, va_up (M31.1, va_up M31.2.1 36 (upd (M31.2.1 36) (qo Q) (nI i8)), M31.2.2).2.1 34 (upd ((M31.1, va_up M31.2.1 36 (upd (M31.2.1 36) (qo Q) (nI i8)), M31.2.2).2.1 34) (qo Q) (nI (qn Q8))), (M31.1, va_up M31.2.1 36 (upd (M31.2.1 36) (qo Q) (nI i8)), M31.2.2).2.2).1 8), .int (((M31.1, va_up M31.2.1 36 (upd (M31.2.1 36) (qo Q) (nI i8)), M31.2.2).1, va_up (M31.1, va_up M31.2.1 36 (upd (M31.2.1 36) (qo Q) (nI i8)), M31.2.2).2.1 34 (upd ((M31.1, va_up M31.2.1 36 (upd (M31.2.1 36) (qo Q) (nI i8)), M31.2.2).2.1 34) (qo Q) (nI (qn Q8))), (M31.1, va_up M31.2.1 36 (upd (M31.2.1 36) (qo Q) (nI i8)), M31.2.2).2.2).1 9), .int (((M31.1, va_up M31.2.1 36 (upd (M31.2.1 36) (qo Q) (nI i8)), M31.2.2).1, va_up (M31.1, va_up M31.2.1 36 (upd (M31.2.1 36) (qo Q) (nI i8)), M31.2.2).2.1 34 (upd ((M31.1, va_up M31.2.1 36 (upd (M31.2.1 36) (qo Q) (nI i8)), M31.2.2).2.1 34) (qo Q) (nI (qn Q8))), (M31.1, va_up M31.2.1 36 (upd (M31.2.1 36) (qo Q) (nI i8)), M31.2.2).2.2).1 10)])) := by rw [hE42, up_n (fun q => by cases hc39.1.2 0 8 (by decide) (by decide) q)]; exact X0_41
          have X8_41_h42 : h42 (D 8) = some (.inr (4, [.int (((M31.1, va_up M31.2.1 36 (upd (M31.2.1 36) (qo Q) (nI i8)), M31.2.2).1, va_up (M31.1, va_up M31.2.1 36 (upd (M31.2.1 36) (qo Q) (nI i8)), M31.2.2).2.1 34 (upd ((M31.1, va_up M31.2.1 36 (upd (M31.2.1 36) (qo Q) (nI i8)), M31.2.2).2.1 34) (qo Q) (nI (qn Q8))), (M31.1, va_up M31.2.1 36 (upd (M31.2.1 36) (qo Q) (nI i8)), M31.2.2).2.2).1 25), .int (((M31.1, va_up M31.2.1 36 (upd (M31.2.1 36) (qo Q) (nI i8)), M31.2.2).1, va_up (M31.1, va_up M31.2.1 36 (upd (M31.2.1 36) (qo Q) (nI i8)), M31.2.2).2.1 34 (upd ((M31.1, va_up M31.2.1 36 (upd (M31.2.1 36) (qo Q) (nI i8)), M31.2.2).2.1 34) (qo Q) (nI (qn Q8))), (M31.1, va_up M31.2.1 36 (upd (M31.2.1 36) (qo Q) (nI i8)), M31.2.2).2.2).1 26), .int (((M31.1, va_up M31.2.1 36 (upd (M31.2.1 36) (qo Q) (nI i8)), M31.2.2).1, va_up (M31.1, va_up M31.2.1 36 (upd (M31.2.1 36) (qo Q) (nI i8)), M31.2.2).2.1 34 (upd ((M31.1, va_up M31.2.1 36 (upd (M31.2.1 36) (qo Q) (nI i8)), M31.2.2).2.1 34) (qo Q) (nI (qn Q8))), (M31.1, va_up M31.2.1 36 (upd (M31.2.1 36) (qo Q) (nI i8)), M31.2.2).2.2).1 27), .ref (D 30), .int (nI (min 16 (qo Q + 1))), .ref (D 31), .ref (D 32), .ref (D 33), .ref (D 34), .ref (D 35), .ref (D 36), .int (((M31.1, va_up M31.2.1 36 (upd (M31.2.1 36) (qo Q) (nI i8)), M31.2.2).1, va_up (M31.1, va_up M31.2.1 36 (upd (M31.2.1 36) (qo Q) (nI i8)), M31.2.2).2.1 34 (upd ((M31.1, va_up M31.2.1 36 (upd (M31.2.1 36) (qo Q) (nI i8)), M31.2.2).2.1 34) (qo Q) (nI (qn Q8))), (M31.1, va_up M31.2.1 36 (upd (M31.2.1 36) (qo Q) (nI i8)), M31.2.2).2.2).1 29), .ref (D 37), .ref (D 38), .ref (D 39)])) := by rw [hE42]; exact up_s
          have hX99 : Mx (xG X) h42 D (upd ((M31.1, va_up M31.2.1 36 (upd (M31.2.1 36) (qo Q) (nI i8)), M31.2.2).1, va_up (M31.1, va_up M31.2.1 36 (upd (M31.2.1 36) (qo Q) (nI i8)), M31.2.2).2.1 34 (upd ((M31.1, va_up M31.2.1 36 (upd (M31.2.1 36) (qo Q) (nI i8)), M31.2.2).2.1 34) (qo Q) (nI (qn Q8))), (M31.1, va_up M31.2.1 36 (upd (M31.2.1 36) (qo Q) (nI i8)), M31.2.2).2.2).1 28 (nI (min 16 (qo Q + 1))), ((M31.1, va_up M31.2.1 36 (upd (M31.2.1 36) (qo Q) (nI i8)), M31.2.2).1, va_up (M31.1, va_up M31.2.1 36 (upd (M31.2.1 36) (qo Q) (nI i8)), M31.2.2).2.1 34 (upd ((M31.1, va_up M31.2.1 36 (upd (M31.2.1 36) (qo Q) (nI i8)), M31.2.2).2.1 34) (qo Q) (nI (qn Q8))), (M31.1, va_up M31.2.1 36 (upd (M31.2.1 36) (qo Q) (nI i8)), M31.2.2).2.2).2) := by rw [hE42]; exact Mx.i hc39.1 (j := 28) (Or.inr (by decide)) rfl
          exact ww_vret C dX4_order_199 ⟨rfl, (upd ((M31.1, va_up M31.2.1 36 (upd (M31.2.1 36) (qo Q) (nI i8)), M31.2.2).1, va_up (M31.1, va_up M31.2.1 36 (upd (M31.2.1 36) (qo Q) (nI i8)), M31.2.2).2.1 34 (upd ((M31.1, va_up M31.2.1 36 (upd (M31.2.1 36) (qo Q) (nI i8)), M31.2.2).2.1 34) (qo Q) (nI (qn Q8))), (M31.1, va_up M31.2.1 36 (upd (M31.2.1 36) (qo Q) (nI i8)), M31.2.2).2.2).1 28 (nI (min 16 (qo Q + 1))), ((M31.1, va_up M31.2.1 36 (upd (M31.2.1 36) (qo Q) (nI i8)), M31.2.2).1, va_up (M31.1, va_up M31.2.1 36 (upd (M31.2.1 36) (qo Q) (nI i8)), M31.2.2).2.1 34 (upd ((M31.1, va_up M31.2.1 36 (upd (M31.2.1 36) (qo Q) (nI i8)), M31.2.2).2.1 34) (qo Q) (nI (qn Q8))), (M31.1, va_up M31.2.1 36 (upd (M31.2.1 36) (qo Q) (nI i8)), M31.2.2).2.2).2), pg39.i (by omega), PCx.ord (te := some i8) hc hc39 hX99 kq hdz g31_qoQ_39 g32_qoQ_39 g33_qoQ_39 g34_qoQ_39 f35b g36_qoQ_39 hn, by rw [hE42]; exact FrD.w fg39 (i := 8) (by decide)⟩
    refine ww_iload_n C dX4_order_73 rfl 2 rfl ?_
    refine ww_if_ne_n (tgt := 142) C dX4_order_74 (by decide) (by omega) (fun c_74 => ?_) (fun c_74 => ?_)
    · skip
      have hm3 : otQ E f (qo Q) dz (nmQ E (o1Q Q)).1 (qn Q) (fun _ => 0) (nmQ E (o1Q Q)).2 = some Q' := by { rw [← hkm]; rcases (show dz = 1 ∨ dz = 2 by omega) with q | q <;> subst q <;> exact hm }
      exact w142 _ _ _ h14 k2 hc15 pg15 fg15 hm3 g33_qoQ_15 g31_qoQ_15 g32_qoQ_15 (fun q => by omega)
    · skip
      have hm : orQ E f 0 Q = some Q' := by have q := hm; rw [c_74] at q; exact q
      unfold orQ at hm; simp only at hm
      cases hm0 : mm E f 3 0 (tkQ E 4 (nmQ E (o1Q Q)).2) with
      | none => rw [hm0] at hm; cases hm
      | some y0 =>
        obtain ⟨i0, Q1⟩ := y0; rw [hm0] at hm; simp only at hm
        cases hm1 : mm E f 3 0 (tkQ E 54 Q1) with
        | none => rw [hm1] at hm; cases hm
        | some y1 =>
          obtain ⟨i1, Q2⟩ := y1; rw [hm1] at hm; simp only at hm
          cases hm2 : mm E f 3 0 (tkQ E 5 Q2) with
          | none => rw [hm2] at hm; cases hm
          | some y2 =>
            obtain ⟨i2, Q3⟩ := y2; rw [hm2] at hm; simp only at hm
            rw [hkm] at hm
            have ka := k2.tr (qK.tk hK (k := 4) (by decide) k2.2.1)
            have kb := ka.tr (mm_k hK _ _ _ _ ka.2.1 _ _ hm0)
            have kc := kb.tr (qK.tk hK (k := 54) (by decide) kb.2.1)
            have kd := kc.tr (mm_k hK _ _ _ _ kc.2.1 _ _ hm1)
            have ke := kd.tr (qK.tk hK (k := 5) (by decide) kd.2.1)
            have kf := ke.tr (mm_k hK _ _ _ _ ke.2.1 _ _ hm2)
            have hn3 : qn Q3 ≤ 800 := Nat.le_trans (ot_n hK kf.2.1 hm) hn
            have hn2 : qn Q2 ≤ 800 := Nat.le_trans ((qK.tk hK (k := 5) (by decide) kd.2.1).tr (mm_k hK _ _ _ _ ke.2.1 _ _ hm2)).2.2.1 hn3
            have hn1 : qn Q1 ≤ 800 := Nat.le_trans ((qK.tk hK (k := 54) (by decide) kb.2.1).tr (mm_k hK _ _ _ _ kc.2.1 _ _ hm1)).2.2.1 hn2
            have X0_43 : h14 (D 0) = some (cMd (M11.1, va_up M11.2.1 32 (upd (M11.2.1 32) (qo Q) (nI (nmQ E (o1Q Q)).1)), M11.2.2).1 D) := hc15.1.m
            have X8_43 : h14 (D 8) = some (cTd ((M11.1, va_up M11.2.1 32 (upd (M11.2.1 32) (qo Q) (nI (nmQ E (o1Q Q)).1)), M11.2.2).1 25) ((M11.1, va_up M11.2.1 32 (upd (M11.2.1 32) (qo Q) (nI (nmQ E (o1Q Q)).1)), M11.2.2).1 26) ((M11.1, va_up M11.2.1 32 (upd (M11.2.1 32) (qo Q) (nI (nmQ E (o1Q Q)).1)), M11.2.2).1 27) ((M11.1, va_up M11.2.1 32 (upd (M11.2.1 32) (qo Q) (nI (nmQ E (o1Q Q)).1)), M11.2.2).1 28) ((M11.1, va_up M11.2.1 32 (upd (M11.2.1 32) (qo Q) (nI (nmQ E (o1Q Q)).1)), M11.2.2).1 29) (fun i => D (30 + i))) := hc15.1.1 8 (by decide)
            refine ww_aload_n C dX4_order_77 rfl 1 rfl rfl ?_
            refine ww_iconst C dX4_order_78 cI_4 ?_
            refine cv_X4_164_q (As := [.int (nI 4)]) (rest := []) C dX4_order_79 (ct_X4_take (Cx.fl C) (Cx.ok C) hc15 (k := 4) (by decide) (by decide)) (rc_X4 (Cx.ok C) (Or.inl X0_43)) rfl rfl (Nat.le_of_ble_eq_true rfl) (by omega) (Nat.zero_le _) (Nat.zero_le _) (fun z44 h44 q44 => ?_)
            obtain ⟨hq44, M44, pf44, hc44, fr44⟩ := q44; replace hq44 := hq44.symm; subst hq44
            have pg44 := pg15.tr pf44.g
            have fg44 := fg15.tr fr44
            have X0_45 : h44 (D 0) = some (cMd M44.1 D) := hc44.1.m
            have g33_qoQ_44 : M44.2.1 33 (qo Q) = nI (qn Q) := by rw [pf44.2.1 33 (by omega)]; exact g33_qoQ_15
            have g31_qoQ_44 : M44.2.1 31 (qo Q) = nI dz := by rw [pf44.2.1 31 (by omega)]; exact g31_qoQ_15
            have g32_qoQ_44 : M44.2.1 32 (qo Q) = nI (nmQ E (o1Q Q)).1 := by rw [pf44.2.1 32 (by omega)]; exact g32_qoQ_15
            have X0_46 : h44 (D 0) = some (cMd M44.1 D) := hc44.1.m
            have X8_46 : h44 (D 8) = some (cTd (M44.1 25) (M44.1 26) (M44.1 27) (M44.1 28) (M44.1 29) (fun i => D (30 + i))) := hc44.1.1 8 (by decide)
            refine ww_aload_n C dX4_order_82 rfl 1 rfl rfl ?_
            refine gf_X4_39_X4 C dX4_order_83 (Or.inl X0_46) rfl ?_
            refine gf_X4_232_X5 C dX4_order_86 (Or.inl X8_46) rfl ?_
            refine ww_iconst C dX4_order_89 cI_3 ?_
            refine ww_iload_n C dX4_order_90 rfl 0 rfl ?_
            refine ww_imuln C dX4_order_91 ?_
            refine ww_aload_n C dX4_order_92 rfl 1 rfl rfl ?_
            refine cv_X4_175_q (As := []) (rest := [.int (nI (3 * (qo Q))), .ref (D 35)]) C dX4_order_93 (hS z h44 D M44 (tkQ E 4 (nmQ E (o1Q Q)).2) _ _ hc44 hm0 hn1) (rc_X4 (Cx.ok C) (Or.inl X0_46)) rfl rfl (Nat.le_of_ble_eq_true rfl) (by omega) (Nat.zero_le _) (Nat.zero_le _) (fun v47 z47 h47 q47 => ?_)
            obtain ⟨rfl, hq47, M47, pf47, hc47, fr47⟩ := q47; replace hq47 := hq47.symm; subst hq47
            have pg47 := pg44.tr pf47.g
            have fg47 := fg44.tr fr47
            have X0_48 : h47 (D 0) = some (cMd M47.1 D) := hc47.1.m
            have g33_qoQ_47 : M47.2.1 33 (qo Q) = nI (qn Q) := by rw [pf47.2.1 33 (by omega)]; exact g33_qoQ_44
            have g31_qoQ_47 : M47.2.1 31 (qo Q) = nI dz := by rw [pf47.2.1 31 (by omega)]; exact g31_qoQ_44
            have g32_qoQ_47 : M47.2.1 32 (qo Q) = nI (nmQ E (o1Q Q)).1 := by rw [pf47.2.1 32 (by omega)]; exact g32_qoQ_44
            have hqo_e : qo Q1 = qo Q := kb.2.2.2.2.2.1
            have X0_49 : h47 (D 0) = some (cMd M47.1 D) := hc47.1.m
            have X8_49 : h47 (D 8) = some (cTd (M47.1 25) (M47.1 26) (M47.1 27) (M47.1 28) (M47.1 29) (fun i => D (30 + i))) := hc47.1.1 8 (by decide)
            have Y35_49 : h47 (D 35) = some (cI (xG X) 51 (M47.2.1 35)) := hc47.1.1 35 (by decide)
            refine ww_iast C dX4_order_96 Y35_49 (by omega) (by decide) ?_
            refine ww_gen (fun h50 hE50 => ?_)
            have X0_49_h50 : h50 (D 0) = some (.inr (3, [.int (M47.1 0), .ref (D 1), .int (M47.1 1), .int (M47.1 2), .ref (D 2), .ref (D 3), .ref (D 4), .ref (D 5), .int (M47.1 3), .int (M47.1 4), .int (M47.1 5), .int (M47.1 6), .int (M47.1 7), .ref (D 6), .ref (D 7), .ref (D 8), .ref (D 9), .ref (D 10), .ref (D 11), .ref (D 12), .ref (D 13), .int (M47.1 8), .int (M47.1 9), .int (M47.1 10)])) := by rw [hE50, up_n (fun q => by cases hc47.1.2 0 35 (by decide) (by decide) q)]; exact X0_49
            have X8_49_h50 : h50 (D 8) = some (.inr (4, [.int (M47.1 25), .int (M47.1 26), .int (M47.1 27), .ref (D 30), .int (M47.1 28), .ref (D 31), .ref (D 32), .ref (D 33), .ref (D 34), .ref (D 35), .ref (D 36), .int (M47.1 29), .ref (D 37), .ref (D 38), .ref (D 39)])) := by rw [hE50, up_n (fun q => by cases hc47.1.2 8 35 (by decide) (by decide) q)]; exact X8_49
            have Y35_49_h50 : h50 (D 35) = some (.inl (gA (xG X) 0, (51, .inl (upd (M47.2.1 35) (3 * (qo Q)) (nI i0))))) := by rw [hE50]; exact up_s
            have hX51 : Mx (xG X) h50 D (M47.1, va_up M47.2.1 35 (upd (M47.2.1 35) (3 * qo Q) (nI i0)), M47.2.2) := by rw [hE50]; exact Mx.r hc47.1 (i := 35) (by decide)
            have hc51 : PCx (xG X) h50 D t E (M47.1, va_up M47.2.1 35 (upd (M47.2.1 35) (3 * qo Q) (nI i0)), M47.2.2) Q1 := PCx.rw hc47 hX51 (by omega) (by show 3 * qo Q1 ≤ _; have := hqo_e; omega)
            have pg51 : PG M (M47.1, va_up M47.2.1 35 (upd (M47.2.1 35) (3 * qo Q) (nI i0)), M47.2.2) := pg47.r (by omega)
            have fg51 : FrD h h50 D := by rw [hE50]; exact FrD.w fg47 (i := 35) (by decide)
            have g33_qoQ_51 : (M47.1, va_up M47.2.1 35 (upd (M47.2.1 35) (3 * qo Q) (nI i0)), M47.2.2).2.1 33 (qo Q) = nI (qn Q) := g33_qoQ_47
            have g31_qoQ_51 : (M47.1, va_up M47.2.1 35 (upd (M47.2.1 35) (3 * qo Q) (nI i0)), M47.2.2).2.1 31 (qo Q) = nI dz := g31_qoQ_47
            have g32_qoQ_51 : (M47.1, va_up M47.2.1 35 (upd (M47.2.1 35) (3 * qo Q) (nI i0)), M47.2.2).2.1 32 (qo Q) = nI (nmQ E (o1Q Q)).1 := g32_qoQ_47
            have g35_3qoQ_51 : (M47.1, va_up M47.2.1 35 (upd (M47.2.1 35) (3 * qo Q) (nI i0)), M47.2.2).2.1 35 (3 * qo Q) = nI i0 := by show upd (M47.2.1 35) (3 * qo Q) (nI i0) (3 * qo Q) = _; rw [upd_eq]
            have X0_52 : h50 (D 0) = some (cMd (M47.1, va_up M47.2.1 35 (upd (M47.2.1 35) (3 * qo Q) (nI i0)), M47.2.2).1 D) := hc51.1.m
            refine ww_aload_n C dX4_order_97 rfl 1 rfl rfl ?_
            refine ww_bipush C dX4_order_98 cB_54 ?_
            refine cv_X4_164_q (As := [.int (nI 54)]) (rest := []) C dX4_order_100 (ct_X4_take (Cx.fl C) (Cx.ok C) hc51 (k := 54) (by decide) (by decide)) (rc_X4 (Cx.ok C) (Or.inl X0_52)) rfl rfl (Nat.le_of_ble_eq_true rfl) (by omega) (Nat.zero_le _) (Nat.zero_le _) (fun z53 h53 q53 => ?_)
            obtain ⟨hq53, M53, pf53, hc53, fr53⟩ := q53; replace hq53 := hq53.symm; subst hq53
            have pg53 := pg51.tr pf53.g
            have fg53 := fg51.tr fr53
            have X0_54 : h53 (D 0) = some (cMd M53.1 D) := hc53.1.m
            have g33_qoQ_53 : M53.2.1 33 (qo Q) = nI (qn Q) := by rw [pf53.2.1 33 (by omega)]; exact g33_qoQ_51
            have g31_qoQ_53 : M53.2.1 31 (qo Q) = nI dz := by rw [pf53.2.1 31 (by omega)]; exact g31_qoQ_51
            have g32_qoQ_53 : M53.2.1 32 (qo Q) = nI (nmQ E (o1Q Q)).1 := by rw [pf53.2.1 32 (by omega)]; exact g32_qoQ_51
            have g35_3qoQ_53 : M53.2.1 35 (3 * qo Q) = nI i0 := by rw [pf53.2.1 35 (by omega)]; exact g35_3qoQ_51
            have X0_55 : h53 (D 0) = some (cMd M53.1 D) := hc53.1.m
            have X8_55 : h53 (D 8) = some (cTd (M53.1 25) (M53.1 26) (M53.1 27) (M53.1 28) (M53.1 29) (fun i => D (30 + i))) := hc53.1.1 8 (by decide)
            refine ww_aload_n C dX4_order_103 rfl 1 rfl rfl ?_
            refine gf_X4_39_X4 C dX4_order_104 (Or.inl X0_55) rfl ?_
            refine gf_X4_232_X5 C dX4_order_107 (Or.inl X8_55) rfl ?_
            refine ww_iconst C dX4_order_110 cI_3 ?_
            refine ww_iload_n C dX4_order_111 rfl 0 rfl ?_
            refine ww_imuln C dX4_order_112 ?_
            refine ww_iconst C dX4_order_113 cI_1 ?_
            refine ww_iaddn C dX4_order_114 ?_
            refine ww_aload_n C dX4_order_115 rfl 1 rfl rfl ?_
            refine cv_X4_175_q (As := []) (rest := [.int (nI ((3 * (qo Q)) + 1)), .ref (D 35)]) C dX4_order_116 (hS z h53 D M53 (tkQ E 54 Q1) _ _ hc53 hm1 hn2) (rc_X4 (Cx.ok C) (Or.inl X0_55)) rfl rfl (Nat.le_of_ble_eq_true rfl) (by omega) (Nat.zero_le _) (Nat.zero_le _) (fun v56 z56 h56 q56 => ?_)
            obtain ⟨rfl, hq56, M56, pf56, hc56, fr56⟩ := q56; replace hq56 := hq56.symm; subst hq56
            have pg56 := pg53.tr pf56.g
            have fg56 := fg53.tr fr56
            have X0_57 : h56 (D 0) = some (cMd M56.1 D) := hc56.1.m
            have g33_qoQ_56 : M56.2.1 33 (qo Q) = nI (qn Q) := by rw [pf56.2.1 33 (by omega)]; exact g33_qoQ_53
            have g31_qoQ_56 : M56.2.1 31 (qo Q) = nI dz := by rw [pf56.2.1 31 (by omega)]; exact g31_qoQ_53
            have g32_qoQ_56 : M56.2.1 32 (qo Q) = nI (nmQ E (o1Q Q)).1 := by rw [pf56.2.1 32 (by omega)]; exact g32_qoQ_53
            have g35_3qoQ_56 : M56.2.1 35 (3 * qo Q) = nI i0 := by rw [pf56.2.1 35 (by omega)]; exact g35_3qoQ_53
            have hqo_g : qo Q2 = qo Q := kd.2.2.2.2.2.1
            have X0_58 : h56 (D 0) = some (cMd M56.1 D) := hc56.1.m
            have X8_58 : h56 (D 8) = some (cTd (M56.1 25) (M56.1 26) (M56.1 27) (M56.1 28) (M56.1 29) (fun i => D (30 + i))) := hc56.1.1 8 (by decide)
            have Y35_58 : h56 (D 35) = some (cI (xG X) 51 (M56.2.1 35)) := hc56.1.1 35 (by decide)
            refine ww_iast C dX4_order_119 Y35_58 (by omega) (by decide) ?_
            refine ww_gen (fun h59 hE59 => ?_)
            have X0_58_h59 : h59 (D 0) = some (.inr (3, [.int (M56.1 0), .ref (D 1), .int (M56.1 1), .int (M56.1 2), .ref (D 2), .ref (D 3), .ref (D 4), .ref (D 5), .int (M56.1 3), .int (M56.1 4), .int (M56.1 5), .int (M56.1 6), .int (M56.1 7), .ref (D 6), .ref (D 7), .ref (D 8), .ref (D 9), .ref (D 10), .ref (D 11), .ref (D 12), .ref (D 13), .int (M56.1 8), .int (M56.1 9), .int (M56.1 10)])) := by rw [hE59, up_n (fun q => by cases hc56.1.2 0 35 (by decide) (by decide) q)]; exact X0_58
            have X8_58_h59 : h59 (D 8) = some (.inr (4, [.int (M56.1 25), .int (M56.1 26), .int (M56.1 27), .ref (D 30), .int (M56.1 28), .ref (D 31), .ref (D 32), .ref (D 33), .ref (D 34), .ref (D 35), .ref (D 36), .int (M56.1 29), .ref (D 37), .ref (D 38), .ref (D 39)])) := by rw [hE59, up_n (fun q => by cases hc56.1.2 8 35 (by decide) (by decide) q)]; exact X8_58
            have Y35_58_h59 : h59 (D 35) = some (.inl (gA (xG X) 0, (51, .inl (upd (M56.2.1 35) ((3 * (qo Q)) + 1) (nI i1))))) := by rw [hE59]; exact up_s
            have hX60 : Mx (xG X) h59 D (M56.1, va_up M56.2.1 35 (upd (M56.2.1 35) (3 * qo Q + 1) (nI i1)), M56.2.2) := by rw [hE59]; exact Mx.r hc56.1 (i := 35) (by decide)
            have hc60 : PCx (xG X) h59 D t E (M56.1, va_up M56.2.1 35 (upd (M56.2.1 35) (3 * qo Q + 1) (nI i1)), M56.2.2) Q2 := PCx.rw hc56 hX60 (by omega) (by show 3 * qo Q2 ≤ _; have := hqo_g; omega)
            have pg60 : PG M (M56.1, va_up M56.2.1 35 (upd (M56.2.1 35) (3 * qo Q + 1) (nI i1)), M56.2.2) := pg56.r (by omega)
            have fg60 : FrD h h59 D := by rw [hE59]; exact FrD.w fg56 (i := 35) (by decide)
            have g33_qoQ_60 : (M56.1, va_up M56.2.1 35 (upd (M56.2.1 35) (3 * qo Q + 1) (nI i1)), M56.2.2).2.1 33 (qo Q) = nI (qn Q) := g33_qoQ_56
            have g31_qoQ_60 : (M56.1, va_up M56.2.1 35 (upd (M56.2.1 35) (3 * qo Q + 1) (nI i1)), M56.2.2).2.1 31 (qo Q) = nI dz := g31_qoQ_56
            have g32_qoQ_60 : (M56.1, va_up M56.2.1 35 (upd (M56.2.1 35) (3 * qo Q + 1) (nI i1)), M56.2.2).2.1 32 (qo Q) = nI (nmQ E (o1Q Q)).1 := g32_qoQ_56
            have g35_3qoQ_60 : (M56.1, va_up M56.2.1 35 (upd (M56.2.1 35) (3 * qo Q + 1) (nI i1)), M56.2.2).2.1 35 (3 * qo Q) = nI i0 := by show upd (M56.2.1 35) (3 * qo Q + 1) (nI i1) (3 * qo Q) = _; rw [upd_ne (by omega)]; exact g35_3qoQ_56
            have g35_3qoQ1_60 : (M56.1, va_up M56.2.1 35 (upd (M56.2.1 35) (3 * qo Q + 1) (nI i1)), M56.2.2).2.1 35 (3 * qo Q + 1) = nI i1 := by show upd (M56.2.1 35) (3 * qo Q + 1) (nI i1) (3 * qo Q + 1) = _; rw [upd_eq]
            have X0_61 : h59 (D 0) = some (cMd (M56.1, va_up M56.2.1 35 (upd (M56.2.1 35) (3 * qo Q + 1) (nI i1)), M56.2.2).1 D) := hc60.1.m
            refine ww_aload_n C dX4_order_120 rfl 1 rfl rfl ?_
            refine ww_iconst C dX4_order_121 cI_5 ?_
            refine cv_X4_164_q (As := [.int (nI 5)]) (rest := []) C dX4_order_122 (ct_X4_take (Cx.fl C) (Cx.ok C) hc60 (k := 5) (by decide) (by decide)) (rc_X4 (Cx.ok C) (Or.inl X0_61)) rfl rfl (Nat.le_of_ble_eq_true rfl) (by omega) (Nat.zero_le _) (Nat.zero_le _) (fun z62 h62 q62 => ?_)
            obtain ⟨hq62, M62, pf62, hc62, fr62⟩ := q62; replace hq62 := hq62.symm; subst hq62
            have pg62 := pg60.tr pf62.g
            have fg62 := fg60.tr fr62
            have X0_63 : h62 (D 0) = some (cMd M62.1 D) := hc62.1.m
            have g33_qoQ_62 : M62.2.1 33 (qo Q) = nI (qn Q) := by rw [pf62.2.1 33 (by omega)]; exact g33_qoQ_60
            have g31_qoQ_62 : M62.2.1 31 (qo Q) = nI dz := by rw [pf62.2.1 31 (by omega)]; exact g31_qoQ_60
            have g32_qoQ_62 : M62.2.1 32 (qo Q) = nI (nmQ E (o1Q Q)).1 := by rw [pf62.2.1 32 (by omega)]; exact g32_qoQ_60
            have g35_3qoQ_62 : M62.2.1 35 (3 * qo Q) = nI i0 := by rw [pf62.2.1 35 (by omega)]; exact g35_3qoQ_60
            have g35_3qoQ1_62 : M62.2.1 35 (3 * qo Q + 1) = nI i1 := by rw [pf62.2.1 35 (by omega)]; exact g35_3qoQ1_60
            have X0_64 : h62 (D 0) = some (cMd M62.1 D) := hc62.1.m
            have X8_64 : h62 (D 8) = some (cTd (M62.1 25) (M62.1 26) (M62.1 27) (M62.1 28) (M62.1 29) (fun i => D (30 + i))) := hc62.1.1 8 (by decide)
            refine ww_aload_n C dX4_order_125 rfl 1 rfl rfl ?_
            refine gf_X4_39_X4 C dX4_order_126 (Or.inl X0_64) rfl ?_
            refine gf_X4_232_X5 C dX4_order_129 (Or.inl X8_64) rfl ?_
            refine ww_iconst C dX4_order_132 cI_3 ?_
            refine ww_iload_n C dX4_order_133 rfl 0 rfl ?_
            refine ww_imuln C dX4_order_134 ?_
            refine ww_iconst C dX4_order_135 cI_2 ?_
            refine ww_iaddn C dX4_order_136 ?_
            refine ww_aload_n C dX4_order_137 rfl 1 rfl rfl ?_
            refine cv_X4_175_q (As := []) (rest := [.int (nI ((3 * (qo Q)) + 2)), .ref (D 35)]) C dX4_order_138 (hS z h62 D M62 (tkQ E 5 Q2) _ _ hc62 hm2 hn3) (rc_X4 (Cx.ok C) (Or.inl X0_64)) rfl rfl (Nat.le_of_ble_eq_true rfl) (by omega) (Nat.zero_le _) (Nat.zero_le _) (fun v65 z65 h65 q65 => ?_)
            obtain ⟨rfl, hq65, M65, pf65, hc65, fr65⟩ := q65; replace hq65 := hq65.symm; subst hq65
            have pg65 := pg62.tr pf65.g
            have fg65 := fg62.tr fr65
            have X0_66 : h65 (D 0) = some (cMd M65.1 D) := hc65.1.m
            have g33_qoQ_65 : M65.2.1 33 (qo Q) = nI (qn Q) := by rw [pf65.2.1 33 (by omega)]; exact g33_qoQ_62
            have g31_qoQ_65 : M65.2.1 31 (qo Q) = nI dz := by rw [pf65.2.1 31 (by omega)]; exact g31_qoQ_62
            have g32_qoQ_65 : M65.2.1 32 (qo Q) = nI (nmQ E (o1Q Q)).1 := by rw [pf65.2.1 32 (by omega)]; exact g32_qoQ_62
            have g35_3qoQ_65 : M65.2.1 35 (3 * qo Q) = nI i0 := by rw [pf65.2.1 35 (by omega)]; exact g35_3qoQ_62
            have g35_3qoQ1_65 : M65.2.1 35 (3 * qo Q + 1) = nI i1 := by rw [pf65.2.1 35 (by omega)]; exact g35_3qoQ1_62
            have hqo_i : qo Q3 = qo Q := kf.2.2.2.2.2.1
            have X0_67 : h65 (D 0) = some (cMd M65.1 D) := hc65.1.m
            have X8_67 : h65 (D 8) = some (cTd (M65.1 25) (M65.1 26) (M65.1 27) (M65.1 28) (M65.1 29) (fun i => D (30 + i))) := hc65.1.1 8 (by decide)
            have Y35_67 : h65 (D 35) = some (cI (xG X) 51 (M65.2.1 35)) := hc65.1.1 35 (by decide)
            refine ww_iast C dX4_order_141 Y35_67 (by omega) (by decide) ?_
            refine ww_gen (fun h68 hE68 => ?_)
            have X0_67_h68 : h68 (D 0) = some (.inr (3, [.int (M65.1 0), .ref (D 1), .int (M65.1 1), .int (M65.1 2), .ref (D 2), .ref (D 3), .ref (D 4), .ref (D 5), .int (M65.1 3), .int (M65.1 4), .int (M65.1 5), .int (M65.1 6), .int (M65.1 7), .ref (D 6), .ref (D 7), .ref (D 8), .ref (D 9), .ref (D 10), .ref (D 11), .ref (D 12), .ref (D 13), .int (M65.1 8), .int (M65.1 9), .int (M65.1 10)])) := by rw [hE68, up_n (fun q => by cases hc65.1.2 0 35 (by decide) (by decide) q)]; exact X0_67
            have X8_67_h68 : h68 (D 8) = some (.inr (4, [.int (M65.1 25), .int (M65.1 26), .int (M65.1 27), .ref (D 30), .int (M65.1 28), .ref (D 31), .ref (D 32), .ref (D 33), .ref (D 34), .ref (D 35), .ref (D 36), .int (M65.1 29), .ref (D 37), .ref (D 38), .ref (D 39)])) := by rw [hE68, up_n (fun q => by cases hc65.1.2 8 35 (by decide) (by decide) q)]; exact X8_67
            have Y35_67_h68 : h68 (D 35) = some (.inl (gA (xG X) 0, (51, .inl (upd (M65.2.1 35) ((3 * (qo Q)) + 2) (nI i2))))) := by rw [hE68]; exact up_s
            have hX69 : Mx (xG X) h68 D (M65.1, va_up M65.2.1 35 (upd (M65.2.1 35) (3 * qo Q + 2) (nI i2)), M65.2.2) := by rw [hE68]; exact Mx.r hc65.1 (i := 35) (by decide)
            have hc69 : PCx (xG X) h68 D t E (M65.1, va_up M65.2.1 35 (upd (M65.2.1 35) (3 * qo Q + 2) (nI i2)), M65.2.2) Q3 := PCx.rw hc65 hX69 (by omega) (by show 3 * qo Q3 ≤ _; have := hqo_i; omega)
            have pg69 : PG M (M65.1, va_up M65.2.1 35 (upd (M65.2.1 35) (3 * qo Q + 2) (nI i2)), M65.2.2) := pg65.r (by omega)
            have fg69 : FrD h h68 D := by rw [hE68]; exact FrD.w fg65 (i := 35) (by decide)
            have g33_qoQ_69 : (M65.1, va_up M65.2.1 35 (upd (M65.2.1 35) (3 * qo Q + 2) (nI i2)), M65.2.2).2.1 33 (qo Q) = nI (qn Q) := g33_qoQ_65
            have g31_qoQ_69 : (M65.1, va_up M65.2.1 35 (upd (M65.2.1 35) (3 * qo Q + 2) (nI i2)), M65.2.2).2.1 31 (qo Q) = nI dz := g31_qoQ_65
            have g32_qoQ_69 : (M65.1, va_up M65.2.1 35 (upd (M65.2.1 35) (3 * qo Q + 2) (nI i2)), M65.2.2).2.1 32 (qo Q) = nI (nmQ E (o1Q Q)).1 := g32_qoQ_65
            have g35_3qoQ_69 : (M65.1, va_up M65.2.1 35 (upd (M65.2.1 35) (3 * qo Q + 2) (nI i2)), M65.2.2).2.1 35 (3 * qo Q) = nI i0 := by show upd (M65.2.1 35) (3 * qo Q + 2) (nI i2) (3 * qo Q) = _; rw [upd_ne (by omega)]; exact g35_3qoQ_65
            have g35_3qoQ1_69 : (M65.1, va_up M65.2.1 35 (upd (M65.2.1 35) (3 * qo Q + 2) (nI i2)), M65.2.2).2.1 35 (3 * qo Q + 1) = nI i1 := by show upd (M65.2.1 35) (3 * qo Q + 2) (nI i2) (3 * qo Q + 1) = _; rw [upd_ne (by omega)]; exact g35_3qoQ1_65
            have g35_3qoQ2_69 : (M65.1, va_up M65.2.1 35 (upd (M65.2.1 35) (3 * qo Q + 2) (nI i2)), M65.2.2).2.1 35 (3 * qo Q + 2) = nI i2 := by show upd (M65.2.1 35) (3 * qo Q + 2) (nI i2) (3 * qo Q + 2) = _; rw [upd_eq]
            have X0_70 : h68 (D 0) = some (cMd (M65.1, va_up M65.2.1 35 (upd (M65.2.1 35) (3 * qo Q + 2) (nI i2)), M65.2.2).1 D) := hc69.1.m
            refine w142 _ _ _ h68 kf hc69 pg69 fg69 (by rw [c_74]; exact hm) g33_qoQ_69 g31_qoQ_69 g32_qoQ_69 (fun _ p hp => ?_)
            rcases (show p = 0 ∨ p = 1 ∨ p = 2 by omega) with q | q | q <;> subst q
            · exact g35_3qoQ_69
            · exact g35_3qoQ1_69
            · exact g35_3qoQ2_69
  refine ww_iload_n C dX4_order_13 rfl 0 rfl ?_
  refine ww_bipush C dX4_order_14 cB_16 ?_
  refine ww_icmp_ne_n (tgt := 24) C dX4_order_16 (by decide) (by omega) (by decide) (fun c_16 => ?_) (fun c_16 => ?_)
  · skip
    have ho : o1Q Q = avQ Q := by unfold o1Q; rw [hkm, decide_eq_false c_16]; rfl
    have X0_71 : h (D 0) = some (cMd M.1 D) := hc.1.m
    refine ww_aload_n C dX4_order_24 rfl 1 rfl rfl ?_
    refine ww_dup C dX4_order_25 rfl ?_
    refine gf_X4_120_X4 C dX4_order_26 (Or.inl X0_71) rfl ?_
    refine ww_st (st' := [.int (nI (qt Q)), .ref (D 0)]) (by rw [show M.1 3 = nI (qt Q) from hc.2.1.1.1]) ?_
    refine ww_iconst C dX4_order_29 cI_1 ?_
    refine ww_iaddn C dX4_order_30 ?_
    refine pf_X4_120_X4 (fs' := [.int (M.1 0), .ref (D 1), .int (M.1 1), .int (M.1 2), .ref (D 2), .ref (D 3), .ref (D 4), .ref (D 5), .int (nI ((qt Q) + 1)), .int (M.1 4), .int (M.1 5), .int (M.1 6), .int (M.1 7), .ref (D 6), .ref (D 7), .ref (D 8), .ref (D 9), .ref (D 10), .ref (D 11), .ref (D 12), .ref (D 13), .int (M.1 8), .int (M.1 9), .int (M.1 10)]) C dX4_order_31 X0_71 rfl rfl (Nat.le_of_ble_eq_true rfl) rfl ?_
    refine ww_gen (fun h72 hE72 => ?_)
    have X0_71_h72 : h72 (D 0) = some (.inr (3, [.int (M.1 0), .ref (D 1), .int (M.1 1), .int (M.1 2), .ref (D 2), .ref (D 3), .ref (D 4), .ref (D 5), .int (nI ((qt Q) + 1)), .int (M.1 4), .int (M.1 5), .int (M.1 6), .int (M.1 7), .ref (D 6), .ref (D 7), .ref (D 8), .ref (D 9), .ref (D 10), .ref (D 11), .ref (D 12), .ref (D 13), .int (M.1 8), .int (M.1 9), .int (M.1 10)])) := by rw [hE72]; exact up_s
    have hX73 : Mx (xG X) h72 D (upd M.1 3 (nI (qt Q + 1)), M.2) := by rw [hE72]; exact Mx.i hc.1 (j := 3) (Or.inl (by decide)) rfl
    have pf73 : PF M (upd M.1 3 (nI (qt Q + 1)), M.2) := PF.rf.i (by omega)
    have hc73 : PCx (xG X) h72 D t E (upd M.1 3 (nI (qt Q + 1)), M.2) (avQ Q) := PCx.go hc pf73 hX73 (VQ.av hc.2.1) (qK.av hlt) hc.2.2.2.2.2.2.2.2.2.1 hc.2.2.2.2.2.2.2.2.2.2.1
    have pg73 := (PF.rf (M := M)).tr pf73
    have fg73 : FrD h h72 D := by rw [hE72]; exact FrD.w FrD.rf (i := 0) (by decide)
    have X0_74 : h72 (D 0) = some (cMd (upd M.1 3 (nI (qt Q + 1)), M.2).1 D) := hc73.1.m
    exact w34 _ h72 (by rw [ho]; exact hc73) pg73.g fg73
  · skip
    have ho : o1Q Q = avQ (mkQ 4 Q) := by unfold o1Q; rw [hkm, decide_eq_true c_16]; rfl
    have X0_75 : h (D 0) = some (cMd M.1 D) := hc.1.m
    refine ww_aload_n C dX4_order_19 rfl 1 rfl rfl ?_
    refine ww_iconst C dX4_order_20 cI_4 ?_
    refine cv_X4_160_q (As := [.int (nI 4)]) (rest := []) C dX4_order_21 (ct_X4_mark (Cx.fl C) (Cx.ok C) hc (c := 4) (by decide)) (rc_X4 (Cx.ok C) (Or.inl X0_75)) rfl rfl (Nat.le_of_ble_eq_true rfl) (by omega) (Nat.zero_le _) (Nat.zero_le _) (fun z76 h76 q76 => ?_)
    obtain ⟨hq76, M76, pf76, hc76, fr76⟩ := q76; replace hq76 := hq76.symm; subst hq76
    have pg76 := (PF.rf (M := M)).tr pf76
    have fg76 := (FrD.rf (h := h) (D := D)).tr fr76
    have X0_77 : h76 (D 0) = some (cMd M76.1 D) := hc76.1.m
    refine ww_aload_n C dX4_order_24 rfl 1 rfl rfl ?_
    refine ww_dup C dX4_order_25 rfl ?_
    refine gf_X4_120_X4 C dX4_order_26 (Or.inl X0_77) rfl ?_
    refine ww_st (st' := [.int (nI (qt (mkQ 4 Q))), .ref (D 0)]) (by rw [show M76.1 3 = nI (qt (mkQ 4 Q)) from hc76.2.1.1.1]) ?_
    refine ww_iconst C dX4_order_29 cI_1 ?_
    refine ww_iaddn C dX4_order_30 ?_
    refine pf_X4_120_X4 (fs' := [.int (M76.1 0), .ref (D 1), .int (M76.1 1), .int (M76.1 2), .ref (D 2), .ref (D 3), .ref (D 4), .ref (D 5), .int (nI ((qt (mkQ 4 Q)) + 1)), .int (M76.1 4), .int (M76.1 5), .int (M76.1 6), .int (M76.1 7), .ref (D 6), .ref (D 7), .ref (D 8), .ref (D 9), .ref (D 10), .ref (D 11), .ref (D 12), .ref (D 13), .int (M76.1 8), .int (M76.1 9), .int (M76.1 10)]) C dX4_order_31 X0_77 rfl rfl (Nat.le_of_ble_eq_true rfl) rfl ?_
    refine ww_gen (fun h78 hE78 => ?_)
    have X0_77_h78 : h78 (D 0) = some (.inr (3, [.int (M76.1 0), .ref (D 1), .int (M76.1 1), .int (M76.1 2), .ref (D 2), .ref (D 3), .ref (D 4), .ref (D 5), .int (nI ((qt (mkQ 4 Q)) + 1)), .int (M76.1 4), .int (M76.1 5), .int (M76.1 6), .int (M76.1 7), .ref (D 6), .ref (D 7), .ref (D 8), .ref (D 9), .ref (D 10), .ref (D 11), .ref (D 12), .ref (D 13), .int (M76.1 8), .int (M76.1 9), .int (M76.1 10)])) := by rw [hE78]; exact up_s
    have hX79 : Mx (xG X) h78 D (upd M76.1 3 (nI (qt (mkQ 4 Q) + 1)), M76.2) := by rw [hE78]; exact Mx.i hc76.1 (j := 3) (Or.inl (by decide)) rfl
    have pf79 : PF M76 (upd M76.1 3 (nI (qt (mkQ 4 Q) + 1)), M76.2) := PF.rf.i (by omega)
    have hc79 : PCx (xG X) h78 D t E (upd M76.1 3 (nI (qt (mkQ 4 Q) + 1)), M76.2) (avQ (mkQ 4 Q)) := PCx.go hc76 pf79 hX79 (VQ.av hc76.2.1) (qK.av (show qt (mkQ 4 Q) < tl t by rw [qt_mk]; exact hlt)) hc76.2.2.2.2.2.2.2.2.2.1 hc76.2.2.2.2.2.2.2.2.2.2.1
    have pg79 := pg76.tr pf79
    have fg79 : FrD h h78 D := by rw [hE78]; exact FrD.w fg76 (i := 0) (by decide)
    have X0_80 : h78 (D 0) = some (cMd (upd M76.1 3 (nI (qt (mkQ 4 Q) + 1)), M76.2).1 D) := hc79.1.m
    exact w34 _ h78 (by rw [ho]; exact hc79) pg79.g fg79
end MO22
