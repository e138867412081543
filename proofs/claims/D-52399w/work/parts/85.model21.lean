section MO21
set_option maxRecDepth 100000
theorem PCx.til {Γ : Gm} {h h2 h9 : AH} {D : Nat → Nat} {t : TP} {E : PE} {M M2 : MS} {Q : QS} (hc : PCx Γ h D t E M Q) (hcl : PCx Γ h2 D t E M2 (nmI E (t3Q E Q) 3)) (hX : Mx Γ h9 D (upd M2.1 27 (nI (min 16 (qk Q + 1))), M2.2)) (kq : qK (tl t) Q (nmI E (t3Q E Q) 3)) (hn : isQ E Q 30 = true → qk Q < 16 → M2.2.1 6 (qk Q) = nI (qt Q)) (hv : qw (nmI E (t3Q E Q) 3) = false → ∀ p, p < 3 → M2.2.1 30 (3 * qk Q + p) = nI (E.2.1 (qt (nmI E (t3Q E Q) p)))) : PCx Γ h9 D t (envQ t (tiQ E Q).2.2) (upd M2.1 27 (nI (min 16 (qk Q + 1))), M2.2) (tiQ E Q) := by
  obtain ⟨c1, ⟨v1, v2, v3⟩, c3, c4, c5, c6, c7, c8, c9, c10, c11, c12, c13⟩ := hcl
  have hk16 : qk Q ≤ 16 := hc.2.2.2.2.2.2.2.1
  have hkm : min 16 (qk Q) = qk Q := by omega
  have e22 := kq.2.2.2.2.1
  have hqk : qk (nmI E (t3Q E Q) 3) = qk Q := by show (nmI E (t3Q E Q) 3).2.2.1.2.2 = _; rw [e22]
  have hw3 : qw (nmI E (t3Q E Q) 3) = false → isQ E Q 30 = true := fun q => by
    have h2 := (isQ_t (nu_w q)).1
    have h1 := (isQ_t (nu_w h2)).1
    have h0 := (isQ_t (nu_w h1)).1
    have := tk_w h0
    rwa [isQ_t2] at this
  have ek : qk (tiQ E Q) = min 16 (qk Q + 1) := by show min 16 (min 16 (qk Q) + 1) = _; rw [hkm]
  have en : ∀ j, (tiQ E Q).2.2.2.2 j = va_up Q.2.2.2.2 (qk Q) (qt Q) j := fun j => by show va_up Q.2.2.2.2 (min 16 (qk Q)) (qt Q) j = _; rw [hkm]
  refine ⟨hX, ⟨v1, ⟨by rw [ek]; rfl, v2.2.1, v2.2.2⟩, fun q => ?_⟩, c3.pg (PG.rf.i (by omega)), rfl, c5, c6, fun q j hj => ?_, by rw [ek]; omega, c9, c10, c11, c12, c13⟩
  · obtain ⟨t1, t2, t3, t4, t5, t6, t7, t8⟩ := v3 q
    rw [e22] at t1 t2 t3 t4
    rw [hqk] at t3 t4
    refine ⟨t1, t2, fun k p hk hp => ?_, fun k hk => ?_, t5, t6, t7, t8⟩
    · rw [ek] at hk
      show M2.2.1 30 (3 * k + p) = nI (va_up Q.2.2.2.1 (min 16 (qk Q)) (nu3 E (t3Q E Q)) k p)
      rw [hkm]
      by_cases e : k = qk Q
      · subst e; rw [va_eq, nu3_e hp]; exact hv q p hp
      · rw [va_ne e]; exact t3 k p (by omega) hp
    · rw [ek] at hk
      rw [en]
      by_cases e : k = qk Q
      · subst e; rw [va_eq]; exact hn (hw3 q) (by omega)
      · rw [va_ne e]; exact t4 k (by omega)
  · rw [ek] at hj
    rw [en]
    have hq := hw3 q
    by_cases e : j = qk Q
    · subst e
      rw [va_eq]
      refine ⟨isQ_lt hc.K hc.2.2.2.2.1 (by decide) hq, ?_⟩
      have := (isQ_t hq).2
      rw [hc.2.2.2.1] at this
      exact this
    · rw [va_ne e]
      exact hc.2.2.2.2.2.2.1 (isQ_t hq).1 j (by omega)
set_option maxHeartbeats 2000000 in
theorem ct_X4_numberIn {l : Launch} {Γ : Gm} (hl : l.flags = flags0) (hΓ : GOK Γ) {z : ZR} {h : AH} {D : Nat → Nat} {t : TP} {E : PE} {M : MS} {Q : QS} {lo hi : Nat} (hc : PCx Γ h D t E M Q) (hlo : lo < 2 ^ 31) (hhi : hi < 2 ^ 31) : Ct l Γ yX4_numberIn cX4_numberIn 4 (some .int) 3 0 0 [.ref (D 0), .int (nI lo), .int (nI hi)] z h (Rv (fun v z' h' => ∃ x, v = .int x ∧ (isQ E Q 31 = true → x = nI (E.2.1 (qt Q))) ∧ PP Γ z h D t E M (nuQ E lo hi Q) z' h')) := by
  refine Ct.of hl hΓ (by decide +kernel) (Nat.le_of_ble_eq_true rfl) (fun X e1 e2 C => ?_)
  subst e1; subst e2
  have C : Cx X cX4_numberIn 4 "RingDominoModel" "numberIn" (some .int) [] 3 := C
  have hK := hc.K
  have hQl := hc.2.2.2.2.1
  have hql : qt Q ≤ 400 := Nat.le_trans hQl (tl_le t)
  have htc := tl_tc t
  show WW X (Rv (fun v z' h' => ∃ x, v = .int x ∧ (isQ E Q 31 = true → x = nI (E.2.1 (qt Q))) ∧ PP (xG X) z h D t E M (nuQ E lo hi Q) z' h')) z h 0 0 0 [(0, .ref (D 0)), (1, .int (nI lo)), (2, .int (nI hi))] []
  have X0_1 : h (D 0) = some (cMd M.1 D) := hc.1.m
  have Y3_1 : h (D 3) = some (cI (xG X) 402 (M.2.1 3)) := hc.1.1 3 (by decide)
  refine ww_aload_n C dX4_numberIn_0 rfl 0 rfl rfl ?_
  refine gf_X4_20_X4 C dX4_numberIn_1 (Or.inl X0_1) rfl ?_
  refine ww_aload_n C dX4_numberIn_4 rfl 0 rfl rfl ?_
  refine gf_X4_120_X4 C dX4_numberIn_5 (Or.inl X0_1) rfl ?_
  refine ww_st (st' := [.int (nI (qt Q)), .ref (D 3)]) (by rw [show M.1 3 = nI (qt Q) from hc.2.1.1.1]) ?_
  refine ww_iald C dX4_numberIn_8 (Or.inl Y3_1) (by omega) (by decide) ?_
  refine ww_istore_n (lv' := [(3, .int ((M.2.1 3) (qt Q))), (0, .ref (D 0)), (1, .int (nI lo)), (2, .int (nI hi))]) C dX4_numberIn_9 rfl (by decide) rfl ?_
  have X0_2 : h (D 0) = some (cMd M.1 D) := hc.1.m
  refine ww_aload_n C dX4_numberIn_10 rfl 1 rfl rfl ?_
  refine ww_bipush C dX4_numberIn_11 cB_31 ?_
  refine cv_X4_129_r (As := [.int (nI 31)]) (rest := []) C dX4_numberIn_13 (ct_X4_is (Cx.fl C) (Cx.ok C) (k := 31) hc (by decide)) (rc_X4 (Cx.ok C) (Or.inl X0_2)) rfl rfl (Nat.le_of_ble_eq_true rfl) (by omega) (Nat.zero_le _) (Nat.zero_le _) ?_
  refine ww_if_eq_b (tgt := 33) C dX4_numberIn_16 (by decide) (fun c_16 => ?_) (fun c_16 => ?_)
  · skip
    have X0_3 : h (D 0) = some (cMd M.1 D) := hc.1.m
    refine ww_aload_n C dX4_numberIn_33 rfl 1 rfl rfl ?_
    refine ww_bipush C dX4_numberIn_34 cB_31 ?_
    refine cv_X4_164_q (As := [.int (nI 31)]) (rest := []) C dX4_numberIn_36 (ct_X4_take (Cx.fl C) (Cx.ok C) hc (k := 31) (by decide) (by decide)) (rc_X4 (Cx.ok C) (Or.inl X0_3)) rfl rfl (Nat.le_of_ble_eq_true rfl) (by omega) (Nat.zero_le _) (Nat.zero_le _) (fun z4 h4 q4 => ?_)
    obtain ⟨hq4, M4, pf4, hc4, fr4⟩ := q4; replace hq4 := hq4.symm; subst hq4
    have pg4 := (PF.rf (M := M)).tr pf4
    have fg4 := (FrD.rf (h := h) (D := D)).tr fr4
    have X0_5 : h4 (D 0) = some (cMd M4.1 D) := hc4.1.m
    refine ww_iload_n C dX4_numberIn_39 rfl 0 rfl ?_
    exact ww_iret C dX4_numberIn_40 ⟨_, rfl, fun q => (by rw [c_16] at q; cases q), by unfold nuQ; rw [c_16]; exact ⟨rfl, M4, pg4, hc4, fg4⟩⟩
  · skip
    obtain ⟨j1, j2⟩ := isQ_t c_16
    have hlt := isQ_lt hK hQl (by decide) c_16
    have j3 : tK t (qt Q) = 31 := by rw [← j2, hc.2.2.2.1]; rfl
    have hx : M.2.1 3 (qt Q) = nI (E.2.1 (qt Q)) := by rw [hc.2.2.1.2.2.2.2.2 (qt Q) (by omega) j3, hc.2.2.2.1]; rfl
    have hb : E.2.1 (qt Q) < 2 ^ 31 := by have h1 := tkN_lt (tK_tk j3 (by decide) (by decide)); have h2 : E.2.1 (qt Q) = tkN t (tps t (qt Q)) := by { rw [hc.2.2.2.1]; rfl }; omega
    have X0_6 : h (D 0) = some (cMd M.1 D) := hc.1.m
    refine ww_iload_n C dX4_numberIn_19 rfl 0 rfl ?_
    refine ww_iload_n C dX4_numberIn_20 rfl 2 rfl ?_
    refine ww_iload_n C dX4_numberIn_21 rfl 3 rfl ?_
    refine cs_X4_68_r (As := [.int ((M.2.1 3) (qt Q)), .int (nI lo), .int (nI hi)]) (rest := []) C dX4_numberIn_22 (ct_X4_isIn (Cx.fl C) (Cx.ok C)) rfl rfl (Nat.le_of_ble_eq_true rfl) (by decide) (Nat.zero_le _) (Nat.zero_le _) ?_
    refine ww_st (st' := [.int (bI (inB (E.2.1 (qt Q)) lo hi))]) (by rw [hx, inI hb hlo hhi]; rfl) ?_
    refine ww_if_ne_b (tgt := 33) C dX4_numberIn_25 (by decide) (fun c_25 => ?_) (fun c_25 => ?_)
    · skip
      have X0_7 : h (D 0) = some (cMd M.1 D) := hc.1.m
      refine ww_aload_n C dX4_numberIn_33 rfl 1 rfl rfl ?_
      refine ww_bipush C dX4_numberIn_34 cB_31 ?_
      refine cv_X4_164_q (As := [.int (nI 31)]) (rest := []) C dX4_numberIn_36 (ct_X4_take (Cx.fl C) (Cx.ok C) hc (k := 31) (by decide) (by decide)) (rc_X4 (Cx.ok C) (Or.inl X0_7)) rfl rfl (Nat.le_of_ble_eq_true rfl) (by omega) (Nat.zero_le _) (Nat.zero_le _) (fun z8 h8 q8 => ?_)
      obtain ⟨hq8, M8, pf8, hc8, fr8⟩ := q8; replace hq8 := hq8.symm; subst hq8
      have pg8 := (PF.rf (M := M)).tr pf8
      have fg8 := (FrD.rf (h := h) (D := D)).tr fr8
      have X0_9 : h8 (D 0) = some (cMd M8.1 D) := hc8.1.m
      refine ww_iload_n C dX4_numberIn_39 rfl 0 rfl ?_
      exact ww_iret C dX4_numberIn_40 ⟨_, rfl, fun _ => hx, by unfold nuQ; rw [c_16, c_25]; exact ⟨rfl, M8, pg8, hc8, fg8⟩⟩
    · skip
      have X0_10 : h (D 0) = some (cMd M.1 D) := hc.1.m
      refine ww_aload_n C dX4_numberIn_28 rfl 1 rfl rfl ?_
      refine ww_iconst C dX4_numberIn_29 cI_5 ?_
      refine cv_X4_160_q (As := [.int (nI 5)]) (rest := []) C dX4_numberIn_30 (ct_X4_mark (Cx.fl C) (Cx.ok C) hc (c := 5) (by decide)) (rc_X4 (Cx.ok C) (Or.inl X0_10)) rfl rfl (Nat.le_of_ble_eq_true rfl) (by omega) (Nat.zero_le _) (Nat.zero_le _) (fun z11 h11 q11 => ?_)
      obtain ⟨hq11, M11, pf11, hc11, fr11⟩ := q11; replace hq11 := hq11.symm; subst hq11
      have pg11 := (PF.rf (M := M)).tr pf11
      have fg11 := (FrD.rf (h := h) (D := D)).tr fr11
      have X0_12 : h11 (D 0) = some (cMd M11.1 D) := hc11.1.m
      refine ww_aload_n C dX4_numberIn_33 rfl 1 rfl rfl ?_
      refine ww_bipush C dX4_numberIn_34 cB_31 ?_
      refine cv_X4_164_q (As := [.int (nI 31)]) (rest := []) C dX4_numberIn_36 (ct_X4_take (Cx.fl C) (Cx.ok C) hc11 (k := 31) (by decide) (by decide)) (rc_X4 (Cx.ok C) (Or.inl X0_12)) rfl rfl (Nat.le_of_ble_eq_true rfl) (by omega) (Nat.zero_le _) (Nat.zero_le _) (fun z13 h13 q13 => ?_)
      obtain ⟨hq13, M13, pf13, hc13, fr13⟩ := q13; replace hq13 := hq13.symm; subst hq13
      have pg13 := pg11.tr pf13
      have fg13 := fg11.tr fr13
      have X0_14 : h13 (D 0) = some (cMd M13.1 D) := hc13.1.m
      refine ww_iload_n C dX4_numberIn_39 rfl 0 rfl ?_
      exact ww_iret C dX4_numberIn_40 ⟨_, rfl, fun _ => hx, by unfold nuQ; rw [c_16, c_25]; exact ⟨rfl, M13, pg13, hc13, fg13⟩⟩
set_option maxHeartbeats 2000000 in
theorem ct_X4_tile {l : Launch} {Γ : Gm} (hl : l.flags = flags0) (hΓ : GOK Γ) {z : ZR} {h : AH} {D : Nat → Nat} {t : TP} {E : PE} {M : MS} {Q : QS} (hc : PCx Γ h D t E M Q) : Ct l Γ yX4_tile cX4_tile 3 none 4 0 0 [.ref (D 0)] z h (Rn (PPg Γ z h D t M (tiQ E Q))) := by
  refine Ct.of hl hΓ (by decide +kernel) (Nat.le_of_ble_eq_true rfl) (fun X e1 e2 C => ?_)
  subst e1; subst e2
  have C : Cx X cX4_tile 3 "RingDominoModel" "tile" none [] 4 := C
  have hK := hc.K
  have hQl := hc.2.2.2.2.1
  have hk16 := hc.2.2.2.2.2.2.2.1
  have htc := tl_tc t
  have hkm : min 16 (qk Q) = qk Q := by omega
  show WW X (Rn (PPg (xG X) z h D t M (tiQ E Q))) z h 0 0 0 [(0, .ref (D 0))] []
  have X0_1 : h (D 0) = some (cMd M.1 D) := hc.1.m
  have X8_1 : h (D 8) = some (cTd (M.1 25) (M.1 26) (M.1 27) (M.1 28) (M.1 29) (fun i => D (30 + i))) := hc.1.1 8 (by decide)
  refine ww_bipush C dX4_tile_0 cB_16 ?_
  refine ww_aload_n C dX4_tile_2 rfl 0 rfl rfl ?_
  refine gf_X4_39_X4 C dX4_tile_3 (Or.inl X0_1) rfl ?_
  refine gf_X4_150_X5 C dX4_tile_6 (Or.inl X8_1) rfl ?_
  refine ww_st (st' := [.int (nI (qk Q)), .int (nI 16)]) (by rw [show M.1 27 = nI (qk Q) from hc.2.1.2.1.1]) ?_
  refine cs_X4_211_r (As := [.int (nI 16), .int (nI (qk Q))]) (rest := []) C dX4_tile_9 (ct_J14_min (Cx.fl C) (Cx.ok C) (by decide) (by omega)) rfl rfl (Nat.le_of_ble_eq_true rfl) (by decide) (Nat.zero_le _) (Nat.zero_le _) ?_
  refine ww_istore_n (lv' := [(1, .int (nI (min 16 (qk Q)))), (0, .ref (D 0))]) C dX4_tile_12 rfl (by decide) rfl ?_
  refine ww_lv (lv' := [(1, .int (nI (qk Q))), (0, .ref (D 0))]) (by rw [hkm]) ?_
  have X0_2 : h (D 0) = some (cMd M.1 D) := hc.1.m
  have w80 : ∀ (M1 : MS) (h1 : AH), PCx (xG X) h1 D t E M1 (t2Q E Q) → PG M M1 → FrD h h1 D → (isQ E Q 30 = true → qk Q < 16 → M1.2.1 6 (qk Q) = nI (qt Q)) → WW X (Rn (PPg (xG X) z h D t M (tiQ E Q))) z h1 0 0 80 [(1, .int (nI (qk Q))), (0, .ref (D 0))] [] := by
    intro M1 h1 hc1 pg1 fr1 hnm
    have X0_3 : h1 (D 0) = some (cMd M1.1 D) := hc1.1.m
    refine ww_aload_n C dX4_tile_80 rfl 1 rfl rfl ?_
    refine ww_bipush C dX4_tile_81 cB_30 ?_
    refine cv_X4_164_q (As := [.int (nI 30)]) (rest := []) C dX4_tile_83 (ct_X4_take (Cx.fl C) (Cx.ok C) hc1 (k := 30) (by decide) (by decide)) (rc_X4 (Cx.ok C) (Or.inl X0_3)) rfl rfl (Nat.le_of_ble_eq_true rfl) (by omega) (Nat.zero_le _) (Nat.zero_le _) (fun z4 h4 q4 => ?_)
    obtain ⟨hq4, M4, pf4, hc4, fr4⟩ := q4; replace hq4 := hq4.symm; subst hq4
    have pg4 := pg1.tr pf4.g
    have fg4 := fr1.tr fr4
    have X0_5 : h4 (D 0) = some (cMd M4.1 D) := hc4.1.m
    have hnm9 : isQ E Q 30 = true → qk Q < 16 → M4.2.1 6 (qk Q) = nI (qt Q) := fun q1 q2 => by rw [pf4.2.1 6 (by omega)]; exact hnm q1 q2
    refine ww_iconst C dX4_tile_86 cI_0 ?_
    refine ww_istore_n (lv' := [(2, .int (nI 0)), (1, .int (nI (qk Q))), (0, .ref (D 0))]) C dX4_tile_87 rfl (by decide) rfl ?_
    refine loop_up (N := 3) (M := fun j => ∀ (M2 : MS) (h2 : AH), (PCx (xG X) h2 D t E M2 (nmI E (t3Q E Q) j)) → (PG M M2) → (FrD h h2 D) → (isQ E Q 30 = true → qk Q < 16 → M2.2.1 6 (qk Q) = nI (qt Q)) → (qw (nmI E (t3Q E Q) j) = false → ∀ p, p < j → M2.2.1 30 (3 * qk Q + p) = nI (E.2.1 (qt (nmI E (t3Q E Q) p)))) → WW X (Rn (PPg (xG X) z h D t M (tiQ E Q))) z h2 0 0 88 [(2, .int (nI j)), (1, .int (nI (qk Q))), (0, .ref (D 0))] []) ?_ ?_ 0 (Nat.zero_le _) M4 h4 hc4 pg4 fg4 hnm9 (fun _ p hp => by omega)
    · intro M2 h2 hcl pgl frl hnl hvl
      show WW X (Rn (PPg (xG X) z h D t M (tiQ E Q))) z h2 0 0 88 [(2, .int (nI 3)), (1, .int (nI (qk Q))), (0, .ref (D 0))] []
      have X0_6 : h2 (D 0) = some (cMd M2.1 D) := hcl.1.m
      have X8_6 : h2 (D 8) = some (cTd (M2.1 25) (M2.1 26) (M2.1 27) (M2.1 28) (M2.1 29) (fun i => D (30 + i))) := hcl.1.1 8 (by decide)
      refine ww_iload_n C dX4_tile_88 rfl 0 rfl ?_
      refine ww_iconst C dX4_tile_89 cI_3 ?_
      refine ww_icmp_ge_t (tgt := 119) C dX4_tile_90 (by decide) (nI_le (Nat.le_refl _) (by decide)) ?_
      refine ww_aload_n C dX4_tile_119 rfl 2 rfl rfl ?_
      refine gf_X4_39_X4 C dX4_tile_120 (Or.inl X0_6) rfl ?_
      refine ww_bipush C dX4_tile_123 cB_16 ?_
      refine ww_iload_n C dX4_tile_125 rfl 1 rfl ?_
      refine ww_iconst C dX4_tile_126 cI_1 ?_
      refine ww_iaddn C dX4_tile_127 ?_
      refine cs_X4_211_r (As := [.int (nI 16), .int (nI ((qk Q) + 1))]) (rest := [.ref (D 8)]) C dX4_tile_128 (ct_J14_min (Cx.fl C) (Cx.ok C) (by decide) (by omega)) rfl rfl (Nat.le_of_ble_eq_true rfl) (by decide) (Nat.zero_le _) (Nat.zero_le _) ?_
      refine pf_X4_150_X5 (fs' := [.int (M2.1 25), .int (M2.1 26), .int (nI (min 16 (qk Q + 1))), .ref (D 30), .int (M2.1 28), .ref (D 31), .ref (D 32), .ref (D 33), .ref (D 34), .ref (D 35), .ref (D 36), .int (M2.1 29), .ref (D 37), .ref (D 38), .ref (D 39)]) C dX4_tile_131 X8_6 rfl rfl (Nat.le_of_ble_eq_true rfl) rfl ?_
      refine ww_gen (fun h7 hE7 => ?_)
      have X0_6_h7 : h7 (D 0) = some (.inr (3, [.int (M2.1 0), .ref (D 1), .int (M2.1 1), .int (M2.1 2), .ref (D 2), .ref (D 3), .ref (D 4), .ref (D 5), .int (M2.1 3), .int (M2.1 4), .int (M2.1 5), .int (M2.1 6), .int (M2.1 7), .ref (D 6), .ref (D 7), .ref (D 8), .ref (D 9), .ref (D 10), .ref (D 11), .ref (D 12), .ref (D 13), .int (M2.1 8), .int (M2.1 9), .int (M2.1 10)])) := by rw [hE7, up_n (fun q => by cases hcl.1.2 0 8 (by decide) (by decide) q)]; exact X0_6
      have X8_6_h7 : h7 (D 8) = some (.inr (4, [.int (M2.1 25), .int (M2.1 26), .int (nI (min 16 (qk Q + 1))), .ref (D 30), .int (M2.1 28), .ref (D 31), .ref (D 32), .ref (D 33), .ref (D 34), .ref (D 35), .ref (D 36), .int (M2.1 29), .ref (D 37), .ref (D 38), .ref (D 39)])) := by rw [hE7]; exact up_s
      have kq := (qK.t3 hK hQl).tr (qK.ni hK (qK.t3 hK hQl).2.1 3)
      have hX9 : Mx (xG X) h7 D (upd M2.1 27 (nI (min 16 (qk Q + 1))), M2.2) := by rw [hE7]; exact Mx.i hcl.1 (j := 27) (Or.inr (by decide)) rfl
      exact ww_vret C dX4_tile_134 ⟨rfl, (upd M2.1 27 (nI (min 16 (qk Q + 1))), M2.2), pgl.i (by omega), PCx.til hc hcl hX9 kq hnl hvl, by rw [hE7]; exact FrD.w frl (i := 8) (by decide)⟩
    · intro j hi ih M2 h2 hcl pgl frl hnl hvl
      show WW X (Rn (PPg (xG X) z h D t M (tiQ E Q))) z h2 0 0 88 [(2, .int (nI j)), (1, .int (nI (qk Q))), (0, .ref (D 0))] []
      have X0_8 : h2 (D 0) = some (cMd M2.1 D) := hcl.1.m
      have X8_8 : h2 (D 8) = some (cTd (M2.1 25) (M2.1 26) (M2.1 27) (M2.1 28) (M2.1 29) (fun i => D (30 + i))) := hcl.1.1 8 (by decide)
      have Y30_8 : h2 (D 30) = some (cI (xG X) 51 (M2.2.1 30)) := hcl.1.1 30 (by decide)
      refine ww_iload_n C dX4_tile_88 rfl 0 rfl ?_
      refine ww_iconst C dX4_tile_89 cI_3 ?_
      refine ww_icmp_ge_f (tgt := 119) C dX4_tile_90 (by decide) (nI_ge hi (by decide)) ?_
      refine ww_aload_n C dX4_tile_93 rfl 2 rfl rfl ?_
      refine gf_X4_39_X4 C dX4_tile_94 (Or.inl X0_8) rfl ?_
      refine gf_X4_214_X5 C dX4_tile_97 (Or.inl X8_8) rfl ?_
      refine ww_iconst C dX4_tile_100 cI_3 ?_
      refine ww_iload_n C dX4_tile_101 rfl 1 rfl ?_
      refine ww_imuln C dX4_tile_102 ?_
      refine ww_iload_n C dX4_tile_103 rfl 0 rfl ?_
      refine ww_iaddn C dX4_tile_104 ?_
      refine ww_aload_n C dX4_tile_105 rfl 2 rfl rfl ?_
      refine ww_iconst C dX4_tile_106 cI_0 ?_
      refine ww_bipush C dX4_tile_107 cB_9 ?_
      refine cv_X4_217_q (As := [.int (nI 0), .int (nI 9)]) (rest := [.int (nI ((3 * (qk Q)) + j)), .ref (D 30)]) C dX4_tile_109 (ct_X4_numberIn (Cx.fl C) (Cx.ok C) (lo := 0) (hi := 9) hcl (by decide) (by decide)) (rc_X4 (Cx.ok C) (Or.inl X0_8)) rfl rfl (Nat.le_of_ble_eq_true rfl) (by decide) (Nat.zero_le _) (Nat.zero_le _) (fun v9 z9 h9 q9 => ?_)
      obtain ⟨x9, rfl, hx9, hz9, M9, pf9, hc9, fr9⟩ := q9; replace hz9 := hz9.symm; subst hz9
      have X0_10 : h9 (D 0) = some (cMd M9.1 D) := hc9.1.m
      have X8_10 : h9 (D 8) = some (cTd (M9.1 25) (M9.1 26) (M9.1 27) (M9.1 28) (M9.1 29) (fun i => D (30 + i))) := hc9.1.1 8 (by decide)
      have Y30_10 : h9 (D 30) = some (cI (xG X) 51 (M9.2.1 30)) := hc9.1.1 30 (by decide)
      refine ww_iast C dX4_tile_112 Y30_10 (by omega) (by decide) ?_
      refine ww_gen (fun h11 hE11 => ?_)
      have X0_10_h11 : h11 (D 0) = some (.inr (3, [.int (M9.1 0), .ref (D 1), .int (M9.1 1), .int (M9.1 2), .ref (D 2), .ref (D 3), .ref (D 4), .ref (D 5), .int (M9.1 3), .int (M9.1 4), .int (M9.1 5), .int (M9.1 6), .int (M9.1 7), .ref (D 6), .ref (D 7), .ref (D 8), .ref (D 9), .ref (D 10), .ref (D 11), .ref (D 12), .ref (D 13), .int (M9.1 8), .int (M9.1 9), .int (M9.1 10)])) := by rw [hE11, up_n (fun q => by cases hc9.1.2 0 30 (by decide) (by decide) q)]; exact X0_10
      have X8_10_h11 : h11 (D 8) = some (.inr (4, [.int (M9.1 25), .int (M9.1 26), .int (M9.1 27), .ref (D 30), .int (M9.1 28), .ref (D 31), .ref (D 32), .ref (D 33), .ref (D 34), .ref (D 35), .ref (D 36), .int (M9.1 29), .ref (D 37), .ref (D 38), .ref (D 39)])) := by rw [hE11, up_n (fun q => by cases hc9.1.2 8 30 (by decide) (by decide) q)]; exact X8_10
      have Y30_10_h11 : h11 (D 30) = some (.inl (gA (xG X) 0, (51, .inl (upd (M9.2.1 30) ((3 * (qk Q)) + j) x9)))) := by rw [hE11]; exact up_s
      refine ww_iinc (lv' := [(2, .int (nI (j + 1))), (1, .int (nI (qk Q))), (0, .ref (D 0))]) C dX4_tile_113 0 rfl (inc_n _) (by decide) rfl ?_
      refine ww_goto (tgt := 88) C dX4_tile_116 (by decide) ?_
      have hX8 : Mx (xG X) h11 D (M9.1, va_up M9.2.1 30 (upd (M9.2.1 30) (3 * qk Q + j) x9), M9.2.2) := by rw [hE11]; exact Mx.r hc9.1 (i := 30) (by decide)
      have kq := (qK.t3 hK hQl).tr (qK.ni hK (qK.t3 hK hQl).2.1 (j + 1))
      have hqk : qk (nmI E (t3Q E Q) (j + 1)) = qk Q := by show (nmI E (t3Q E Q) (j + 1)).2.2.1.2.2 = _; rw [kq.2.2.2.2.1]
      have hc8 : PCx (xG X) h11 D t E (M9.1, va_up M9.2.1 30 (upd (M9.2.1 30) (3 * qk Q + j) x9), M9.2.2) (nmI E (t3Q E Q) (j + 1)) := PCx.rw hc9 hX8 (by omega) (by show 3 * qk (nmI E (t3Q E Q) (j + 1)) ≤ _; rw [hqk]; omega)
      refine ih (M9.1, va_up M9.2.1 30 (upd (M9.2.1 30) (3 * qk Q + j) x9), M9.2.2) h11 hc8 ((pgl.tr pf9.g).r (by omega)) (by rw [hE11]; exact FrD.w (frl.tr fr9) (i := 30) (by decide)) (fun q1 q2 => ?_) (fun q1 p hp => ?_)
      · show M9.2.1 6 (qk Q) = _; rw [pf9.2.1 6 (by omega)]; exact hnl q1 q2
      · show upd (M9.2.1 30) (3 * qk Q + j) x9 (3 * qk Q + p) = _
        have q2 := nu_w q1
        by_cases hpj : p = j
        · subst hpj; rw [upd_eq]; exact hx9 q2
        · rw [upd_ne (by omega), pf9.2.1 30 (by omega)]; exact hvl (isQ_t q2).1 p (by omega)
  have w55 : ∀ (M1 : MS) (h1 : AH), PCx (xG X) h1 D t E M1 (t2Q E Q) → PG M M1 → FrD h h1 D → WW X (Rn (PPg (xG X) z h D t M (tiQ E Q))) z h1 0 0 55 [(1, .int (nI (qk Q))), (0, .ref (D 0))] [] := by
    intro M1 h1 hc1 pg1 fr1
    have X0_12 : h1 (D 0) = some (cMd M1.1 D) := hc1.1.m
    refine ww_aload_n C dX4_tile_55 rfl 1 rfl rfl ?_
    refine ww_bipush C dX4_tile_56 cB_30 ?_
    refine cv_X4_129_r (As := [.int (nI 30)]) (rest := []) C dX4_tile_58 (ct_X4_is (Cx.fl C) (Cx.ok C) (k := 30) hc1 (by decide)) (rc_X4 (Cx.ok C) (Or.inl X0_12)) rfl rfl (Nat.le_of_ble_eq_true rfl) (by omega) (Nat.zero_le _) (Nat.zero_le _) ?_
    refine ww_if_eq_b (tgt := 80) C dX4_tile_61 (by decide) (fun c_61 => ?_) (fun c_61 => ?_)
    · skip
      rw [isQ_t2] at c_61
      exact w80 M1 h1 hc1 pg1 fr1 (fun q => by rw [c_61] at q; cases q)
    · skip
      rw [isQ_t2] at c_61
      refine ww_iload_n C dX4_tile_64 rfl 0 rfl ?_
      refine ww_bipush C dX4_tile_65 cB_16 ?_
      refine ww_icmp_ge_n (tgt := 80) C dX4_tile_67 (by decide) (by omega) (by decide) (fun c_67 => ?_) (fun c_67 => ?_)
      · skip
        exact w80 M1 h1 hc1 pg1 fr1 (fun _ q => by omega)
      · skip
        have X0_13 : h1 (D 0) = some (cMd M1.1 D) := hc1.1.m
        have Y6_13 : h1 (D 6) = some (cI (xG X) 16 (M1.2.1 6)) := hc1.1.1 6 (by decide)
        refine ww_aload_n C dX4_tile_70 rfl 1 rfl rfl ?_
        refine gf_X4_29_X4 C dX4_tile_71 (Or.inl X0_13) rfl ?_
        refine ww_iload_n C dX4_tile_74 rfl 0 rfl ?_
        refine ww_aload_n C dX4_tile_75 rfl 1 rfl rfl ?_
        refine gf_X4_120_X4 C dX4_tile_76 (Or.inl X0_13) rfl ?_
        refine ww_st (st' := [.int (nI (qt Q)), .int (nI (qk Q)), .ref (D 6)]) (by rw [show M1.1 3 = nI (qt (t2Q E Q)) from hc1.2.1.1.1, qt_t2]) ?_
        refine ww_iast C dX4_tile_79 Y6_13 (by omega) (by decide) ?_
        refine ww_gen (fun h14 hE14 => ?_)
        have X0_13_h14 : h14 (D 0) = some (.inr (3, [.int (M1.1 0), .ref (D 1), .int (M1.1 1), .int (M1.1 2), .ref (D 2), .ref (D 3), .ref (D 4), .ref (D 5), .int (M1.1 3), .int (M1.1 4), .int (M1.1 5), .int (M1.1 6), .int (M1.1 7), .ref (D 6), .ref (D 7), .ref (D 8), .ref (D 9), .ref (D 10), .ref (D 11), .ref (D 12), .ref (D 13), .int (M1.1 8), .int (M1.1 9), .int (M1.1 10)])) := by rw [hE14, up_n (fun q => by cases hc1.1.2 0 6 (by decide) (by decide) q)]; exact X0_13
        have Y6_13_h14 : h14 (D 6) = some (.inl (gA (xG X) 0, (16, .inl (upd (M1.2.1 6) (qk Q) (nI (qt Q)))))) := by rw [hE14]; exact up_s
        have hX8 : Mx (xG X) h14 D (M1.1, va_up M1.2.1 6 (upd (M1.2.1 6) (qk Q) (nI (qt Q))), M1.2.2) := by rw [hE14]; exact Mx.r hc1.1 (i := 6) (by decide)
        have hqk : qk (t2Q E Q) = qk Q := by show (t2Q E Q).2.2.1.2.2 = _; rw [t2_2]
        have hc8 : PCx (xG X) h14 D t E (M1.1, va_up M1.2.1 6 (upd (M1.2.1 6) (qk Q) (nI (qt Q))), M1.2.2) (t2Q E Q) := PCx.rw hc1 hX8 (by omega) (by show qk (t2Q E Q) ≤ _; rw [hqk]; exact Nat.le_refl _)
        exact w80 _ h14 hc8 (pg1.r (by omega)) (by rw [hE14]; exact FrD.w fr1 (i := 6) (by decide)) (fun _ _ => by show upd (M1.2.1 6) (qk Q) (nI (qt Q)) (qk Q) = _; rw [upd_eq])
  have w35 : ∀ (M1 : MS) (h1 : AH), PCx (xG X) h1 D t E M1 (t1Q E Q) → PG M M1 → FrD h h1 D → WW X (Rn (PPg (xG X) z h D t M (tiQ E Q))) z h1 0 0 35 [(1, .int (nI (qk Q))), (0, .ref (D 0))] [] := by
    intro M1 h1 hc1 pg1 fr1
    have X0_15 : h1 (D 0) = some (cMd M1.1 D) := hc1.1.m
    refine ww_aload_n C dX4_tile_35 rfl 1 rfl rfl ?_
    refine ww_bipush C dX4_tile_36 cB_30 ?_
    refine cv_X4_129_r (As := [.int (nI 30)]) (rest := []) C dX4_tile_38 (ct_X4_is (Cx.fl C) (Cx.ok C) (k := 30) hc1 (by decide)) (rc_X4 (Cx.ok C) (Or.inl X0_15)) rfl rfl (Nat.le_of_ble_eq_true rfl) (by omega) (Nat.zero_le _) (Nat.zero_le _) ?_
    refine ww_if_eq_b (tgt := 55) C dX4_tile_41 (by decide) (fun c_41 => ?_) (fun c_41 => ?_)
    · skip
      rw [isQ_t1] at c_41
      have ht : t2Q E Q = t1Q E Q := by unfold t2Q; rw [c_41]; rfl
      exact w55 M1 h1 (by rw [ht]; exact hc1) pg1 fr1
    · skip
      rw [isQ_t1] at c_41
      refine ww_iload_n C dX4_tile_44 rfl 0 rfl ?_
      refine ww_bipush C dX4_tile_45 cB_16 ?_
      refine ww_icmp_ne_n (tgt := 55) C dX4_tile_47 (by decide) (by omega) (by decide) (fun c_47 => ?_) (fun c_47 => ?_)
      · skip
        have ht : t2Q E Q = t1Q E Q := by unfold t2Q; rw [c_41, hkm, decide_eq_false c_47]; rfl
        exact w55 M1 h1 (by rw [ht]; exact hc1) pg1 fr1
      · skip
        have ht : t2Q E Q = mkQ 4 (t1Q E Q) := by unfold t2Q; rw [c_41, hkm, decide_eq_true c_47]; rfl
        have X0_16 : h1 (D 0) = some (cMd M1.1 D) := hc1.1.m
        refine ww_aload_n C dX4_tile_50 rfl 1 rfl rfl ?_
        refine ww_iconst C dX4_tile_51 cI_4 ?_
        refine cv_X4_160_q (As := [.int (nI 4)]) (rest := []) C dX4_tile_52 (ct_X4_mark (Cx.fl C) (Cx.ok C) hc1 (c := 4) (by decide)) (rc_X4 (Cx.ok C) (Or.inl X0_16)) rfl rfl (Nat.le_of_ble_eq_true rfl) (by omega) (Nat.zero_le _) (Nat.zero_le _) (fun z17 h17 q17 => ?_)
        obtain ⟨hq17, M17, pf17, hc17, fr17⟩ := q17; replace hq17 := hq17.symm; subst hq17
        have pg17 := pg1.tr pf17.g
        have fg17 := fr1.tr fr17
        have X0_18 : h17 (D 0) = some (cMd M17.1 D) := hc17.1.m
        exact w55 M17 h17 (by rw [ht]; exact hc17) pg17 fg17
  refine ww_aload_n C dX4_tile_13 rfl 1 rfl rfl ?_
  refine ww_bipush C dX4_tile_14 cB_30 ?_
  refine cv_X4_129_r (As := [.int (nI 30)]) (rest := []) C dX4_tile_16 (ct_X4_is (Cx.fl C) (Cx.ok C) (k := 30) hc (by decide)) (rc_X4 (Cx.ok C) (Or.inl X0_2)) rfl rfl (Nat.le_of_ble_eq_true rfl) (by omega) (Nat.zero_le _) (Nat.zero_le _) ?_
  refine ww_if_eq_b (tgt := 35) C dX4_tile_19 (by decide) (fun c_19 => ?_) (fun c_19 => ?_)
  · skip
    have ht : t1Q E Q = Q := by unfold t1Q; rw [c_19]; rfl
    exact w35 M h (by rw [ht]; exact hc) PG.rf FrD.rf
  · skip
    obtain ⟨i1, i2⟩ := isQ_t c_19
    refine ww_aload_n C dX4_tile_22 rfl 1 rfl rfl ?_
    refine cv_X4_157_r (As := []) (rest := []) C dX4_tile_23 (ct_X4_known (Cx.fl C) (Cx.ok C) hc i1 i2) (rc_X4 (Cx.ok C) (Or.inl X0_2)) rfl rfl (Nat.le_of_ble_eq_true rfl) (by decide) (Nat.zero_le _) (Nat.zero_le _) ?_
    refine ww_iconst C dX4_tile_26 cI_m1 ?_
    refine ww_icmp_eq_o (tgt := 35) C dX4_tile_27 (by decide) (fun k q => by rw [hc.2.2.2.1] at q; have h1 : k < 0 + qk Q := (ff_lt _ _ _ q).1; omega) (fun c_27 => ?_) (fun c_27 => ?_)
    · skip
      have ht : t1Q E Q = Q := by unfold t1Q; rw [c_19, c_27]; rfl
      exact w35 M h (by rw [ht]; exact hc) PG.rf FrD.rf
    · skip
      have ht : t1Q E Q = mkQ 2 Q := by unfold t1Q; rw [c_19, Option.isSome_iff_ne_none.mpr c_27]; rfl
      have X0_19 : h (D 0) = some (cMd M.1 D) := hc.1.m
      refine ww_aload_n C dX4_tile_30 rfl 1 rfl rfl ?_
      refine ww_iconst C dX4_tile_31 cI_2 ?_
      refine cv_X4_160_q (As := [.int (nI 2)]) (rest := []) C dX4_tile_32 (ct_X4_mark (Cx.fl C) (Cx.ok C) hc (c := 2) (by decide)) (rc_X4 (Cx.ok C) (Or.inl X0_19)) rfl rfl (Nat.le_of_ble_eq_true rfl) (by omega) (Nat.zero_le _) (Nat.zero_le _) (fun z20 h20 q20 => ?_)
      obtain ⟨hq20, M20, pf20, hc20, fr20⟩ := q20; replace hq20 := hq20.symm; subst hq20
      have pg20 := (PG.rf (M := M)).tr pf20.g
      have fg20 := (FrD.rf (h := h) (D := D)).tr fr20
      have X0_21 : h20 (D 0) = some (cMd M20.1 D) := hc20.1.m
      exact w35 M20 h20 (by rw [ht]; exact hc20) pg20 fg20
end MO21
