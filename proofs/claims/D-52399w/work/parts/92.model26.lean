section MO26
set_option maxRecDepth 100000
def SFa (M M' : MS) : Prop := M'.1 = M.1 ∧ (∀ i, (i < 2 ∨ 6 ≤ i) → M'.2.1 i = M.2.1 i) ∧ M'.2.2 = M.2.2
theorem SFa.rf {M : MS} : SFa M M := ⟨rfl, fun _ _ => rfl, rfl⟩
theorem SFa.r {M M1 : MS} (a : SFa M M1) {i : Nat} {f : Nat → Int32} (hi : 2 ≤ i ∧ i < 6) : SFa M (M1.1, va_up M1.2.1 i f, M1.2.2) := ⟨a.1, fun j h => (va_ne (by omega)).trans (a.2.1 j h), a.2.2⟩
theorem SFa.s {k : Nat} {M M1 M2 : MS} (a : SFa M M1) (b : SF k M1 M2) : SFa M M2 := ⟨b.1.trans a.1, fun i h => (b.2.1 i h).trans (a.2.1 i h), b.2.2.2.trans a.2.2⟩
theorem tps_le {t : TP} : ∀ k, k ≤ tcn t → tps t k ≤ t.2
  | 0, _ => run_le (Nat.zero_le _)
  | k + 1, h => run_le (tkE_le (tcn_m (show k < tcn t by omega)).1)
theorem TkV.fin {M1 : MS} {t : TP} (hv : TpV M1 t) (h2 : ∀ j, j < tcn t → M1.2.1 2 j = nI (tkd t j)) (h4 : ∀ j, j < tcn t → M1.2.1 4 j = nI (tps t j)) (h5 : ∀ j, j < tcn t → M1.2.1 5 j = nI (tL t j)) (h3 : ∀ j, j < tcn t → tkd t j = 31 → M1.2.1 3 j = nI (tkN t (tps t j))) : TkV (M1.1, va_up (va_up M1.2.1 2 (upd (M1.2.1 2) (tcn t) (nI 33))) 4 (upd (M1.2.1 4) (tcn t) (nI t.2)), M1.2.2) t := by
  have ek : ∀ k, k < tcn t → tK t k = tkd t k := fun k hk => by unfold tK; rw [if_neg (by omega)]
  refine ⟨hv.1, hv.2, fun k hk => ?_, fun k hk => ?_, fun k hk => h5 k hk, fun k hk q => h3 k hk (by rw [← ek k hk]; exact q)⟩
  · show upd (M1.2.1 2) (tcn t) (nI 33) k = _
    by_cases e : k = tcn t
    · subst e; rw [upd_eq]; unfold tK; rw [if_pos rfl]
    · rw [upd_ne e, ek k (by omega)]; exact h2 k (by omega)
  · show upd (M1.2.1 4) (tcn t) (nI t.2) k = _
    by_cases e : k = tcn t
    · subst e; rw [upd_eq]; unfold tP; rw [if_pos rfl]
    · rw [upd_ne e]
      unfold tP
      rw [if_neg e]
      exact h4 k (by omega)
set_option maxHeartbeats 2000000 in
theorem ct_X4_readAll {l : Launch} {Γ : Gm} (hl : l.flags = flags0) (hΓ : GOK Γ) {z : ZR} {h : AH} {D : Nat → Nat} {t : TP} {M : MS} (hz : zle (cst Γ) z) (hX : Mx Γ h D M) (hv : TpV M t) (ht : TPo t) : Ct l Γ yX4_readAll cX4_readAll 3 none 8 0 0 [.ref (D 0)] z h (Rn (fun z' h' => z' = z ∧ ∃ M', SFa M M' ∧ TkV M' t ∧ Mx Γ h' D M' ∧ FrD h h' D)) := by
  refine Ct.of hl hΓ (by decide +kernel) (Nat.le_of_ble_eq_true rfl) (fun X e1 e2 C => ?_)
  subst e1; subst e2
  have C : Cx X cX4_readAll 3 "RingDominoModel" "readAll" none [] 8 := C
  obtain ⟨v1, v2⟩ := id hv
  have h20 := ht.1
  have hcn := tcn_lt t
  show WW X (Rn (fun z' h' => z' = z ∧ ∃ M', SFa M M' ∧ TkV M' t ∧ Mx (xG X) h' D M' ∧ FrD h h' D)) z h 0 0 0 [(0, .ref (D 0))] []
  have X0 : h (D 0) = some (cMd M.1 D) := hX.m
  refine ww_aload_n C dX4_readAll_0 rfl 0 rfl rfl ?_
  refine ww_iconst C dX4_readAll_1 cI_0 ?_
  refine cv_X4_110_r (As := [.int (nI 0)]) (rest := []) C dX4_readAll_2 (ct_X4_skip (Cx.fl C) (Cx.ok C) hX hv ht (a := 0) (Nat.zero_le _)) (rc_X4 (Cx.ok C) (Or.inl X0)) rfl rfl (Nat.le_of_ble_eq_true rfl) (by decide) (Nat.zero_le _) (Nat.zero_le _) ?_
  refine ww_istore_n (lv' := [(1, .int (nI (tps t 0))), (0, .ref (D 0))]) C dX4_readAll_5 rfl (by decide) rfl ?_
  refine ww_iconst C dX4_readAll_6 cI_0 ?_
  refine ww_istore_n (lv' := [(2, .int (nI 0)), (1, .int (nI (tps t 0))), (0, .ref (D 0))]) C dX4_readAll_7 rfl (by decide) rfl ?_
  refine loop_up (N := (tcn t)) (M := fun k => ∀ (M1 : MS) (h1 : AH), (Mx (xG X) h1 D M1) → (FrD h h1 D) → (SFa M M1) → (∀ j, j < k → M1.2.1 2 j = nI (tkd t j)) → (∀ j, j < k → M1.2.1 4 j = nI (tps t j)) → (∀ j, j < k → M1.2.1 5 j = nI (tL t j)) → (∀ j, j < k → tkd t j = 31 → M1.2.1 3 j = nI (tkN t (tps t j))) → WW X (Rn (fun z' h' => z' = z ∧ ∃ M', SFa M M' ∧ TkV M' t ∧ Mx (xG X) h' D M' ∧ FrD h h' D)) z h1 0 0 8 [(2, .int (nI k)), (1, .int (nI (tps t k))), (0, .ref (D 0))] []) ?_ ?_ 0 (Nat.zero_le _) M h hX FrD.rf SFa.rf (fun j hj => by omega) (fun j hj => by omega) (fun j hj => by omega) (fun j hj => by omega)
  · intro M1 h1 hX1 hf1 hs1 hk2 hk4 hk5 hk3
    show WW X (Rn (fun z' h' => z' = z ∧ ∃ M', SFa M M' ∧ TkV M' t ∧ Mx (xG X) h' D M' ∧ FrD h h' D)) z h1 0 0 8 [(2, .int (nI (tcn t))), (1, .int (nI (tps t (tcn t)))), (0, .ref (D 0))] []
    have htp := tcn_p t
    unfold tsP at htp; rw [Bool.or_eq_true, decide_eq_true_eq, Bool.and_eq_true, decide_eq_true_eq, decide_eq_true_eq] at htp
    have htl := tps_le (t := t) (tcn t) (Nat.le_refl _)
    have hv1 : TpV M1 t := ⟨by rw [hs1.1]; exact v1, by rw [hs1.2.1 1 (by omega)]; exact v2⟩
    have X0 : h1 (D 0) = some (cMd M1.1 D) := hX1.m
    have Y2 : h1 (D 2) = some (cI (xG X) 402 (M1.2.1 2)) := hX1.1 2 (by decide)
    have Y4 : h1 (D 4) = some (cI (xG X) 402 (M1.2.1 4)) := hX1.1 4 (by decide)
    refine ww_iload_n C dX4_readAll_8 rfl 1 rfl ?_
    refine ww_aload_n C dX4_readAll_9 rfl 2 rfl rfl ?_
    refine gf_X4_72_X4 C dX4_readAll_10 (Or.inl X0) rfl ?_
    refine ww_st (st' := [.int (nI t.2), .int (nI (tps t (tcn t)))]) (by rw [hv1.1]) ?_
    refine ww_icmp_ge_n (tgt := 65) C dX4_readAll_13 (by decide) (by omega) (by omega) (fun c_13 => ?_) (fun c_13 => ?_)
    · skip
      have X0 : h1 (D 0) = some (cMd M1.1 D) := hX1.m
      have Y2 : h1 (D 2) = some (cI (xG X) 402 (M1.2.1 2)) := hX1.1 2 (by decide)
      have Y4 : h1 (D 4) = some (cI (xG X) 402 (M1.2.1 4)) := hX1.1 4 (by decide)
      refine ww_aload_n C dX4_readAll_65 rfl 2 rfl rfl ?_
      refine gf_X4_17_X4 C dX4_readAll_66 (Or.inl X0) rfl ?_
      refine ww_iload_n C dX4_readAll_69 rfl 0 rfl ?_
      refine ww_bipush C dX4_readAll_70 cB_33 ?_
      refine ww_iast C dX4_readAll_72 Y2 (by omega) (by decide) ?_
      refine ww_gen (fun h1 hE1 => ?_)
      have X0_h1 : h1 (D 0) = some (.inr (3, [.int (M1.1 0), .ref (D 1), .int (M1.1 1), .int (M1.1 2), .ref (D 2), .ref (D 3), .ref (D 4), .ref (D 5), .int (M1.1 3), .int (M1.1 4), .int (M1.1 5), .int (M1.1 6), .int (M1.1 7), .ref (D 6), .ref (D 7), .ref (D 8), .ref (D 9), .ref (D 10), .ref (D 11), .ref (D 12), .ref (D 13), .int (M1.1 8), .int (M1.1 9), .int (M1.1 10)])) := by rw [hE1, up_n (fun q => by cases hX1.2 0 2 (by decide) (by decide) q)]; exact X0
      have Y4_h1 : h1 (D 4) = some (.inl (gA (xG X) 0, (402, .inl (M1.2.1 4)))) := by rw [hE1, up_n (Ne.symm (fun q => by cases hX1.2 2 4 (by decide) (by decide) q))]; exact Y4
      have Y2_h1 : h1 (D 2) = some (.inl (gA (xG X) 0, (402, .inl (upd (M1.2.1 2) (tcn t) (nI 33))))) := by rw [hE1]; exact up_s
      refine ww_aload_n C dX4_readAll_73 rfl 2 rfl rfl ?_
      refine gf_X4_23_X4 C dX4_readAll_74 (Or.inl X0_h1) rfl ?_
      refine ww_iload_n C dX4_readAll_77 rfl 0 rfl ?_
      refine ww_aload_n C dX4_readAll_78 rfl 2 rfl rfl ?_
      refine gf_X4_72_X4 C dX4_readAll_79 (Or.inl X0_h1) rfl ?_
      refine ww_st (st' := [.int (nI t.2), .int (nI (tcn t)), .ref (D 4)]) (by rw [hv1.1]) ?_
      refine ww_iast C dX4_readAll_82 Y4_h1 (by omega) (by decide) ?_
      refine ww_gen (fun h2 hE2 => ?_)
      have X0_h2 : h2 (D 0) = some (.inr (3, [.int (M1.1 0), .ref (D 1), .int (M1.1 1), .int (M1.1 2), .ref (D 2), .ref (D 3), .ref (D 4), .ref (D 5), .int (M1.1 3), .int (M1.1 4), .int (M1.1 5), .int (M1.1 6), .int (M1.1 7), .ref (D 6), .ref (D 7), .ref (D 8), .ref (D 9), .ref (D 10), .ref (D 11), .ref (D 12), .ref (D 13), .int (M1.1 8), .int (M1.1 9), .int (M1.1 10)])) := by rw [hE2, up_n (fun q => by cases hX1.2 0 4 (by decide) (by decide) q)]; exact X0_h1
      have Y2_h2 : h2 (D 2) = some (.inl (gA (xG X) 0, (402, .inl (upd (M1.2.1 2) (tcn t) (nI 33))))) := by rw [hE2, up_n (fun q => by cases hX1.2 2 4 (by decide) (by decide) q)]; exact Y2_h1
      have Y4_h2 : h2 (D 4) = some (.inl (gA (xG X) 0, (402, .inl (upd (M1.2.1 4) (tcn t) (nI t.2))))) := by rw [hE2]; exact up_s
      exact ww_vret C dX4_readAll_83 ⟨rfl, (M1.1, va_up (va_up M1.2.1 2 (upd (M1.2.1 2) (tcn t) (nI 33))) 4 (upd (M1.2.1 4) (tcn t) (nI t.2)), M1.2.2), (hs1.r (by omega)).r (by omega), TkV.fin hv1 hk2 hk4 hk5 hk3, by rw [hE2, hE1]; exact Mx.r (Mx.r hX1 (i := 2) (by decide)) (i := 4) (by decide), by rw [hE2, hE1]; exact FrD.w (FrD.w hf1 (i := 2) (by decide)) (i := 4) (by decide)⟩
    · skip
      obtain ⟨h01, h02⟩ : 0 < tcn t ∧ tkd t (tcn t - 1) = 32 := by rcases htp with q | q; { omega }; { exact q }
      refine ww_iload_n C dX4_readAll_16 rfl 0 rfl ?_
      refine ww_if_eq_f (tgt := 33) C dX4_readAll_17 (by decide) (nI_ne0 h01 (by omega)) ?_
      refine ww_aload_n C dX4_readAll_20 rfl 2 rfl rfl ?_
      refine gf_X4_17_X4 C dX4_readAll_21 (Or.inl X0) rfl ?_
      refine ww_iload_n C dX4_readAll_24 rfl 0 rfl ?_
      refine ww_iconst C dX4_readAll_25 cI_1 ?_
      refine ww_isubn C dX4_readAll_26 (by omega) ?_
      refine ww_iald C dX4_readAll_27 (Or.inl Y2) (by omega) (by decide) ?_
      refine ww_st (st' := [.int (nI (tkd t (tcn t - 1)))]) (by rw [hk2 (tcn t - 1) (by omega)]) ?_
      refine ww_bipush C dX4_readAll_28 cB_32 ?_
      refine ww_icmp_eq_t (tgt := 65) C dX4_readAll_30 (by decide) (by rw [h02]) ?_
      have X0 : h1 (D 0) = some (cMd M1.1 D) := hX1.m
      have Y2 : h1 (D 2) = some (cI (xG X) 402 (M1.2.1 2)) := hX1.1 2 (by decide)
      have Y4 : h1 (D 4) = some (cI (xG X) 402 (M1.2.1 4)) := hX1.1 4 (by decide)
      refine ww_aload_n C dX4_readAll_65 rfl 2 rfl rfl ?_
      refine gf_X4_17_X4 C dX4_readAll_66 (Or.inl X0) rfl ?_
      refine ww_iload_n C dX4_readAll_69 rfl 0 rfl ?_
      refine ww_bipush C dX4_readAll_70 cB_33 ?_
      refine ww_iast C dX4_readAll_72 Y2 (by omega) (by decide) ?_
      refine ww_gen (fun h3 hE3 => ?_)
      have X0_h3 : h3 (D 0) = some (.inr (3, [.int (M1.1 0), .ref (D 1), .int (M1.1 1), .int (M1.1 2), .ref (D 2), .ref (D 3), .ref (D 4), .ref (D 5), .int (M1.1 3), .int (M1.1 4), .int (M1.1 5), .int (M1.1 6), .int (M1.1 7), .ref (D 6), .ref (D 7), .ref (D 8), .ref (D 9), .ref (D 10), .ref (D 11), .ref (D 12), .ref (D 13), .int (M1.1 8), .int (M1.1 9), .int (M1.1 10)])) := by rw [hE3, up_n (fun q => by cases hX1.2 0 2 (by decide) (by decide) q)]; exact X0
      have Y4_h3 : h3 (D 4) = some (.inl (gA (xG X) 0, (402, .inl (M1.2.1 4)))) := by rw [hE3, up_n (Ne.symm (fun q => by cases hX1.2 2 4 (by decide) (by decide) q))]; exact Y4
      have Y2_h3 : h3 (D 2) = some (.inl (gA (xG X) 0, (402, .inl (upd (M1.2.1 2) (tcn t) (nI 33))))) := by rw [hE3]; exact up_s
      refine ww_aload_n C dX4_readAll_73 rfl 2 rfl rfl ?_
      refine gf_X4_23_X4 C dX4_readAll_74 (Or.inl X0_h3) rfl ?_
      refine ww_iload_n C dX4_readAll_77 rfl 0 rfl ?_
      refine ww_aload_n C dX4_readAll_78 rfl 2 rfl rfl ?_
      refine gf_X4_72_X4 C dX4_readAll_79 (Or.inl X0_h3) rfl ?_
      refine ww_st (st' := [.int (nI t.2), .int (nI (tcn t)), .ref (D 4)]) (by rw [hv1.1]) ?_
      refine ww_iast C dX4_readAll_82 Y4_h3 (by omega) (by decide) ?_
      refine ww_gen (fun h4 hE4 => ?_)
      have X0_h4 : h4 (D 0) = some (.inr (3, [.int (M1.1 0), .ref (D 1), .int (M1.1 1), .int (M1.1 2), .ref (D 2), .ref (D 3), .ref (D 4), .ref (D 5), .int (M1.1 3), .int (M1.1 4), .int (M1.1 5), .int (M1.1 6), .int (M1.1 7), .ref (D 6), .ref (D 7), .ref (D 8), .ref (D 9), .ref (D 10), .ref (D 11), .ref (D 12), .ref (D 13), .int (M1.1 8), .int (M1.1 9), .int (M1.1 10)])) := by rw [hE4, up_n (fun q => by cases hX1.2 0 4 (by decide) (by decide) q)]; exact X0_h3
      have Y2_h4 : h4 (D 2) = some (.inl (gA (xG X) 0, (402, .inl (upd (M1.2.1 2) (tcn t) (nI 33))))) := by rw [hE4, up_n (fun q => by cases hX1.2 2 4 (by decide) (by decide) q)]; exact Y2_h3
      have Y4_h4 : h4 (D 4) = some (.inl (gA (xG X) 0, (402, .inl (upd (M1.2.1 4) (tcn t) (nI t.2))))) := by rw [hE4]; exact up_s
      exact ww_vret C dX4_readAll_83 ⟨rfl, (M1.1, va_up (va_up M1.2.1 2 (upd (M1.2.1 2) (tcn t) (nI 33))) 4 (upd (M1.2.1 4) (tcn t) (nI t.2)), M1.2.2), (hs1.r (by omega)).r (by omega), TkV.fin hv1 hk2 hk4 hk5 hk3, by rw [hE4, hE3]; exact Mx.r (Mx.r hX1 (i := 2) (by decide)) (i := 4) (by decide), by rw [hE4, hE3]; exact FrD.w (FrD.w hf1 (i := 2) (by decide)) (i := 4) (by decide)⟩
  · intro k hi ih M1 h1 hX1 hf1 hs1 hk2 hk4 hk5 hk3
    show WW X (Rn (fun z' h' => z' = z ∧ ∃ M', SFa M M' ∧ TkV M' t ∧ Mx (xG X) h' D M' ∧ FrD h h' D)) z h1 0 0 8 [(2, .int (nI k)), (1, .int (nI (tps t k))), (0, .ref (D 0))] []
    obtain ⟨m1, m2⟩ := tcn_m hi
    have hE1 := tkE_ge (t := t) (a := tps t k)
    have hE2 := tkE_le m1
    have hv1 : TpV M1 t := ⟨by rw [hs1.1]; exact v1, by rw [hs1.2.1 1 (by omega)]; exact v2⟩
    have X0 : h1 (D 0) = some (cMd M1.1 D) := hX1.m
    have Y2 : h1 (D 2) = some (cI (xG X) 402 (M1.2.1 2)) := hX1.1 2 (by decide)
    have Y4 : h1 (D 4) = some (cI (xG X) 402 (M1.2.1 4)) := hX1.1 4 (by decide)
    refine ww_iload_n C dX4_readAll_8 rfl 1 rfl ?_
    refine ww_aload_n C dX4_readAll_9 rfl 2 rfl rfl ?_
    refine gf_X4_72_X4 C dX4_readAll_10 (Or.inl X0) rfl ?_
    refine ww_st (st' := [.int (nI t.2), .int (nI (tps t k))]) (by rw [hv1.1]) ?_
    refine ww_icmp_ge_f (tgt := 65) C dX4_readAll_13 (by decide) (nI_ge m1 (by omega)) ?_
    refine ww_iload_n C dX4_readAll_16 rfl 0 rfl ?_
    refine ww_if_eq_n (tgt := 33) C dX4_readAll_17 (by decide) (by omega) (fun c_17 => ?_) (fun c_17 => ?_)
    · skip
      have X0 : h1 (D 0) = some (cMd M1.1 D) := hX1.m
      have Y2 : h1 (D 2) = some (cI (xG X) 402 (M1.2.1 2)) := hX1.1 2 (by decide)
      refine ww_aload_n C dX4_readAll_33 rfl 2 rfl rfl ?_
      refine ww_aload_n C dX4_readAll_34 rfl 2 rfl rfl ?_
      refine ww_iload_n C dX4_readAll_35 rfl 1 rfl ?_
      refine ww_iload_n C dX4_readAll_36 rfl 0 rfl ?_
      refine cv_X4_113_q (As := [.int (nI (tps t k)), .int (nI k)]) (rest := [.ref (D 0)]) C dX4_readAll_37 (ct_X4_read (Cx.fl C) (Cx.ok C) hz hX1 hv1 ht (a := tps t k) (k := k) m1 (by omega)) (rc_X4 (Cx.ok C) (Or.inl X0)) rfl rfl (Nat.le_of_ble_eq_true rfl) (by decide) (Nat.zero_le _) (Nat.zero_le _) (fun v9 z9 h9 q9 => ?_)
      obtain ⟨rfl, hq9, M9, s9, ⟨r2, r4, r5, r3⟩, hX9, fr9⟩ := q9; replace hq9 := hq9.symm; subst hq9
      have hv9 : TpV M9 t := ⟨by rw [s9.1]; exact hv1.1, by rw [s9.2.1 1 (by omega)]; exact hv1.2⟩
      have X0 : h9 (D 0) = some (cMd M9.1 D) := hX9.m
      have Y2 : h9 (D 2) = some (cI (xG X) 402 (M9.2.1 2)) := hX9.1 2 (by decide)
      refine cv_X4_110_r (As := [.int (nI (tkE t (tps t k)))]) (rest := []) C dX4_readAll_40 (ct_X4_skip (Cx.fl C) (Cx.ok C) hX9 hv9 ht (a := tkE t (tps t k)) hE2) (rc_X4 (Cx.ok C) (Or.inl X0)) rfl rfl (Nat.le_of_ble_eq_true rfl) (by decide) (Nat.zero_le _) (Nat.zero_le _) ?_
      refine ww_istore_n (lv' := [(1, .int (nI (tps t (k + 1)))), (2, .int (nI k)), (0, .ref (D 0))]) C dX4_readAll_43 rfl (by decide) rfl ?_
      refine ww_iload_n C dX4_readAll_44 rfl 1 rfl ?_
      refine ww_sipush C dX4_readAll_45 cS_400 ?_
      refine ww_icmp_ne_n (tgt := 59) C dX4_readAll_48 (by decide) (by omega) (by decide) (fun c_48 => ?_) (fun c_48 => ?_)
      · skip
        have hkd : tkd t k = tkK t (tps t k) := by unfold tkd; rw [if_neg c_48]
        refine ww_iinc (lv' := [(2, .int (nI (k + 1))), (1, .int (nI (tps t (k + 1)))), (0, .ref (D 0))]) C dX4_readAll_59 1 rfl (inc_n _) (by decide) rfl ?_
        refine ww_goto (tgt := 8) C dX4_readAll_62 (by decide) ?_
        exact ih M9 h9 hX9 (hf1.tr fr9) (hs1.s s9) (fun j hj => by rcases Nat.lt_or_ge j k with q | q; { rw [s9.2.2.1 _ _ (by omega)]; exact hk2 j q }; { rw [show j = k by omega]; exact (by rw [hkd]; exact r2) }) (fun j hj => by rcases Nat.lt_or_ge j k with q | q; { rw [s9.2.2.1 _ _ (by omega)]; exact hk4 j q }; { rw [show j = k by omega]; exact r4 }) (fun j hj => by rcases Nat.lt_or_ge j k with q | q; { rw [s9.2.2.1 _ _ (by omega)]; exact hk5 j q }; { rw [show j = k by omega]; exact r5 }) (fun j hj => by rcases Nat.lt_or_ge j k with q | q; { rw [s9.2.2.1 _ _ (by omega)]; exact hk3 j q }; { rw [show j = k by omega, hkd]; exact r3 })
      · skip
        have hkd : tkd t k = 32 := by unfold tkd; rw [if_pos c_48]
        refine ww_aload_n C dX4_readAll_51 rfl 2 rfl rfl ?_
        refine gf_X4_17_X4 C dX4_readAll_52 (Or.inl X0) rfl ?_
        refine ww_iload_n C dX4_readAll_55 rfl 1 rfl ?_
        refine ww_bipush C dX4_readAll_56 cB_32 ?_
        refine ww_iast C dX4_readAll_58 Y2 (by omega) (by decide) ?_
        refine ww_gen (fun h5 hE5 => ?_)
        have X0_h5 : h5 (D 0) = some (.inr (3, [.int (M9.1 0), .ref (D 1), .int (M9.1 1), .int (M9.1 2), .ref (D 2), .ref (D 3), .ref (D 4), .ref (D 5), .int (M9.1 3), .int (M9.1 4), .int (M9.1 5), .int (M9.1 6), .int (M9.1 7), .ref (D 6), .ref (D 7), .ref (D 8), .ref (D 9), .ref (D 10), .ref (D 11), .ref (D 12), .ref (D 13), .int (M9.1 8), .int (M9.1 9), .int (M9.1 10)])) := by rw [hE5, up_n (fun q => by cases hX9.2 0 2 (by decide) (by decide) q)]; exact X0
        have Y2_h5 : h5 (D 2) = some (.inl (gA (xG X) 0, (402, .inl (upd (M9.2.1 2) k (nI 32))))) := by rw [hE5]; exact up_s
        refine ww_iinc (lv' := [(2, .int (nI (k + 1))), (1, .int (nI (tps t (k + 1)))), (0, .ref (D 0))]) C dX4_readAll_59 1 rfl (inc_n _) (by decide) rfl ?_
        refine ww_goto (tgt := 8) C dX4_readAll_62 (by decide) ?_
        exact ih (M9.1, va_up M9.2.1 2 (upd (M9.2.1 2) k (nI 32)), M9.2.2) h5 (by rw [hE5]; exact Mx.r hX9 (i := 2) (by decide)) (by rw [hE5]; exact FrD.w (hf1.tr fr9) (i := 2) (by decide)) ((hs1.s s9).r (by omega)) (fun j hj => by rcases Nat.lt_or_ge j k with q | q; { show upd (M9.2.1 2) k (nI 32) j = _; rw [upd_ne (by omega), s9.2.2.1 _ _ (by omega)]; exact hk2 j q }; { rw [show j = k by omega, hkd]; show upd (M9.2.1 2) k (nI 32) k = _; rw [upd_eq] }) (fun j hj => by show M9.2.1 4 j = _; rcases Nat.lt_or_ge j k with q | q; { rw [s9.2.2.1 _ _ (by omega)]; exact hk4 j q }; { rw [show j = k by omega]; exact r4 }) (fun j hj => by show M9.2.1 5 j = _; rcases Nat.lt_or_ge j k with q | q; { rw [s9.2.2.1 _ _ (by omega)]; exact hk5 j q }; { rw [show j = k by omega]; exact r5 }) (fun j hj => by rcases Nat.lt_or_ge j k with q | q; { show _ → M9.2.1 3 j = _; rw [s9.2.2.1 _ _ (by omega)]; exact hk3 j q }; { rw [show j = k by omega, hkd]; exact fun q => by omega })
    · skip
      refine ww_aload_n C dX4_readAll_20 rfl 2 rfl rfl ?_
      refine gf_X4_17_X4 C dX4_readAll_21 (Or.inl X0) rfl ?_
      refine ww_iload_n C dX4_readAll_24 rfl 0 rfl ?_
      refine ww_iconst C dX4_readAll_25 cI_1 ?_
      refine ww_isubn C dX4_readAll_26 (by omega) ?_
      refine ww_iald C dX4_readAll_27 (Or.inl Y2) (by omega) (by decide) ?_
      refine ww_st (st' := [.int (nI (tkd t (k - 1)))]) (by rw [hk2 (k - 1) (by omega)]) ?_
      have hr := tkd_r t (k - 1)
      refine ww_bipush C dX4_readAll_28 cB_32 ?_
      refine ww_icmp_eq_f (tgt := 65) C dX4_readAll_30 (by decide) (fun q => m2 c_17 ((nI_eq (by omega) (by decide)).mp q)) ?_
      have X0 : h1 (D 0) = some (cMd M1.1 D) := hX1.m
      have Y2 : h1 (D 2) = some (cI (xG X) 402 (M1.2.1 2)) := hX1.1 2 (by decide)
      refine ww_aload_n C dX4_readAll_33 rfl 2 rfl rfl ?_
      refine ww_aload_n C dX4_readAll_34 rfl 2 rfl rfl ?_
      refine ww_iload_n C dX4_readAll_35 rfl 1 rfl ?_
      refine ww_iload_n C dX4_readAll_36 rfl 0 rfl ?_
      refine cv_X4_113_q (As := [.int (nI (tps t k)), .int (nI k)]) (rest := [.ref (D 0)]) C dX4_readAll_37 (ct_X4_read (Cx.fl C) (Cx.ok C) hz hX1 hv1 ht (a := tps t k) (k := k) m1 (by omega)) (rc_X4 (Cx.ok C) (Or.inl X0)) rfl rfl (Nat.le_of_ble_eq_true rfl) (by decide) (Nat.zero_le _) (Nat.zero_le _) (fun v9 z9 h9 q9 => ?_)
      obtain ⟨rfl, hq9, M9, s9, ⟨r2, r4, r5, r3⟩, hX9, fr9⟩ := q9; replace hq9 := hq9.symm; subst hq9
      have hv9 : TpV M9 t := ⟨by rw [s9.1]; exact hv1.1, by rw [s9.2.1 1 (by omega)]; exact hv1.2⟩
      have X0 : h9 (D 0) = some (cMd M9.1 D) := hX9.m
      have Y2 : h9 (D 2) = some (cI (xG X) 402 (M9.2.1 2)) := hX9.1 2 (by decide)
      refine cv_X4_110_r (As := [.int (nI (tkE t (tps t k)))]) (rest := []) C dX4_readAll_40 (ct_X4_skip (Cx.fl C) (Cx.ok C) hX9 hv9 ht (a := tkE t (tps t k)) hE2) (rc_X4 (Cx.ok C) (Or.inl X0)) rfl rfl (Nat.le_of_ble_eq_true rfl) (by decide) (Nat.zero_le _) (Nat.zero_le _) ?_
      refine ww_istore_n (lv' := [(1, .int (nI (tps t (k + 1)))), (2, .int (nI k)), (0, .ref (D 0))]) C dX4_readAll_43 rfl (by decide) rfl ?_
      refine ww_iload_n C dX4_readAll_44 rfl 1 rfl ?_
      refine ww_sipush C dX4_readAll_45 cS_400 ?_
      refine ww_icmp_ne_n (tgt := 59) C dX4_readAll_48 (by decide) (by omega) (by decide) (fun c_48 => ?_) (fun c_48 => ?_)
      · skip
        have hkd : tkd t k = tkK t (tps t k) := by unfold tkd; rw [if_neg c_48]
        refine ww_iinc (lv' := [(2, .int (nI (k + 1))), (1, .int (nI (tps t (k + 1)))), (0, .ref (D 0))]) C dX4_readAll_59 1 rfl (inc_n _) (by decide) rfl ?_
        refine ww_goto (tgt := 8) C dX4_readAll_62 (by decide) ?_
        exact ih M9 h9 hX9 (hf1.tr fr9) (hs1.s s9) (fun j hj => by rcases Nat.lt_or_ge j k with q | q; { rw [s9.2.2.1 _ _ (by omega)]; exact hk2 j q }; { rw [show j = k by omega]; exact (by rw [hkd]; exact r2) }) (fun j hj => by rcases Nat.lt_or_ge j k with q | q; { rw [s9.2.2.1 _ _ (by omega)]; exact hk4 j q }; { rw [show j = k by omega]; exact r4 }) (fun j hj => by rcases Nat.lt_or_ge j k with q | q; { rw [s9.2.2.1 _ _ (by omega)]; exact hk5 j q }; { rw [show j = k by omega]; exact r5 }) (fun j hj => by rcases Nat.lt_or_ge j k with q | q; { rw [s9.2.2.1 _ _ (by omega)]; exact hk3 j q }; { rw [show j = k by omega, hkd]; exact r3 })
      · skip
        have hkd : tkd t k = 32 := by unfold tkd; rw [if_pos c_48]
        refine ww_aload_n C dX4_readAll_51 rfl 2 rfl rfl ?_
        refine gf_X4_17_X4 C dX4_readAll_52 (Or.inl X0) rfl ?_
        refine ww_iload_n C dX4_readAll_55 rfl 1 rfl ?_
        refine ww_bipush C dX4_readAll_56 cB_32 ?_
        refine ww_iast C dX4_readAll_58 Y2 (by omega) (by decide) ?_
        refine ww_gen (fun h6 hE6 => ?_)
        have X0_h6 : h6 (D 0) = some (.inr (3, [.int (M9.1 0), .ref (D 1), .int (M9.1 1), .int (M9.1 2), .ref (D 2), .ref (D 3), .ref (D 4), .ref (D 5), .int (M9.1 3), .int (M9.1 4), .int (M9.1 5), .int (M9.1 6), .int (M9.1 7), .ref (D 6), .ref (D 7), .ref (D 8), .ref (D 9), .ref (D 10), .ref (D 11), .ref (D 12), .ref (D 13), .int (M9.1 8), .int (M9.1 9), .int (M9.1 10)])) := by rw [hE6, up_n (fun q => by cases hX9.2 0 2 (by decide) (by decide) q)]; exact X0
        have Y2_h6 : h6 (D 2) = some (.inl (gA (xG X) 0, (402, .inl (upd (M9.2.1 2) k (nI 32))))) := by rw [hE6]; exact up_s
        refine ww_iinc (lv' := [(2, .int (nI (k + 1))), (1, .int (nI (tps t (k + 1)))), (0, .ref (D 0))]) C dX4_readAll_59 1 rfl (inc_n _) (by decide) rfl ?_
        refine ww_goto (tgt := 8) C dX4_readAll_62 (by decide) ?_
        exact ih (M9.1, va_up M9.2.1 2 (upd (M9.2.1 2) k (nI 32)), M9.2.2) h6 (by rw [hE6]; exact Mx.r hX9 (i := 2) (by decide)) (by rw [hE6]; exact FrD.w (hf1.tr fr9) (i := 2) (by decide)) ((hs1.s s9).r (by omega)) (fun j hj => by rcases Nat.lt_or_ge j k with q | q; { show upd (M9.2.1 2) k (nI 32) j = _; rw [upd_ne (by omega), s9.2.2.1 _ _ (by omega)]; exact hk2 j q }; { rw [show j = k by omega, hkd]; show upd (M9.2.1 2) k (nI 32) k = _; rw [upd_eq] }) (fun j hj => by show M9.2.1 4 j = _; rcases Nat.lt_or_ge j k with q | q; { rw [s9.2.2.1 _ _ (by omega)]; exact hk4 j q }; { rw [show j = k by omega]; exact r4 }) (fun j hj => by show M9.2.1 5 j = _; rcases Nat.lt_or_ge j k with q | q; { rw [s9.2.2.1 _ _ (by omega)]; exact hk5 j q }; { rw [show j = k by omega]; exact r5 }) (fun j hj => by rcases Nat.lt_or_ge j k with q | q; { show _ → M9.2.1 3 j = _; rw [s9.2.2.1 _ _ (by omega)]; exact hk3 j q }; { rw [show j = k by omega, hkd]; exact fun q => by omega })
end MO26
