section MO25
set_option maxRecDepth 100000
/-- only the token k's rows have changed -/
def SF (k : Nat) (M M' : MS) : Prop := M'.1 = M.1 ∧ (∀ i, (i < 2 ∨ 6 ≤ i) → M'.2.1 i = M.2.1 i) ∧ (∀ i j, j ≠ k → M'.2.1 i j = M.2.1 i j) ∧ M'.2.2 = M.2.2
theorem SF.rf {k : Nat} {M : MS} : SF k M M := ⟨rfl, fun _ _ => rfl, fun _ _ _ => rfl, rfl⟩
theorem SF.rk {k : Nat} {M M1 : MS} (s : SF k M M1) {i : Nat} {f : Nat → Int32} (hi : 2 ≤ i ∧ i < 6) (hf : ∀ j, j ≠ k → f j = M1.2.1 i j) : SF k M (M1.1, va_up M1.2.1 i f, M1.2.2) := by
  refine ⟨s.1, fun i' h => (va_ne (by omega)).trans (s.2.1 i' h), fun i' j hj => ?_, s.2.2.2⟩
  by_cases e : i' = i
  · subst e
    show va_up M1.2.1 i' f i' j = _
    rw [va_eq, hf j hj]; exact s.2.2.1 _ _ hj
  · show va_up M1.2.1 i f i' j = _
    rw [va_ne e]; exact s.2.2.1 _ _ hj
theorem SF.r {k : Nat} {M : MS} {i : Nat} {v : Int32} (s : SF k M M) (hi : 2 ≤ i ∧ i < 6) : SF k M (M.1, va_up M.2.1 i (upd (M.2.1 i) k v), M.2.2) := s.rk hi (fun j hj => upd_ne hj)
theorem symK_44 {c : Nat} (h : symK c = 44) : c = 60 := by
  unfold symK at h
  repeat' split at h
  all_goals omega
theorem symK_45 {c : Nat} (h : symK c = 45) : c = 62 := by
  unfold symK at h
  repeat' split at h
  all_goals omega
set_option maxHeartbeats 2000000 in
theorem ct_X4_read {l : Launch} {Γ : Gm} (hl : l.flags = flags0) (hΓ : GOK Γ) {z : ZR} {h : AH} {D : Nat → Nat} {t : TP} {M : MS} {a k : Nat} (hz : zle (cst Γ) z) (hX : Mx Γ h D M) (hv : TpV M t) (ht : TPo t) (ha : a < t.2) (hk : k < 402) : Ct l Γ yX4_read cX4_read 6 (some .int) 7 0 0 [.ref (D 0), .int (nI a), .int (nI k)] z h (Rv (fun v z' h' => v = .int (nI (tkE t a)) ∧ z' = z ∧ ∃ M', SF k M M' ∧ (M'.2.1 2 k = nI (tkK t a) ∧ M'.2.1 4 k = nI a ∧ M'.2.1 5 k = nI (tkE t a - a) ∧ (tkK t a = 31 → M'.2.1 3 k = nI (tkN t a))) ∧ Mx Γ h' D M' ∧ FrD h h' D)) := by
  refine Ct.of hl hΓ (by decide +kernel) (Nat.le_of_ble_eq_true rfl) (fun X e1 e2 C => ?_)
  subst e1; subst e2
  have C : Cx X cX4_read 6 "RingDominoModel" "read" (some .int) [] 7 := C
  obtain ⟨v1, v2⟩ := id hv
  have h20 := ht.1
  have hE1 := tkE_ge (t := t) (a := a)
  have hE2 := tkE_le ha
  have hbA : byI t a = nI (byA t a) := by unfold byI byA; rw [if_pos ha, if_pos ha]
  have hb256 := byA_lt ht a
  have htA : t.1 a = byA t a := by unfold byA; rw [if_pos ha]
  show WW X (Rv (fun v z' h' => v = .int (nI (tkE t a)) ∧ z' = z ∧ ∃ M', SF k M M' ∧ (M'.2.1 2 k = nI (tkK t a) ∧ M'.2.1 4 k = nI a ∧ M'.2.1 5 k = nI (tkE t a - a) ∧ (tkK t a = 31 → M'.2.1 3 k = nI (tkN t a))) ∧ Mx (xG X) h' D M' ∧ FrD h h' D)) z h 0 0 0 [(0, .ref (D 0)), (1, .int (nI a)), (2, .int (nI k))] []
  have X0 : h (D 0) = some (cMd M.1 D) := hX.m
  have Y1 : h (D 1) = some (cI (xG X) 2000 (M.2.1 1)) := hX.1 1 (by decide)
  have Y4 : h (D 4) = some (cI (xG X) 402 (M.2.1 4)) := hX.1 4 (by decide)
  refine ww_aload_n C dX4_read_0 rfl 0 rfl rfl ?_
  refine gf_X4_9_X4 C dX4_read_1 (Or.inl X0) rfl ?_
  refine ww_iload_n C dX4_read_4 rfl 1 rfl ?_
  refine ww_iald C dX4_read_5 (Or.inl Y1) (by omega) (by decide) ?_
  refine ww_st (st' := [.int (byI t a)]) (by rw [v2 a ha, hbA, htA]) ?_
  refine ww_istore_n (lv' := [(3, .int (byI t a)), (0, .ref (D 0)), (1, .int (nI a)), (2, .int (nI k))]) C dX4_read_6 rfl (by decide) rfl ?_
  refine ww_iload_n C dX4_read_7 rfl 2 rfl ?_
  refine ww_iconst C dX4_read_8 cI_1 ?_
  refine ww_iaddn C dX4_read_9 ?_
  refine ww_istore (lv' := [(4, .int (nI (a + 1))), (3, .int (byI t a)), (0, .ref (D 0)), (1, .int (nI a)), (2, .int (nI k))]) C dX4_read_10 (by decide) rfl ?_
  refine ww_aload_n C dX4_read_12 rfl 2 rfl rfl ?_
  refine gf_X4_23_X4 C dX4_read_13 (Or.inl X0) rfl ?_
  refine ww_iload_n C dX4_read_16 rfl 4 rfl ?_
  refine ww_iload_n C dX4_read_17 rfl 3 rfl ?_
  refine ww_iast C dX4_read_18 Y4 (by omega) (by decide) ?_
  refine ww_gen (fun h1 hE1 => ?_)
  have X0_h1 : h1 (D 0) = some (.inr (3, [.int (M.1 0), .ref (D 1), .int (M.1 1), .int (M.1 2), .ref (D 2), .ref (D 3), .ref (D 4), .ref (D 5), .int (M.1 3), .int (M.1 4), .int (M.1 5), .int (M.1 6), .int (M.1 7), .ref (D 6), .ref (D 7), .ref (D 8), .ref (D 9), .ref (D 10), .ref (D 11), .ref (D 12), .ref (D 13), .int (M.1 8), .int (M.1 9), .int (M.1 10)])) := by rw [hE1, up_n (fun q => by cases hX.2 0 4 (by decide) (by decide) q)]; exact X0
  have Y1_h1 : h1 (D 1) = some (.inl (gA (xG X) 0, (2000, .inl (M.2.1 1)))) := by rw [hE1, up_n (fun q => by cases hX.2 1 4 (by decide) (by decide) q)]; exact Y1
  have Y4_h1 : h1 (D 4) = some (.inl (gA (xG X) 0, (402, .inl (upd (M.2.1 4) k (nI a))))) := by rw [hE1]; exact up_s
  have hX1 : Mx (xG X) h1 D (M.1, va_up M.2.1 4 (upd (M.2.1 4) k (nI a)), M.2.2) := by rw [hE1]; exact Mx.r hX (i := 4) (by decide)
  have hv1 : TpV (M.1, va_up M.2.1 4 (upd (M.2.1 4) k (nI a)), M.2.2) t := hv
  have f4 : (M.1, va_up M.2.1 4 (upd (M.2.1 4) k (nI a)), M.2.2).2.1 4 k = nI a := by show upd (M.2.1 4) k (nI a) k = _; rw [upd_eq]
  have s1 : SF k M (M.1, va_up M.2.1 4 (upd (M.2.1 4) k (nI a)), M.2.2) := SF.rf.r (by omega)
  have fr1 : FrD h h1 D := by rw [hE1]; exact FrD.w FrD.rf (i := 4) (by decide)
  have X0 : h1 (D 0) = some (cMd (M.1, va_up M.2.1 4 (upd (M.2.1 4) k (nI a)), M.2.2).1 D) := hX1.m
  have Y2 : h1 (D 2) = some (cI (xG X) 402 ((M.1, va_up M.2.1 4 (upd (M.2.1 4) k (nI a)), M.2.2).2.1 2)) := hX1.1 2 (by decide)
  have Y3 : h1 (D 3) = some (cI (xG X) 402 ((M.1, va_up M.2.1 4 (upd (M.2.1 4) k (nI a)), M.2.2).2.1 3)) := hX1.1 3 (by decide)
  have Y5 : h1 (D 5) = some (cI (xG X) 402 ((M.1, va_up M.2.1 4 (upd (M.2.1 4) k (nI a)), M.2.2).2.1 5)) := hX1.1 5 (by decide)
  refine ww_iload_n C dX4_read_19 rfl 1 rfl ?_
  refine cs_X4_92_r (As := [.int (byI t a)]) (rest := []) C dX4_read_20 (ct_X4_isLetter (Cx.fl C) (Cx.ok C) (a := a) ht) rfl rfl (Nat.le_of_ble_eq_true rfl) (by decide) (Nat.zero_le _) (Nat.zero_le _) ?_
  refine ww_if_eq_b (tgt := 74) C dX4_read_23 (by decide) (fun c_23 => ?_) (fun c_23 => ?_)
  · skip
    refine ww_iload_n C dX4_read_74 rfl 1 rfl ?_
    refine cs_X4_100_r (As := [.int (byI t a)]) (rest := []) C dX4_read_75 (ct_X4_isDigit (Cx.fl C) (Cx.ok C) (a := a) ht) rfl rfl (Nat.le_of_ble_eq_true rfl) (by decide) (Nat.zero_le _) (Nat.zero_le _) ?_
    refine ww_if_eq_b (tgt := 169) C dX4_read_78 (by decide) (fun c_78 => ?_) (fun c_78 => ?_)
    · skip
      have hkk0 : two t a = false → tkK t a = symK (byA t a) ∧ tkE t a = a + 1 := fun q => by unfold tkK tkE; rw [c_23, c_78, q]; exact ⟨rfl, rfl⟩
      have hkk1 : two t a = true → tkK t a = (if byA t a = 60 then 47 else 48) ∧ tkE t a = a + 2 := fun q => by unfold tkK tkE; rw [c_23, c_78, q]; exact ⟨rfl, rfl⟩
      have hsr := symK_r (byA t a)
      refine ww_aload_n C dX4_read_169 rfl 2 rfl rfl ?_
      refine gf_X4_17_X4 C dX4_read_170 (Or.inl X0) rfl ?_
      refine ww_iload_n C dX4_read_173 rfl 4 rfl ?_
      refine ww_iload_n C dX4_read_174 rfl 1 rfl ?_
      refine ww_st (st' := [.int (nI (byA t a)), .int (nI k), .ref (D 2)]) (by rw [hbA]) ?_
      refine cs_X4_107_r (As := [.int (nI (byA t a))]) (rest := [.int (nI k), .ref (D 2)]) C dX4_read_175 (ct_X4_symbol (Cx.fl C) (Cx.ok C) hb256) rfl rfl (Nat.le_of_ble_eq_true rfl) (by decide) (Nat.zero_le _) (Nat.zero_le _) ?_
      refine ww_iast C dX4_read_178 Y2 (by omega) (by decide) ?_
      refine ww_gen (fun h4 hE4 => ?_)
      have X0_h4 : h4 (D 0) = some (.inr (3, [.int ((M.1, va_up M.2.1 4 (upd (M.2.1 4) k (nI a)), M.2.2).1 0), .ref (D 1), .int ((M.1, va_up M.2.1 4 (upd (M.2.1 4) k (nI a)), M.2.2).1 1), .int ((M.1, va_up M.2.1 4 (upd (M.2.1 4) k (nI a)), M.2.2).1 2), .ref (D 2), .ref (D 3), .ref (D 4), .ref (D 5), .int ((M.1, va_up M.2.1 4 (upd (M.2.1 4) k (nI a)), M.2.2).1 3), .int ((M.1, va_up M.2.1 4 (upd (M.2.1 4) k (nI a)), M.2.2).1 4), .int ((M.1, va_up M.2.1 4 (upd (M.2.1 4) k (nI a)), M.2.2).1 5), .int ((M.1, va_up M.2.1 4 (upd (M.2.1 4) k (nI a)), M.2.2).1 6), .int ((M.1, va_up M.2.1 4 (upd (M.2.1 4) k (nI a)), M.2.2).1 7), .ref (D 6), .ref (D 7), .ref (D 8), .ref (D 9), .ref (D 10), .ref (D 11), .ref (D 12), .ref (D 13), .int ((M.1, va_up M.2.1 4 (upd (M.2.1 4) k (nI a)), M.2.2).1 8), .int ((M.1, va_up M.2.1 4 (upd (M.2.1 4) k (nI a)), M.2.2).1 9), .int ((M.1, va_up M.2.1 4 (upd (M.2.1 4) k (nI a)), M.2.2).1 10)])) := by rw [hE4, up_n (fun q => by cases hX1.2 0 2 (by decide) (by decide) q)]; exact X0
      have Y3_h4 : h4 (D 3) = some (.inl (gA (xG X) 0, (402, .inl ((M.1, va_up M.2.1 4 (upd (M.2.1 4) k (nI a)), M.2.2).2.1 3)))) := by rw [hE4, up_n (Ne.symm (fun q => by cases hX1.2 2 3 (by decide) (by decide) q))]; exact Y3
      have Y5_h4 : h4 (D 5) = some (.inl (gA (xG X) 0, (402, .inl ((M.1, va_up M.2.1 4 (upd (M.2.1 4) k (nI a)), M.2.2).2.1 5)))) := by rw [hE4, up_n (Ne.symm (fun q => by cases hX1.2 2 5 (by decide) (by decide) q))]; exact Y5
      have Y2_h4 : h4 (D 2) = some (.inl (gA (xG X) 0, (402, .inl (upd ((M.1, va_up M.2.1 4 (upd (M.2.1 4) k (nI a)), M.2.2).2.1 2) k (nI (symK (byA t a))))))) := by rw [hE4]; exact up_s
      refine ww_aload_n C dX4_read_179 rfl 2 rfl rfl ?_
      refine gf_X4_17_X4 C dX4_read_180 (Or.inl X0_h4) rfl ?_
      refine ww_iload_n C dX4_read_183 rfl 4 rfl ?_
      refine ww_iald C dX4_read_184 (Or.inl Y2_h4) (by omega) (by decide) ?_
      refine ww_st (st' := [.int (nI (symK (byA t a)))]) (by rw [upd_eq]) ?_
      refine ww_bipush C dX4_read_185 cB_44 ?_
      refine ww_icmp_eq_n (tgt := 201) C dX4_read_187 (by decide) (by omega) (by decide) (fun c_187 => ?_) (fun c_187 => ?_)
      · skip
        have hc60 := symK_44 c_187
        have hx1 : Mx (xG X) h4 D (M.1, va_up (va_up M.2.1 4 (upd (M.2.1 4) k (nI a))) 2 (upd ((M.1, va_up M.2.1 4 (upd (M.2.1 4) k (nI a)), M.2.2).2.1 2) k (nI (symK (byA t a)))), M.2.2) := by rw [hE4]; exact Mx.r hX1 (i := 2) (by decide)
        have hv2 : TpV (M.1, va_up (va_up M.2.1 4 (upd (M.2.1 4) k (nI a))) 2 (upd ((M.1, va_up M.2.1 4 (upd (M.2.1 4) k (nI a)), M.2.2).2.1 2) k (nI (symK (byA t a)))), M.2.2) t := hv
        refine ww_aload_n C dX4_read_201 rfl 2 rfl rfl ?_
        refine ww_iload C dX4_read_202 0 rfl ?_
        refine cv_X4_96_r (As := [.int (nI (a + 1))]) (rest := []) C dX4_read_204 (ct_X4_byteAt (Cx.fl C) (Cx.ok C) hx1 hv2 ht (a := a + 1) (by omega)) (rc_X4 (Cx.ok C) (Or.inl X0_h4)) rfl rfl (Nat.le_of_ble_eq_true rfl) (by decide) (Nat.zero_le _) (Nat.zero_le _) ?_
        refine ww_bipush C dX4_read_207 cB_61 ?_
        refine ww_icmp_ne (tgt := 239) C dX4_read_209 (by decide) (fun c_209 => ?_) (fun c_209 => ?_)
        · skip
          have hq2 : two t a = false := by unfold two; rw [show decide (byA t (a + 1) = 61) = false from decide_eq_false (fun q => c_209 ((byI_eq ht (by decide) (by decide)).mpr q)), Bool.and_false]
          obtain ⟨k1, k2⟩ := hkk0 hq2
          refine ww_lv (lv' := [(4, .int (nI (tkE t a))), (3, .int (byI t a)), (0, .ref (D 0)), (1, .int (nI a)), (2, .int (nI k))]) (by rw [k2]) ?_
          refine ww_aload_n C dX4_read_239 rfl 2 rfl rfl ?_
          refine gf_X4_26_X4 C dX4_read_240 (Or.inl X0_h4) rfl ?_
          refine ww_iload_n C dX4_read_243 rfl 4 rfl ?_
          refine ww_iload C dX4_read_244 0 rfl ?_
          refine ww_iload_n C dX4_read_246 rfl 3 rfl ?_
          refine ww_isubn C dX4_read_247 (by omega) ?_
          refine ww_iast C dX4_read_248 Y5_h4 (by omega) (by decide) ?_
          refine ww_gen (fun h5 hE5 => ?_)
          have X0_h5 : h5 (D 0) = some (.inr (3, [.int ((M.1, va_up M.2.1 4 (upd (M.2.1 4) k (nI a)), M.2.2).1 0), .ref (D 1), .int ((M.1, va_up M.2.1 4 (upd (M.2.1 4) k (nI a)), M.2.2).1 1), .int ((M.1, va_up M.2.1 4 (upd (M.2.1 4) k (nI a)), M.2.2).1 2), .ref (D 2), .ref (D 3), .ref (D 4), .ref (D 5), .int ((M.1, va_up M.2.1 4 (upd (M.2.1 4) k (nI a)), M.2.2).1 3), .int ((M.1, va_up M.2.1 4 (upd (M.2.1 4) k (nI a)), M.2.2).1 4), .int ((M.1, va_up M.2.1 4 (upd (M.2.1 4) k (nI a)), M.2.2).1 5), .int ((M.1, va_up M.2.1 4 (upd (M.2.1 4) k (nI a)), M.2.2).1 6), .int ((M.1, va_up M.2.1 4 (upd (M.2.1 4) k (nI a)), M.2.2).1 7), .ref (D 6), .ref (D 7), .ref (D 8), .ref (D 9), .ref (D 10), .ref (D 11), .ref (D 12), .ref (D 13), .int ((M.1, va_up M.2.1 4 (upd (M.2.1 4) k (nI a)), M.2.2).1 8), .int ((M.1, va_up M.2.1 4 (upd (M.2.1 4) k (nI a)), M.2.2).1 9), .int ((M.1, va_up M.2.1 4 (upd (M.2.1 4) k (nI a)), M.2.2).1 10)])) := by rw [hE5, up_n (fun q => by cases hX1.2 0 5 (by decide) (by decide) q)]; exact X0_h4
          have Y2_h5 : h5 (D 2) = some (.inl (gA (xG X) 0, (402, .inl (upd ((M.1, va_up M.2.1 4 (upd (M.2.1 4) k (nI a)), M.2.2).2.1 2) k (nI (symK (byA t a))))))) := by rw [hE5, up_n (fun q => by cases hX1.2 2 5 (by decide) (by decide) q)]; exact Y2_h4
          have Y3_h5 : h5 (D 3) = some (.inl (gA (xG X) 0, (402, .inl ((M.1, va_up M.2.1 4 (upd (M.2.1 4) k (nI a)), M.2.2).2.1 3)))) := by rw [hE5, up_n (fun q => by cases hX1.2 3 5 (by decide) (by decide) q)]; exact Y3_h4
          have Y5_h5 : h5 (D 5) = some (.inl (gA (xG X) 0, (402, .inl (upd ((M.1, va_up M.2.1 4 (upd (M.2.1 4) k (nI a)), M.2.2).2.1 5) k (nI ((tkE t a) - a)))))) := by rw [hE5]; exact up_s
          refine ww_iload C dX4_read_249 0 rfl ?_
          exact ww_iret C dX4_read_251 ⟨rfl, rfl, (M.1, va_up (va_up (va_up M.2.1 4 (upd (M.2.1 4) k (nI a))) 2 (upd ((M.1, va_up M.2.1 4 (upd (M.2.1 4) k (nI a)), M.2.2).2.1 2) k (nI (symK (byA t a))))) 5 (upd ((M.1, va_up M.2.1 4 (upd (M.2.1 4) k (nI a)), M.2.2).2.1 5) k (nI (tkE t a - a))), M.2.2), ((s1.rk (by omega) (fun j hj => by exact upd_ne hj)).rk (by omega) (fun j hj => by exact upd_ne hj)), ⟨by rw [k1]; show upd _ k (nI (symK (byA t a))) k = _; rw [upd_eq], f4, by show upd _ k (nI (tkE t a - a)) k = _; rw [upd_eq], (fun q => by rw [k1] at q; omega)⟩, by rw [hE5, hE4]; exact (Mx.r (Mx.r hX1 (i := 2) (by decide)) (i := 5) (by decide)), by rw [hE5, hE4]; exact (FrD.w (FrD.w fr1 (i := 2) (by decide)) (i := 5) (by decide))⟩
        · skip
          have hq2 : two t a = true := by unfold two; rw [show byA t a = 60 from hc60, show decide (byA t (a + 1) = 61) = true from decide_eq_true ((byI_eq ht (by decide) (by decide)).mp c_209)]; simp
          obtain ⟨k1, k2⟩ := hkk1 hq2
          refine ww_aload_n C dX4_read_212 rfl 2 rfl rfl ?_
          refine gf_X4_17_X4 C dX4_read_213 (Or.inl X0_h4) rfl ?_
          refine ww_iload_n C dX4_read_216 rfl 4 rfl ?_
          refine ww_aload_n C dX4_read_217 rfl 2 rfl rfl ?_
          refine gf_X4_17_X4 C dX4_read_218 (Or.inl X0_h4) rfl ?_
          refine ww_iload_n C dX4_read_221 rfl 4 rfl ?_
          refine ww_iald C dX4_read_222 (Or.inl Y2_h4) (by omega) (by decide) ?_
          refine ww_st (st' := [.int (nI (symK (byA t a))), .int (nI k), .ref (D 2)]) (by rw [upd_eq]) ?_
          refine ww_bipush C dX4_read_223 cB_44 ?_
          have hs44 : symK (byA t a) = 44 := by rw [hc60]; rfl
          refine ww_icmp_ne_f (tgt := 233) C dX4_read_225 (by decide) (by rw [hs44]) ?_
          refine ww_bipush C dX4_read_228 cB_47 ?_
          refine ww_goto (tgt := 235) C dX4_read_230 (by decide) ?_
          refine ww_iast C dX4_read_235 Y2_h4 (by omega) (by decide) ?_
          refine ww_gen (fun h6 hE6 => ?_)
          have X0_h6 : h6 (D 0) = some (.inr (3, [.int ((M.1, va_up M.2.1 4 (upd (M.2.1 4) k (nI a)), M.2.2).1 0), .ref (D 1), .int ((M.1, va_up M.2.1 4 (upd (M.2.1 4) k (nI a)), M.2.2).1 1), .int ((M.1, va_up M.2.1 4 (upd (M.2.1 4) k (nI a)), M.2.2).1 2), .ref (D 2), .ref (D 3), .ref (D 4), .ref (D 5), .int ((M.1, va_up M.2.1 4 (upd (M.2.1 4) k (nI a)), M.2.2).1 3), .int ((M.1, va_up M.2.1 4 (upd (M.2.1 4) k (nI a)), M.2.2).1 4), .int ((M.1, va_up M.2.1 4 (upd (M.2.1 4) k (nI a)), M.2.2).1 5), .int ((M.1, va_up M.2.1 4 (upd (M.2.1 4) k (nI a)), M.2.2).1 6), .int ((M.1, va_up M.2.1 4 (upd (M.2.1 4) k (nI a)), M.2.2).1 7), .ref (D 6), .ref (D 7), .ref (D 8), .ref (D 9), .ref (D 10), .ref (D 11), .ref (D 12), .ref (D 13), .int ((M.1, va_up M.2.1 4 (upd (M.2.1 4) k (nI a)), M.2.2).1 8), .int ((M.1, va_up M.2.1 4 (upd (M.2.1 4) k (nI a)), M.2.2).1 9), .int ((M.1, va_up M.2.1 4 (upd (M.2.1 4) k (nI a)), M.2.2).1 10)])) := by rw [hE6, up_n (fun q => by cases hX1.2 0 2 (by decide) (by decide) q)]; exact X0_h4
          have Y3_h6 : h6 (D 3) = some (.inl (gA (xG X) 0, (402, .inl ((M.1, va_up M.2.1 4 (upd (M.2.1 4) k (nI a)), M.2.2).2.1 3)))) := by rw [hE6, up_n (Ne.symm (fun q => by cases hX1.2 2 3 (by decide) (by decide) q))]; exact Y3_h4
          have Y5_h6 : h6 (D 5) = some (.inl (gA (xG X) 0, (402, .inl ((M.1, va_up M.2.1 4 (upd (M.2.1 4) k (nI a)), M.2.2).2.1 5)))) := by rw [hE6, up_n (Ne.symm (fun q => by cases hX1.2 2 5 (by decide) (by decide) q))]; exact Y5_h4
          have Y2_h6 : h6 (D 2) = some (.inl (gA (xG X) 0, (402, .inl (upd (upd ((M.1, va_up M.2.1 4 (upd (M.2.1 4) k (nI a)), M.2.2).2.1 2) k (nI (symK (byA t a)))) k (nI 47))))) := by rw [hE6]; exact up_s
          refine ww_iinc (lv' := [(4, .int (nI (a + 1 + 1))), (3, .int (byI t a)), (0, .ref (D 0)), (1, .int (nI a)), (2, .int (nI k))]) C dX4_read_236 0 rfl (inc_n _) (by decide) rfl ?_
          refine ww_lv (lv' := [(4, .int (nI (tkE t a))), (3, .int (byI t a)), (0, .ref (D 0)), (1, .int (nI a)), (2, .int (nI k))]) (by rw [k2]) ?_
          refine ww_aload_n C dX4_read_239 rfl 2 rfl rfl ?_
          refine gf_X4_26_X4 C dX4_read_240 (Or.inl X0_h6) rfl ?_
          refine ww_iload_n C dX4_read_243 rfl 4 rfl ?_
          refine ww_iload C dX4_read_244 0 rfl ?_
          refine ww_iload_n C dX4_read_246 rfl 3 rfl ?_
          refine ww_isubn C dX4_read_247 (by omega) ?_
          refine ww_iast C dX4_read_248 Y5_h6 (by omega) (by decide) ?_
          refine ww_gen (fun h7 hE7 => ?_)
          have X0_h7 : h7 (D 0) = some (.inr (3, [.int ((M.1, va_up M.2.1 4 (upd (M.2.1 4) k (nI a)), M.2.2).1 0), .ref (D 1), .int ((M.1, va_up M.2.1 4 (upd (M.2.1 4) k (nI a)), M.2.2).1 1), .int ((M.1, va_up M.2.1 4 (upd (M.2.1 4) k (nI a)), M.2.2).1 2), .ref (D 2), .ref (D 3), .ref (D 4), .ref (D 5), .int ((M.1, va_up M.2.1 4 (upd (M.2.1 4) k (nI a)), M.2.2).1 3), .int ((M.1, va_up M.2.1 4 (upd (M.2.1 4) k (nI a)), M.2.2).1 4), .int ((M.1, va_up M.2.1 4 (upd (M.2.1 4) k (nI a)), M.2.2).1 5), .int ((M.1, va_up M.2.1 4 (upd (M.2.1 4) k (nI a)), M.2.2).1 6), .int ((M.1, va_up M.2.1 4 (upd (M.2.1 4) k (nI a)), M.2.2).1 7), .ref (D 6), .ref (D 7), .ref (D 8), .ref (D 9), .ref (D 10), .ref (D 11), .ref (D 12), .ref (D 13), .int ((M.1, va_up M.2.1 4 (upd (M.2.1 4) k (nI a)), M.2.2).1 8), .int ((M.1, va_up M.2.1 4 (upd (M.2.1 4) k (nI a)), M.2.2).1 9), .int ((M.1, va_up M.2.1 4 (upd (M.2.1 4) k (nI a)), M.2.2).1 10)])) := by rw [hE7, up_n (fun q => by cases hX1.2 0 5 (by decide) (by decide) q)]; exact X0_h6
          have Y2_h7 : h7 (D 2) = some (.inl (gA (xG X) 0, (402, .inl (upd (upd ((M.1, va_up M.2.1 4 (upd (M.2.1 4) k (nI a)), M.2.2).2.1 2) k (nI (symK (byA t a)))) k (nI 47))))) := by rw [hE7, up_n (fun q => by cases hX1.2 2 5 (by decide) (by decide) q)]; exact Y2_h6
          have Y3_h7 : h7 (D 3) = some (.inl (gA (xG X) 0, (402, .inl ((M.1, va_up M.2.1 4 (upd (M.2.1 4) k (nI a)), M.2.2).2.1 3)))) := by rw [hE7, up_n (fun q => by cases hX1.2 3 5 (by decide) (by decide) q)]; exact Y3_h6
          have Y5_h7 : h7 (D 5) = some (.inl (gA (xG X) 0, (402, .inl (upd ((M.1, va_up M.2.1 4 (upd (M.2.1 4) k (nI a)), M.2.2).2.1 5) k (nI ((tkE t a) - a)))))) := by rw [hE7]; exact up_s
          refine ww_iload C dX4_read_249 0 rfl ?_
          exact ww_iret C dX4_read_251 ⟨rfl, rfl, (M.1, va_up (va_up (va_up (va_up M.2.1 4 (upd (M.2.1 4) k (nI a))) 2 (upd ((M.1, va_up M.2.1 4 (upd (M.2.1 4) k (nI a)), M.2.2).2.1 2) k (nI (symK (byA t a))))) 2 (upd (upd ((M.1, va_up M.2.1 4 (upd (M.2.1 4) k (nI a)), M.2.2).2.1 2) k (nI (symK (byA t a)))) k (nI 47))) 5 (upd ((M.1, va_up M.2.1 4 (upd (M.2.1 4) k (nI a)), M.2.2).2.1 5) k (nI (tkE t a - a))), M.2.2), (((s1.rk (by omega) (fun j hj => by exact upd_ne hj)).rk (by omega) (fun j hj => by exact upd_ne hj)).rk (by omega) (fun j hj => by exact upd_ne hj)), ⟨by rw [k1, hc60]; show upd _ k (nI 47) k = _; rw [upd_eq]; rfl, f4, by show upd _ k (nI (tkE t a - a)) k = _; rw [upd_eq], (fun q => by rw [k1] at q; split at q <;> omega)⟩, by rw [hE7, hE6, hE4]; exact (Mx.r (Mx.r (Mx.r hX1 (i := 2) (by decide)) (i := 2) (by decide)) (i := 5) (by decide)), by rw [hE7, hE6, hE4]; exact (FrD.w (FrD.w (FrD.w fr1 (i := 2) (by decide)) (i := 2) (by decide)) (i := 5) (by decide))⟩
      · skip
        refine ww_aload_n C dX4_read_190 rfl 2 rfl rfl ?_
        refine gf_X4_17_X4 C dX4_read_191 (Or.inl X0_h4) rfl ?_
        refine ww_iload_n C dX4_read_194 rfl 4 rfl ?_
        refine ww_iald C dX4_read_195 (Or.inl Y2_h4) (by omega) (by decide) ?_
        refine ww_st (st' := [.int (nI (symK (byA t a)))]) (by rw [upd_eq]) ?_
        refine ww_bipush C dX4_read_196 cB_45 ?_
        refine ww_icmp_ne_n (tgt := 239) C dX4_read_198 (by decide) (by omega) (by decide) (fun c_198 => ?_) (fun c_198 => ?_)
        · skip
          have hq2 : two t a = false := by unfold two; rw [decide_eq_false (fun q => c_187 (by rw [q]; rfl)), decide_eq_false (fun q => c_198 (by rw [q]; rfl))]; rfl
          obtain ⟨k1, k2⟩ := hkk0 hq2
          refine ww_lv (lv' := [(4, .int (nI (tkE t a))), (3, .int (byI t a)), (0, .ref (D 0)), (1, .int (nI a)), (2, .int (nI k))]) (by rw [k2]) ?_
          refine ww_aload_n C dX4_read_239 rfl 2 rfl rfl ?_
          refine gf_X4_26_X4 C dX4_read_240 (Or.inl X0_h4) rfl ?_
          refine ww_iload_n C dX4_read_243 rfl 4 rfl ?_
          refine ww_iload C dX4_read_244 0 rfl ?_
          refine ww_iload_n C dX4_read_246 rfl 3 rfl ?_
          refine ww_isubn C dX4_read_247 (by omega) ?_
          refine ww_iast C dX4_read_248 Y5_h4 (by omega) (by decide) ?_
          refine ww_gen (fun h8 hE8 => ?_)
          have X0_h8 : h8 (D 0) = some (.inr (3, [.int ((M.1, va_up M.2.1 4 (upd (M.2.1 4) k (nI a)), M.2.2).1 0), .ref (D 1), .int ((M.1, va_up M.2.1 4 (upd (M.2.1 4) k (nI a)), M.2.2).1 1), .int ((M.1, va_up M.2.1 4 (upd (M.2.1 4) k (nI a)), M.2.2).1 2), .ref (D 2), .ref (D 3), .ref (D 4), .ref (D 5), .int ((M.1, va_up M.2.1 4 (upd (M.2.1 4) k (nI a)), M.2.2).1 3), .int ((M.1, va_up M.2.1 4 (upd (M.2.1 4) k (nI a)), M.2.2).1 4), .int ((M.1, va_up M.2.1 4 (upd (M.2.1 4) k (nI a)), M.2.2).1 5), .int ((M.1, va_up M.2.1 4 (upd (M.2.1 4) k (nI a)), M.2.2).1 6), .int ((M.1, va_up M.2.1 4 (upd (M.2.1 4) k (nI a)), M.2.2).1 7), .ref (D 6), .ref (D 7), .ref (D 8), .ref (D 9), .ref (D 10), .ref (D 11), .ref (D 12), .ref (D 13), .int ((M.1, va_up M.2.1 4 (upd (M.2.1 4) k (nI a)), M.2.2).1 8), .int ((M.1, va_up M.2.1 4 (upd (M.2.1 4) k (nI a)), M.2.2).1 9), .int ((M.1, va_up M.2.1 4 (upd (M.2.1 4) k (nI a)), M.2.2).1 10)])) := by rw [hE8, up_n (fun q => by cases hX1.2 0 5 (by decide) (by decide) q)]; exact X0_h4
          have Y2_h8 : h8 (D 2) = some (.inl (gA (xG X) 0, (402, .inl (upd ((M.1, va_up M.2.1 4 (upd (M.2.1 4) k (nI a)), M.2.2).2.1 2) k (nI (symK (byA t a))))))) := by rw [hE8, up_n (fun q => by cases hX1.2 2 5 (by decide) (by decide) q)]; exact Y2_h4
          have Y3_h8 : h8 (D 3) = some (.inl (gA (xG X) 0, (402, .inl ((M.1, va_up M.2.1 4 (upd (M.2.1 4) k (nI a)), M.2.2).2.1 3)))) := by rw [hE8, up_n (fun q => by cases hX1.2 3 5 (by decide) (by decide) q)]; exact Y3_h4
          have Y5_h8 : h8 (D 5) = some (.inl (gA (xG X) 0, (402, .inl (upd ((M.1, va_up M.2.1 4 (upd (M.2.1 4) k (nI a)), M.2.2).2.1 5) k (nI ((tkE t a) - a)))))) := by rw [hE8]; exact up_s
          refine ww_iload C dX4_read_249 0 rfl ?_
          exact ww_iret C dX4_read_251 ⟨rfl, rfl, (M.1, va_up (va_up (va_up M.2.1 4 (upd (M.2.1 4) k (nI a))) 2 (upd ((M.1, va_up M.2.1 4 (upd (M.2.1 4) k (nI a)), M.2.2).2.1 2) k (nI (symK (byA t a))))) 5 (upd ((M.1, va_up M.2.1 4 (upd (M.2.1 4) k (nI a)), M.2.2).2.1 5) k (nI (tkE t a - a))), M.2.2), ((s1.rk (by omega) (fun j hj => by exact upd_ne hj)).rk (by omega) (fun j hj => by exact upd_ne hj)), ⟨by rw [k1]; show upd _ k (nI (symK (byA t a))) k = _; rw [upd_eq], f4, by show upd _ k (nI (tkE t a - a)) k = _; rw [upd_eq], (fun q => by rw [k1] at q; omega)⟩, by rw [hE8, hE4]; exact (Mx.r (Mx.r hX1 (i := 2) (by decide)) (i := 5) (by decide)), by rw [hE8, hE4]; exact (FrD.w (FrD.w fr1 (i := 2) (by decide)) (i := 5) (by decide))⟩
        · skip
          have hc60 := symK_45 c_198
          have hx1 : Mx (xG X) h4 D (M.1, va_up (va_up M.2.1 4 (upd (M.2.1 4) k (nI a))) 2 (upd ((M.1, va_up M.2.1 4 (upd (M.2.1 4) k (nI a)), M.2.2).2.1 2) k (nI (symK (byA t a)))), M.2.2) := by rw [hE4]; exact Mx.r hX1 (i := 2) (by decide)
          have hv2 : TpV (M.1, va_up (va_up M.2.1 4 (upd (M.2.1 4) k (nI a))) 2 (upd ((M.1, va_up M.2.1 4 (upd (M.2.1 4) k (nI a)), M.2.2).2.1 2) k (nI (symK (byA t a)))), M.2.2) t := hv
          refine ww_aload_n C dX4_read_201 rfl 2 rfl rfl ?_
          refine ww_iload C dX4_read_202 0 rfl ?_
          refine cv_X4_96_r (As := [.int (nI (a + 1))]) (rest := []) C dX4_read_204 (ct_X4_byteAt (Cx.fl C) (Cx.ok C) hx1 hv2 ht (a := a + 1) (by omega)) (rc_X4 (Cx.ok C) (Or.inl X0_h4)) rfl rfl (Nat.le_of_ble_eq_true rfl) (by decide) (Nat.zero_le _) (Nat.zero_le _) ?_
          refine ww_bipush C dX4_read_207 cB_61 ?_
          refine ww_icmp_ne (tgt := 239) C dX4_read_209 (by decide) (fun c_209 => ?_) (fun c_209 => ?_)
          · skip
            have hq2 : two t a = false := by unfold two; rw [show decide (byA t (a + 1) = 61) = false from decide_eq_false (fun q => c_209 ((byI_eq ht (by decide) (by decide)).mpr q)), Bool.and_false]
            obtain ⟨k1, k2⟩ := hkk0 hq2
            refine ww_lv (lv' := [(4, .int (nI (tkE t a))), (3, .int (byI t a)), (0, .ref (D 0)), (1, .int (nI a)), (2, .int (nI k))]) (by rw [k2]) ?_
            refine ww_aload_n C dX4_read_239 rfl 2 rfl rfl ?_
            refine gf_X4_26_X4 C dX4_read_240 (Or.inl X0_h4) rfl ?_
            refine ww_iload_n C dX4_read_243 rfl 4 rfl ?_
            refine ww_iload C dX4_read_244 0 rfl ?_
            refine ww_iload_n C dX4_read_246 rfl 3 rfl ?_
            refine ww_isubn C dX4_read_247 (by omega) ?_
            refine ww_iast C dX4_read_248 Y5_h4 (by omega) (by decide) ?_
            refine ww_gen (fun h9 hE9 => ?_)
            have X0_h9 : h9 (D 0) = some (.inr (3, [.int ((M.1, va_up M.2.1 4 (upd (M.2.1 4) k (nI a)), M.2.2).1 0), .ref (D 1), .int ((M.1, va_up M.2.1 4 (upd (M.2.1 4) k (nI a)), M.2.2).1 1), .int ((M.1, va_up M.2.1 4 (upd (M.2.1 4) k (nI a)), M.2.2).1 2), .ref (D 2), .ref (D 3), .ref (D 4), .ref (D 5), .int ((M.1, va_up M.2.1 4 (upd (M.2.1 4) k (nI a)), M.2.2).1 3), .int ((M.1, va_up M.2.1 4 (upd (M.2.1 4) k (nI a)), M.2.2).1 4), .int ((M.1, va_up M.2.1 4 (upd (M.2.1 4) k (nI a)), M.2.2).1 5), .int ((M.1, va_up M.2.1 4 (upd (M.2.1 4) k (nI a)), M.2.2).1 6), .int ((M.1, va_up M.2.1 4 (upd (M.2.1 4) k (nI a)), M.2.2).1 7), .ref (D 6), .ref (D 7), .ref (D 8), .ref (D 9), .ref (D 10), .ref (D 11), .ref (D 12), .ref (D 13), .int ((M.1, va_up M.2.1 4 (upd (M.2.1 4) k (nI a)), M.2.2).1 8), .int ((M.1, va_up M.2.1 4 (upd (M.2.1 4) k (nI a)), M.2.2).1 9), .int ((M.1, va_up M.2.1 4 (upd (M.2.1 4) k (nI a)), M.2.2).1 10)])) := by rw [hE9, up_n (fun q => by cases hX1.2 0 5 (by decide) (by decide) q)]; exact X0_h4
            have Y2_h9 : h9 (D 2) = some (.inl (gA (xG X) 0, (402, .inl (upd ((M.1, va_up M.2.1 4 (upd (M.2.1 4) k (nI a)), M.2.2).2.1 2) k (nI (symK (byA t a))))))) := by rw [hE9, up_n (fun q => by cases hX1.2 2 5 (by decide) (by decide) q)]; exact Y2_h4
            have Y3_h9 : h9 (D 3) = some (.inl (gA (xG X) 0, (402, .inl ((M.1, va_up M.2.1 4 (upd (M.2.1 4) k (nI a)), M.2.2).2.1 3)))) := by rw [hE9, up_n (fun q => by cases hX1.2 3 5 (by decide) (by decide) q)]; exact Y3_h4
            have Y5_h9 : h9 (D 5) = some (.inl (gA (xG X) 0, (402, .inl (upd ((M.1, va_up M.2.1 4 (upd (M.2.1 4) k (nI a)), M.2.2).2.1 5) k (nI ((tkE t a) - a)))))) := by rw [hE9]; exact up_s
            refine ww_iload C dX4_read_249 0 rfl ?_
            exact ww_iret C dX4_read_251 ⟨rfl, rfl, (M.1, va_up (va_up (va_up M.2.1 4 (upd (M.2.1 4) k (nI a))) 2 (upd ((M.1, va_up M.2.1 4 (upd (M.2.1 4) k (nI a)), M.2.2).2.1 2) k (nI (symK (byA t a))))) 5 (upd ((M.1, va_up M.2.1 4 (upd (M.2.1 4) k (nI a)), M.2.2).2.1 5) k (nI (tkE t a - a))), M.2.2), ((s1.rk (by omega) (fun j hj => by exact upd_ne hj)).rk (by omega) (fun j hj => by exact upd_ne hj)), ⟨by rw [k1]; show upd _ k (nI (symK (byA t a))) k = _; rw [upd_eq], f4, by show upd _ k (nI (tkE t a - a)) k = _; rw [upd_eq], (fun q => by rw [k1] at q; omega)⟩, by rw [hE9, hE4]; exact (Mx.r (Mx.r hX1 (i := 2) (by decide)) (i := 5) (by decide)), by rw [hE9, hE4]; exact (FrD.w (FrD.w fr1 (i := 2) (by decide)) (i := 5) (by decide))⟩
          · skip
            have hq2 : two t a = true := by unfold two; rw [show byA t a = 62 from hc60, show decide (byA t (a + 1) = 61) = true from decide_eq_true ((byI_eq ht (by decide) (by decide)).mp c_209)]; simp
            obtain ⟨k1, k2⟩ := hkk1 hq2
            refine ww_aload_n C dX4_read_212 rfl 2 rfl rfl ?_
            refine gf_X4_17_X4 C dX4_read_213 (Or.inl X0_h4) rfl ?_
            refine ww_iload_n C dX4_read_216 rfl 4 rfl ?_
            refine ww_aload_n C dX4_read_217 rfl 2 rfl rfl ?_
            refine gf_X4_17_X4 C dX4_read_218 (Or.inl X0_h4) rfl ?_
            refine ww_iload_n C dX4_read_221 rfl 4 rfl ?_
            refine ww_iald C dX4_read_222 (Or.inl Y2_h4) (by omega) (by decide) ?_
            refine ww_st (st' := [.int (nI (symK (byA t a))), .int (nI k), .ref (D 2)]) (by rw [upd_eq]) ?_
            refine ww_bipush C dX4_read_223 cB_44 ?_
            have hs44 : symK (byA t a) = 45 := by rw [hc60]; rfl
            refine ww_icmp_ne_t (tgt := 233) C dX4_read_225 (by decide) (by rw [hs44]; decide) ?_
            refine ww_bipush C dX4_read_233 cB_48 ?_
            refine ww_iast C dX4_read_235 Y2_h4 (by omega) (by decide) ?_
            refine ww_gen (fun h10 hE10 => ?_)
            have X0_h10 : h10 (D 0) = some (.inr (3, [.int ((M.1, va_up M.2.1 4 (upd (M.2.1 4) k (nI a)), M.2.2).1 0), .ref (D 1), .int ((M.1, va_up M.2.1 4 (upd (M.2.1 4) k (nI a)), M.2.2).1 1), .int ((M.1, va_up M.2.1 4 (upd (M.2.1 4) k (nI a)), M.2.2).1 2), .ref (D 2), .ref (D 3), .ref (D 4), .ref (D 5), .int ((M.1, va_up M.2.1 4 (upd (M.2.1 4) k (nI a)), M.2.2).1 3), .int ((M.1, va_up M.2.1 4 (upd (M.2.1 4) k (nI a)), M.2.2).1 4), .int ((M.1, va_up M.2.1 4 (upd (M.2.1 4) k (nI a)), M.2.2).1 5), .int ((M.1, va_up M.2.1 4 (upd (M.2.1 4) k (nI a)), M.2.2).1 6), .int ((M.1, va_up M.2.1 4 (upd (M.2.1 4) k (nI a)), M.2.2).1 7), .ref (D 6), .ref (D 7), .ref (D 8), .ref (D 9), .ref (D 10), .ref (D 11), .ref (D 12), .ref (D 13), .int ((M.1, va_up M.2.1 4 (upd (M.2.1 4) k (nI a)), M.2.2).1 8), .int ((M.1, va_up M.2.1 4 (upd (M.2.1 4) k (nI a)), M.2.2).1 9), .int ((M.1, va_up M.2.1 4 (upd (M.2.1 4) k (nI a)), M.2.2).1 10)])) := by rw [hE10, up_n (fun q => by cases hX1.2 0 2 (by decide) (by decide) q)]; exact X0_h4
            have Y3_h10 : h10 (D 3) = some (.inl (gA (xG X) 0, (402, .inl ((M.1, va_up M.2.1 4 (upd (M.2.1 4) k (nI a)), M.2.2).2.1 3)))) := by rw [hE10, up_n (Ne.symm (fun q => by cases hX1.2 2 3 (by decide) (by decide) q))]; exact Y3_h4
            have Y5_h10 : h10 (D 5) = some (.inl (gA (xG X) 0, (402, .inl ((M.1, va_up M.2.1 4 (upd (M.2.1 4) k (nI a)), M.2.2).2.1 5)))) := by rw [hE10, up_n (Ne.symm (fun q => by cases hX1.2 2 5 (by decide) (by decide) q))]; exact Y5_h4
            have Y2_h10 : h10 (D 2) = some (.inl (gA (xG X) 0, (402, .inl (upd (upd ((M.1, va_up M.2.1 4 (upd (M.2.1 4) k (nI a)), M.2.2).2.1 2) k (nI (symK (byA t a)))) k (nI 48))))) := by rw [hE10]; exact up_s
            refine ww_iinc (lv' := [(4, .int (nI (a + 1 + 1))), (3, .int (byI t a)), (0, .ref (D 0)), (1, .int (nI a)), (2, .int (nI k))]) C dX4_read_236 0 rfl (inc_n _) (by decide) rfl ?_
            refine ww_lv (lv' := [(4, .int (nI (tkE t a))), (3, .int (byI t a)), (0, .ref (D 0)), (1, .int (nI a)), (2, .int (nI k))]) (by rw [k2]) ?_
            refine ww_aload_n C dX4_read_239 rfl 2 rfl rfl ?_
            refine gf_X4_26_X4 C dX4_read_240 (Or.inl X0_h10) rfl ?_
            refine ww_iload_n C dX4_read_243 rfl 4 rfl ?_
            refine ww_iload C dX4_read_244 0 rfl ?_
            refine ww_iload_n C dX4_read_246 rfl 3 rfl ?_
            refine ww_isubn C dX4_read_247 (by omega) ?_
            refine ww_iast C dX4_read_248 Y5_h10 (by omega) (by decide) ?_
            refine ww_gen (fun h11 hE11 => ?_)
            have X0_h11 : h11 (D 0) = some (.inr (3, [.int ((M.1, va_up M.2.1 4 (upd (M.2.1 4) k (nI a)), M.2.2).1 0), .ref (D 1), .int ((M.1, va_up M.2.1 4 (upd (M.2.1 4) k (nI a)), M.2.2).1 1), .int ((M.1, va_up M.2.1 4 (upd (M.2.1 4) k (nI a)), M.2.2).1 2), .ref (D 2), .ref (D 3), .ref (D 4), .ref (D 5), .int ((M.1, va_up M.2.1 4 (upd (M.2.1 4) k (nI a)), M.2.2).1 3), .int ((M.1, va_up M.2.1 4 (upd (M.2.1 4) k (nI a)), M.2.2).1 4), .int ((M.1, va_up M.2.1 4 (upd (M.2.1 4) k (nI a)), M.2.2).1 5), .int ((M.1, va_up M.2.1 4 (upd (M.2.1 4) k (nI a)), M.2.2).1 6), .int ((M.1, va_up M.2.1 4 (upd (M.2.1 4) k (nI a)), M.2.2).1 7), .ref (D 6), .ref (D 7), .ref (D 8), .ref (D 9), .ref (D 10), .ref (D 11), .ref (D 12), .ref (D 13), .int ((M.1, va_up M.2.1 4 (upd (M.2.1 4) k (nI a)), M.2.2).1 8), .int ((M.1, va_up M.2.1 4 (upd (M.2.1 4) k (nI a)), M.2.2).1 9), .int ((M.1, va_up M.2.1 4 (upd (M.2.1 4) k (nI a)), M.2.2).1 10)])) := by rw [hE11, up_n (fun q => by cases hX1.2 0 5 (by decide) (by decide) q)]; exact X0_h10
            have Y2_h11 : h11 (D 2) = some (.inl (gA (xG X) 0, (402, .inl (upd (upd ((M.1, va_up M.2.1 4 (upd (M.2.1 4) k (nI a)), M.2.2).2.1 2) k (nI (symK (byA t a)))) k (nI 48))))) := by rw [hE11, up_n (fun q => by cases hX1.2 2 5 (by decide) (by decide) q)]; exact Y2_h10
            have Y3_h11 : h11 (D 3) = some (.inl (gA (xG X) 0, (402, .inl ((M.1, va_up M.2.1 4 (upd (M.2.1 4) k (nI a)), M.2.2).2.1 3)))) := by rw [hE11, up_n (fun q => by cases hX1.2 3 5 (by decide) (by decide) q)]; exact Y3_h10
            have Y5_h11 : h11 (D 5) = some (.inl (gA (xG X) 0, (402, .inl (upd ((M.1, va_up M.2.1 4 (upd (M.2.1 4) k (nI a)), M.2.2).2.1 5) k (nI ((tkE t a) - a)))))) := by rw [hE11]; exact up_s
            refine ww_iload C dX4_read_249 0 rfl ?_
            exact ww_iret C dX4_read_251 ⟨rfl, rfl, (M.1, va_up (va_up (va_up (va_up M.2.1 4 (upd (M.2.1 4) k (nI a))) 2 (upd ((M.1, va_up M.2.1 4 (upd (M.2.1 4) k (nI a)), M.2.2).2.1 2) k (nI (symK (byA t a))))) 2 (upd (upd ((M.1, va_up M.2.1 4 (upd (M.2.1 4) k (nI a)), M.2.2).2.1 2) k (nI (symK (byA t a)))) k (nI 48))) 5 (upd ((M.1, va_up M.2.1 4 (upd (M.2.1 4) k (nI a)), M.2.2).2.1 5) k (nI (tkE t a - a))), M.2.2), (((s1.rk (by omega) (fun j hj => by exact upd_ne hj)).rk (by omega) (fun j hj => by exact upd_ne hj)).rk (by omega) (fun j hj => by exact upd_ne hj)), ⟨by rw [k1, hc60]; show upd _ k (nI 48) k = _; rw [upd_eq]; rfl, f4, by show upd _ k (nI (tkE t a - a)) k = _; rw [upd_eq], (fun q => by rw [k1] at q; split at q <;> omega)⟩, by rw [hE11, hE10, hE4]; exact (Mx.r (Mx.r (Mx.r hX1 (i := 2) (by decide)) (i := 2) (by decide)) (i := 5) (by decide)), by rw [hE11, hE10, hE4]; exact (FrD.w (FrD.w (FrD.w fr1 (i := 2) (by decide)) (i := 2) (by decide)) (i := 5) (by decide))⟩
    · skip
      have he : tkE t a = run (dgP t) t.2 (a + 1) := by unfold tkE; rw [c_23, c_78]; rfl
      have r1 := run_ge (p := dgP t) (n := t.2) (e := a + 1)
      have hd0 := isDg_le c_78
      have hdg := dg_all c_23 c_78
      have hkk : tkK t a = if 6 < tkE t a - a then 32 else 31 := by unfold tkK; rw [c_23, c_78]; rfl
      refine ww_iload_n C dX4_read_81 rfl 1 rfl ?_
      refine ww_st (st' := [.int (nI (byA t a))]) (by rw [hbA]) ?_
      refine ww_bipush C dX4_read_82 cB_48 ?_
      refine ww_isubn C dX4_read_84 (by omega) ?_
      refine ww_istore (lv' := [(5, .int (nI ((byA t a) - 48))), (4, .int (nI (a + 1))), (3, .int (byI t a)), (0, .ref (D 0)), (1, .int (nI a)), (2, .int (nI k))]) C dX4_read_85 (by decide) rfl ?_
      have hn0 : nmV t a (min (1 + 0) 7) = byA t a - 48 := by show 10 * 0 + (t.1 (a + 0) - 48) = _; rw [show a + 0 = a from rfl, htA]; omega
      refine ww_lv (lv' := [(5, .int (nI (nmV t a (min (1 + 0) 7)))), (4, .int (nI (a + 1 + 0))), (3, .int (byI t a)), (0, .ref (D 0)), (1, .int (nI a)), (2, .int (nI k))]) (by rw [hn0]) ?_
      refine loop_up (N := (run (dgP t) t.2 (a + 1) - (a + 1))) (M := fun j => WW X (Rv (fun v z' h' => v = .int (nI (tkE t a)) ∧ z' = z ∧ ∃ M', SF k M M' ∧ (M'.2.1 2 k = nI (tkK t a) ∧ M'.2.1 4 k = nI a ∧ M'.2.1 5 k = nI (tkE t a - a) ∧ (tkK t a = 31 → M'.2.1 3 k = nI (tkN t a))) ∧ Mx (xG X) h' D M' ∧ FrD h h' D)) z h1 0 0 87 [(5, .int (nI (nmV t a (min (1 + j) 7)))), (4, .int (nI (a + 1 + j))), (3, .int (byI t a)), (0, .ref (D 0)), (1, .int (nI a)), (2, .int (nI k))] []) ?_ ?_ 0 (Nat.zero_le _)
      · show WW X (Rv (fun v z' h' => v = .int (nI (tkE t a)) ∧ z' = z ∧ ∃ M', SF k M M' ∧ (M'.2.1 2 k = nI (tkK t a) ∧ M'.2.1 4 k = nI a ∧ M'.2.1 5 k = nI (tkE t a - a) ∧ (tkK t a = 31 → M'.2.1 3 k = nI (tkN t a))) ∧ Mx (xG X) h' D M' ∧ FrD h h' D)) z h1 0 0 87 [(5, .int (nI (nmV t a (min (1 + (run (dgP t) t.2 (a + 1) - (a + 1))) 7)))), (4, .int (nI (a + 1 + (run (dgP t) t.2 (a + 1) - (a + 1))))), (3, .int (byI t a)), (0, .ref (D 0)), (1, .int (nI a)), (2, .int (nI k))] []
        have hz9 : a + 1 + (run (dgP t) t.2 (a + 1) - (a + 1)) = tkE t a := by omega
        have hz8 : 1 + (run (dgP t) t.2 (a + 1) - (a + 1)) = tkE t a - a := by omega
        refine ww_lv (lv' := [(5, .int (nI (nmV t a (min (tkE t a - a) 7)))), (4, .int (nI (tkE t a))), (3, .int (byI t a)), (0, .ref (D 0)), (1, .int (nI a)), (2, .int (nI k))]) (by rw [hz9, hz8]) ?_
        have hb := run_end (p := dgP t) (n := t.2) (e := a + 1) (fun j hj => dgP_lt hj)
        rw [← he] at hb; unfold dgP at hb
        have X0 : h1 (D 0) = some (cMd (M.1, va_up M.2.1 4 (upd (M.2.1 4) k (nI a)), M.2.2).1 D) := hX1.m
        have Y2 : h1 (D 2) = some (cI (xG X) 402 ((M.1, va_up M.2.1 4 (upd (M.2.1 4) k (nI a)), M.2.2).2.1 2)) := hX1.1 2 (by decide)
        have Y3 : h1 (D 3) = some (cI (xG X) 402 ((M.1, va_up M.2.1 4 (upd (M.2.1 4) k (nI a)), M.2.2).2.1 3)) := hX1.1 3 (by decide)
        have Y5 : h1 (D 5) = some (cI (xG X) 402 ((M.1, va_up M.2.1 4 (upd (M.2.1 4) k (nI a)), M.2.2).2.1 5)) := hX1.1 5 (by decide)
        refine ww_aload_n C dX4_read_87 rfl 3 rfl rfl ?_
        refine ww_iload C dX4_read_88 1 rfl ?_
        refine cv_X4_96_r (As := [.int (nI (tkE t a))]) (rest := []) C dX4_read_90 (ct_X4_byteAt (Cx.fl C) (Cx.ok C) hX1 hv1 ht (a := tkE t a) (by omega)) (rc_X4 (Cx.ok C) (Or.inl X0)) rfl rfl (Nat.le_of_ble_eq_true rfl) (by decide) (Nat.zero_le _) (Nat.zero_le _) ?_
        refine cs_X4_100_r (As := [.int (byI t (tkE t a))]) (rest := []) C dX4_read_93 (ct_X4_isDigit (Cx.fl C) (Cx.ok C) (a := tkE t a) ht) rfl rfl (Nat.le_of_ble_eq_true rfl) (by decide) (Nat.zero_le _) (Nat.zero_le _) ?_
        refine ww_if_eq_t (tgt := 136) C dX4_read_96 (by decide) (by rw [hb]; rfl) ?_
        refine ww_aload_n C dX4_read_136 rfl 3 rfl rfl ?_
        refine gf_X4_20_X4 C dX4_read_137 (Or.inl X0) rfl ?_
        refine ww_iload_n C dX4_read_140 rfl 5 rfl ?_
        refine ww_iload C dX4_read_141 0 rfl ?_
        refine ww_iast C dX4_read_143 Y3 (by omega) (by decide) ?_
        refine ww_gen (fun h12 hE12 => ?_)
        have X0_h12 : h12 (D 0) = some (.inr (3, [.int ((M.1, va_up M.2.1 4 (upd (M.2.1 4) k (nI a)), M.2.2).1 0), .ref (D 1), .int ((M.1, va_up M.2.1 4 (upd (M.2.1 4) k (nI a)), M.2.2).1 1), .int ((M.1, va_up M.2.1 4 (upd (M.2.1 4) k (nI a)), M.2.2).1 2), .ref (D 2), .ref (D 3), .ref (D 4), .ref (D 5), .int ((M.1, va_up M.2.1 4 (upd (M.2.1 4) k (nI a)), M.2.2).1 3), .int ((M.1, va_up M.2.1 4 (upd (M.2.1 4) k (nI a)), M.2.2).1 4), .int ((M.1, va_up M.2.1 4 (upd (M.2.1 4) k (nI a)), M.2.2).1 5), .int ((M.1, va_up M.2.1 4 (upd (M.2.1 4) k (nI a)), M.2.2).1 6), .int ((M.1, va_up M.2.1 4 (upd (M.2.1 4) k (nI a)), M.2.2).1 7), .ref (D 6), .ref (D 7), .ref (D 8), .ref (D 9), .ref (D 10), .ref (D 11), .ref (D 12), .ref (D 13), .int ((M.1, va_up M.2.1 4 (upd (M.2.1 4) k (nI a)), M.2.2).1 8), .int ((M.1, va_up M.2.1 4 (upd (M.2.1 4) k (nI a)), M.2.2).1 9), .int ((M.1, va_up M.2.1 4 (upd (M.2.1 4) k (nI a)), M.2.2).1 10)])) := by rw [hE12, up_n (fun q => by cases hX1.2 0 3 (by decide) (by decide) q)]; exact X0
        have Y2_h12 : h12 (D 2) = some (.inl (gA (xG X) 0, (402, .inl ((M.1, va_up M.2.1 4 (upd (M.2.1 4) k (nI a)), M.2.2).2.1 2)))) := by rw [hE12, up_n (fun q => by cases hX1.2 2 3 (by decide) (by decide) q)]; exact Y2
        have Y5_h12 : h12 (D 5) = some (.inl (gA (xG X) 0, (402, .inl ((M.1, va_up M.2.1 4 (upd (M.2.1 4) k (nI a)), M.2.2).2.1 5)))) := by rw [hE12, up_n (Ne.symm (fun q => by cases hX1.2 3 5 (by decide) (by decide) q))]; exact Y5
        have Y3_h12 : h12 (D 3) = some (.inl (gA (xG X) 0, (402, .inl (upd ((M.1, va_up M.2.1 4 (upd (M.2.1 4) k (nI a)), M.2.2).2.1 3) k (nI (nmV t a (min (tkE t a - a) 7))))))) := by rw [hE12]; exact up_s
        refine ww_aload_n C dX4_read_144 rfl 3 rfl rfl ?_
        refine gf_X4_17_X4 C dX4_read_145 (Or.inl X0_h12) rfl ?_
        refine ww_iload_n C dX4_read_148 rfl 5 rfl ?_
        refine ww_iload C dX4_read_149 1 rfl ?_
        refine ww_iload_n C dX4_read_151 rfl 4 rfl ?_
        refine ww_isubn C dX4_read_152 (by omega) ?_
        refine ww_bipush C dX4_read_153 cB_6 ?_
        refine ww_icmp_le_n (tgt := 163) C dX4_read_155 (by decide) (by omega) (by decide) (fun c_155 => ?_) (fun c_155 => ?_)
        · skip
          have hkv : tkK t a = 31 := by rw [hkk, if_neg (by omega)]
          refine ww_bipush C dX4_read_163 cB_31 ?_
          refine ww_iast C dX4_read_165 Y2_h12 (by omega) (by decide) ?_
          refine ww_gen (fun h13 hE13 => ?_)
          have X0_h13 : h13 (D 0) = some (.inr (3, [.int ((M.1, va_up M.2.1 4 (upd (M.2.1 4) k (nI a)), M.2.2).1 0), .ref (D 1), .int ((M.1, va_up M.2.1 4 (upd (M.2.1 4) k (nI a)), M.2.2).1 1), .int ((M.1, va_up M.2.1 4 (upd (M.2.1 4) k (nI a)), M.2.2).1 2), .ref (D 2), .ref (D 3), .ref (D 4), .ref (D 5), .int ((M.1, va_up M.2.1 4 (upd (M.2.1 4) k (nI a)), M.2.2).1 3), .int ((M.1, va_up M.2.1 4 (upd (M.2.1 4) k (nI a)), M.2.2).1 4), .int ((M.1, va_up M.2.1 4 (upd (M.2.1 4) k (nI a)), M.2.2).1 5), .int ((M.1, va_up M.2.1 4 (upd (M.2.1 4) k (nI a)), M.2.2).1 6), .int ((M.1, va_up M.2.1 4 (upd (M.2.1 4) k (nI a)), M.2.2).1 7), .ref (D 6), .ref (D 7), .ref (D 8), .ref (D 9), .ref (D 10), .ref (D 11), .ref (D 12), .ref (D 13), .int ((M.1, va_up M.2.1 4 (upd (M.2.1 4) k (nI a)), M.2.2).1 8), .int ((M.1, va_up M.2.1 4 (upd (M.2.1 4) k (nI a)), M.2.2).1 9), .int ((M.1, va_up M.2.1 4 (upd (M.2.1 4) k (nI a)), M.2.2).1 10)])) := by rw [hE13, up_n (fun q => by cases hX1.2 0 2 (by decide) (by decide) q)]; exact X0_h12
          have Y3_h13 : h13 (D 3) = some (.inl (gA (xG X) 0, (402, .inl (upd ((M.1, va_up M.2.1 4 (upd (M.2.1 4) k (nI a)), M.2.2).2.1 3) k (nI (nmV t a (min (tkE t a - a) 7))))))) := by rw [hE13, up_n (Ne.symm (fun q => by cases hX1.2 2 3 (by decide) (by decide) q))]; exact Y3_h12
          have Y5_h13 : h13 (D 5) = some (.inl (gA (xG X) 0, (402, .inl ((M.1, va_up M.2.1 4 (upd (M.2.1 4) k (nI a)), M.2.2).2.1 5)))) := by rw [hE13, up_n (Ne.symm (fun q => by cases hX1.2 2 5 (by decide) (by decide) q))]; exact Y5_h12
          have Y2_h13 : h13 (D 2) = some (.inl (gA (xG X) 0, (402, .inl (upd ((M.1, va_up M.2.1 4 (upd (M.2.1 4) k (nI a)), M.2.2).2.1 2) k (nI 31))))) := by rw [hE13]; exact up_s
          refine ww_goto (tgt := 239) C dX4_read_166 (by decide) ?_
          refine ww_aload_n C dX4_read_239 rfl 3 rfl rfl ?_
          refine gf_X4_26_X4 C dX4_read_240 (Or.inl X0_h13) rfl ?_
          refine ww_iload_n C dX4_read_243 rfl 5 rfl ?_
          refine ww_iload C dX4_read_244 1 rfl ?_
          refine ww_iload_n C dX4_read_246 rfl 4 rfl ?_
          refine ww_isubn C dX4_read_247 (by omega) ?_
          refine ww_iast C dX4_read_248 Y5_h13 (by omega) (by decide) ?_
          refine ww_gen (fun h14 hE14 => ?_)
          have X0_h14 : h14 (D 0) = some (.inr (3, [.int ((M.1, va_up M.2.1 4 (upd (M.2.1 4) k (nI a)), M.2.2).1 0), .ref (D 1), .int ((M.1, va_up M.2.1 4 (upd (M.2.1 4) k (nI a)), M.2.2).1 1), .int ((M.1, va_up M.2.1 4 (upd (M.2.1 4) k (nI a)), M.2.2).1 2), .ref (D 2), .ref (D 3), .ref (D 4), .ref (D 5), .int ((M.1, va_up M.2.1 4 (upd (M.2.1 4) k (nI a)), M.2.2).1 3), .int ((M.1, va_up M.2.1 4 (upd (M.2.1 4) k (nI a)), M.2.2).1 4), .int ((M.1, va_up M.2.1 4 (upd (M.2.1 4) k (nI a)), M.2.2).1 5), .int ((M.1, va_up M.2.1 4 (upd (M.2.1 4) k (nI a)), M.2.2).1 6), .int ((M.1, va_up M.2.1 4 (upd (M.2.1 4) k (nI a)), M.2.2).1 7), .ref (D 6), .ref (D 7), .ref (D 8), .ref (D 9), .ref (D 10), .ref (D 11), .ref (D 12), .ref (D 13), .int ((M.1, va_up M.2.1 4 (upd (M.2.1 4) k (nI a)), M.2.2).1 8), .int ((M.1, va_up M.2.1 4 (upd (M.2.1 4) k (nI a)), M.2.2).1 9), .int ((M.1, va_up M.2.1 4 (upd (M.2.1 4) k (nI a)), M.2.2).1 10)])) := by rw [hE14, up_n (fun q => by cases hX1.2 0 5 (by decide) (by decide) q)]; exact X0_h13
          have Y2_h14 : h14 (D 2) = some (.inl (gA (xG X) 0, (402, .inl (upd ((M.1, va_up M.2.1 4 (upd (M.2.1 4) k (nI a)), M.2.2).2.1 2) k (nI 31))))) := by rw [hE14, up_n (fun q => by cases hX1.2 2 5 (by decide) (by decide) q)]; exact Y2_h13
          have Y3_h14 : h14 (D 3) = some (.inl (gA (xG X) 0, (402, .inl (upd ((M.1, va_up M.2.1 4 (upd (M.2.1 4) k (nI a)), M.2.2).2.1 3) k (nI (nmV t a (min (tkE t a - a) 7))))))) := by rw [hE14, up_n (fun q => by cases hX1.2 3 5 (by decide) (by decide) q)]; exact Y3_h13
          have Y5_h14 : h14 (D 5) = some (.inl (gA (xG X) 0, (402, .inl (upd ((M.1, va_up M.2.1 4 (upd (M.2.1 4) k (nI a)), M.2.2).2.1 5) k (nI ((tkE t a) - a)))))) := by rw [hE14]; exact up_s
          refine ww_iload C dX4_read_249 1 rfl ?_
          exact ww_iret C dX4_read_251 ⟨rfl, rfl, (M.1, va_up (va_up (va_up (va_up M.2.1 4 (upd (M.2.1 4) k (nI a))) 3 (upd ((M.1, va_up M.2.1 4 (upd (M.2.1 4) k (nI a)), M.2.2).2.1 3) k (nI (nmV t a (min (tkE t a - a) 7))))) 2 (upd ((M.1, va_up M.2.1 4 (upd (M.2.1 4) k (nI a)), M.2.2).2.1 2) k (nI 31))) 5 (upd ((M.1, va_up M.2.1 4 (upd (M.2.1 4) k (nI a)), M.2.2).2.1 5) k (nI (tkE t a - a))), M.2.2), (((s1.rk (by omega) (fun j hj => by exact upd_ne hj)).rk (by omega) (fun j hj => by exact upd_ne hj)).rk (by omega) (fun j hj => by exact upd_ne hj)), ⟨by rw [hkv]; show upd _ k (nI 31) k = _; rw [upd_eq], f4, by show upd _ k (nI (tkE t a - a)) k = _; rw [upd_eq], (fun q => by show upd _ k _ k = _; rw [upd_eq, show min (tkE t a - a) 7 = tkE t a - a by omega]; rfl)⟩, by rw [hE14, hE13, hE12]; exact (Mx.r (Mx.r (Mx.r hX1 (i := 3) (by decide)) (i := 2) (by decide)) (i := 5) (by decide)), by rw [hE14, hE13, hE12]; exact (FrD.w (FrD.w (FrD.w fr1 (i := 3) (by decide)) (i := 2) (by decide)) (i := 5) (by decide))⟩
        · skip
          have hkv : tkK t a = 32 := by rw [hkk, if_pos (by omega)]
          refine ww_bipush C dX4_read_158 cB_32 ?_
          refine ww_goto (tgt := 165) C dX4_read_160 (by decide) ?_
          refine ww_iast C dX4_read_165 Y2_h12 (by omega) (by decide) ?_
          refine ww_gen (fun h15 hE15 => ?_)
          have X0_h15 : h15 (D 0) = some (.inr (3, [.int ((M.1, va_up M.2.1 4 (upd (M.2.1 4) k (nI a)), M.2.2).1 0), .ref (D 1), .int ((M.1, va_up M.2.1 4 (upd (M.2.1 4) k (nI a)), M.2.2).1 1), .int ((M.1, va_up M.2.1 4 (upd (M.2.1 4) k (nI a)), M.2.2).1 2), .ref (D 2), .ref (D 3), .ref (D 4), .ref (D 5), .int ((M.1, va_up M.2.1 4 (upd (M.2.1 4) k (nI a)), M.2.2).1 3), .int ((M.1, va_up M.2.1 4 (upd (M.2.1 4) k (nI a)), M.2.2).1 4), .int ((M.1, va_up M.2.1 4 (upd (M.2.1 4) k (nI a)), M.2.2).1 5), .int ((M.1, va_up M.2.1 4 (upd (M.2.1 4) k (nI a)), M.2.2).1 6), .int ((M.1, va_up M.2.1 4 (upd (M.2.1 4) k (nI a)), M.2.2).1 7), .ref (D 6), .ref (D 7), .ref (D 8), .ref (D 9), .ref (D 10), .ref (D 11), .ref (D 12), .ref (D 13), .int ((M.1, va_up M.2.1 4 (upd (M.2.1 4) k (nI a)), M.2.2).1 8), .int ((M.1, va_up M.2.1 4 (upd (M.2.1 4) k (nI a)), M.2.2).1 9), .int ((M.1, va_up M.2.1 4 (upd (M.2.1 4) k (nI a)), M.2.2).1 10)])) := by rw [hE15, up_n (fun q => by cases hX1.2 0 2 (by decide) (by decide) q)]; exact X0_h12
          have Y3_h15 : h15 (D 3) = some (.inl (gA (xG X) 0, (402, .inl (upd ((M.1, va_up M.2.1 4 (upd (M.2.1 4) k (nI a)), M.2.2).2.1 3) k (nI (nmV t a (min (tkE t a - a) 7))))))) := by rw [hE15, up_n (Ne.symm (fun q => by cases hX1.2 2 3 (by decide) (by decide) q))]; exact Y3_h12
          have Y5_h15 : h15 (D 5) = some (.inl (gA (xG X) 0, (402, .inl ((M.1, va_up M.2.1 4 (upd (M.2.1 4) k (nI a)), M.2.2).2.1 5)))) := by rw [hE15, up_n (Ne.symm (fun q => by cases hX1.2 2 5 (by decide) (by decide) q))]; exact Y5_h12
          have Y2_h15 : h15 (D 2) = some (.inl (gA (xG X) 0, (402, .inl (upd ((M.1, va_up M.2.1 4 (upd (M.2.1 4) k (nI a)), M.2.2).2.1 2) k (nI 32))))) := by rw [hE15]; exact up_s
          refine ww_goto (tgt := 239) C dX4_read_166 (by decide) ?_
          refine ww_aload_n C dX4_read_239 rfl 3 rfl rfl ?_
          refine gf_X4_26_X4 C dX4_read_240 (Or.inl X0_h15) rfl ?_
          refine ww_iload_n C dX4_read_243 rfl 5 rfl ?_
          refine ww_iload C dX4_read_244 1 rfl ?_
          refine ww_iload_n C dX4_read_246 rfl 4 rfl ?_
          refine ww_isubn C dX4_read_247 (by omega) ?_
          refine ww_iast C dX4_read_248 Y5_h15 (by omega) (by decide) ?_
          refine ww_gen (fun h16 hE16 => ?_)
          have X0_h16 : h16 (D 0) = some (.inr (3, [.int ((M.1, va_up M.2.1 4 (upd (M.2.1 4) k (nI a)), M.2.2).1 0), .ref (D 1), .int ((M.1, va_up M.2.1 4 (upd (M.2.1 4) k (nI a)), M.2.2).1 1), .int ((M.1, va_up M.2.1 4 (upd (M.2.1 4) k (nI a)), M.2.2).1 2), .ref (D 2), .ref (D 3), .ref (D 4), .ref (D 5), .int ((M.1, va_up M.2.1 4 (upd (M.2.1 4) k (nI a)), M.2.2).1 3), .int ((M.1, va_up M.2.1 4 (upd (M.2.1 4) k (nI a)), M.2.2).1 4), .int ((M.1, va_up M.2.1 4 (upd (M.2.1 4) k (nI a)), M.2.2).1 5), .int ((M.1, va_up M.2.1 4 (upd (M.2.1 4) k (nI a)), M.2.2).1 6), .int ((M.1, va_up M.2.1 4 (upd (M.2.1 4) k (nI a)), M.2.2).1 7), .ref (D 6), .ref (D 7), .ref (D 8), .ref (D 9), .ref (D 10), .ref (D 11), .ref (D 12), .ref (D 13), .int ((M.1, va_up M.2.1 4 (upd (M.2.1 4) k (nI a)), M.2.2).1 8), .int ((M.1, va_up M.2.1 4 (upd (M.2.1 4) k (nI a)), M.2.2).1 9), .int ((M.1, va_up M.2.1 4 (upd (M.2.1 4) k (nI a)), M.2.2).1 10)])) := by rw [hE16, up_n (fun q => by cases hX1.2 0 5 (by decide) (by decide) q)]; exact X0_h15
          have Y2_h16 : h16 (D 2) = some (.inl (gA (xG X) 0, (402, .inl (upd ((M.1, va_up M.2.1 4 (upd (M.2.1 4) k (nI a)), M.2.2).2.1 2) k (nI 32))))) := by rw [hE16, up_n (fun q => by cases hX1.2 2 5 (by decide) (by decide) q)]; exact Y2_h15
          have Y3_h16 : h16 (D 3) = some (.inl (gA (xG X) 0, (402, .inl (upd ((M.1, va_up M.2.1 4 (upd (M.2.1 4) k (nI a)), M.2.2).2.1 3) k (nI (nmV t a (min (tkE t a - a) 7))))))) := by rw [hE16, up_n (fun q => by cases hX1.2 3 5 (by decide) (by decide) q)]; exact Y3_h15
          have Y5_h16 : h16 (D 5) = some (.inl (gA (xG X) 0, (402, .inl (upd ((M.1, va_up M.2.1 4 (upd (M.2.1 4) k (nI a)), M.2.2).2.1 5) k (nI ((tkE t a) - a)))))) := by rw [hE16]; exact up_s
          refine ww_iload C dX4_read_249 1 rfl ?_
          exact ww_iret C dX4_read_251 ⟨rfl, rfl, (M.1, va_up (va_up (va_up (va_up M.2.1 4 (upd (M.2.1 4) k (nI a))) 3 (upd ((M.1, va_up M.2.1 4 (upd (M.2.1 4) k (nI a)), M.2.2).2.1 3) k (nI (nmV t a (min (tkE t a - a) 7))))) 2 (upd ((M.1, va_up M.2.1 4 (upd (M.2.1 4) k (nI a)), M.2.2).2.1 2) k (nI 32))) 5 (upd ((M.1, va_up M.2.1 4 (upd (M.2.1 4) k (nI a)), M.2.2).2.1 5) k (nI (tkE t a - a))), M.2.2), (((s1.rk (by omega) (fun j hj => by exact upd_ne hj)).rk (by omega) (fun j hj => by exact upd_ne hj)).rk (by omega) (fun j hj => by exact upd_ne hj)), ⟨by rw [hkv]; show upd _ k (nI 32) k = _; rw [upd_eq], f4, by show upd _ k (nI (tkE t a - a)) k = _; rw [upd_eq], (fun q => by omega)⟩, by rw [hE16, hE15, hE12]; exact (Mx.r (Mx.r (Mx.r hX1 (i := 3) (by decide)) (i := 2) (by decide)) (i := 5) (by decide)), by rw [hE16, hE15, hE12]; exact (FrD.w (FrD.w (FrD.w fr1 (i := 3) (by decide)) (i := 2) (by decide)) (i := 5) (by decide))⟩
      · intro j hi ih
        show WW X (Rv (fun v z' h' => v = .int (nI (tkE t a)) ∧ z' = z ∧ ∃ M', SF k M M' ∧ (M'.2.1 2 k = nI (tkK t a) ∧ M'.2.1 4 k = nI a ∧ M'.2.1 5 k = nI (tkE t a - a) ∧ (tkK t a = 31 → M'.2.1 3 k = nI (tkN t a))) ∧ Mx (xG X) h' D M' ∧ FrD h h' D)) z h1 0 0 87 [(5, .int (nI (nmV t a (min (1 + j) 7)))), (4, .int (nI (a + 1 + j))), (3, .int (byI t a)), (0, .ref (D 0)), (1, .int (nI a)), (2, .int (nI k))] []
        have hb : dgP t (a + 1 + j) = true := run_all (n := t.2) (e := a + 1) (by omega) (by omega)
        have hbl := dgP_lt hb
        unfold dgP at hb
        have hg := hdg (1 + j) (by omega)
        have hBA : byI t (a + 1 + j) = nI (t.1 (a + (1 + j))) := by unfold byI; rw [if_pos hbl, show a + 1 + j = a + (1 + j) by omega]
        have hvb := nmV_lt (t := t) (a := a) (fun _ => Or.inr trivial) (min (1 + j) 7) (fun i hi => by have := hdg i (by omega); omega)
        have hvb2 : nmV t a (min (1 + j) 7) < 10 ^ 7 := Nat.lt_of_lt_of_le hvb (Nat.pow_le_pow_right (by decide) (by omega))
        refine ww_aload_n C dX4_read_87 rfl 3 rfl rfl ?_
        refine ww_iload C dX4_read_88 1 rfl ?_
        refine cv_X4_96_r (As := [.int (nI (a + 1 + j))]) (rest := []) C dX4_read_90 (ct_X4_byteAt (Cx.fl C) (Cx.ok C) hX1 hv1 ht (a := a + 1 + j) (by omega)) (rc_X4 (Cx.ok C) (Or.inl X0)) rfl rfl (Nat.le_of_ble_eq_true rfl) (by decide) (Nat.zero_le _) (Nat.zero_le _) ?_
        refine cs_X4_100_r (As := [.int (byI t (a + 1 + j))]) (rest := []) C dX4_read_93 (ct_X4_isDigit (Cx.fl C) (Cx.ok C) (a := a + 1 + j) ht) rfl rfl (Nat.le_of_ble_eq_true rfl) (by decide) (Nat.zero_le _) (Nat.zero_le _) ?_
        refine ww_if_eq_f (tgt := 136) C dX4_read_96 (by decide) (fun q => by rw [hb] at q; cases q) ?_
        refine ww_iload C dX4_read_99 1 rfl ?_
        refine ww_iload_n C dX4_read_101 rfl 4 rfl ?_
        refine ww_isubn C dX4_read_102 (by omega) ?_
        refine ww_bipush C dX4_read_103 cB_7 ?_
        refine ww_icmp_ge_n (tgt := 126) C dX4_read_105 (by decide) (by omega) (by decide) (fun c_105 => ?_) (fun c_105 => ?_)
        · skip
          refine ww_iload C dX4_read_126 0 rfl ?_
          refine ww_istore (lv' := [(5, .int (nI (nmV t a (min (1 + j) 7)))), (4, .int (nI (a + 1 + j))), (3, .int (byI t a)), (0, .ref (D 0)), (1, .int (nI a)), (2, .int (nI k))]) C dX4_read_128 (by decide) rfl ?_
          refine ww_iinc (lv' := [(4, .int (nI (a + 1 + j + 1))), (5, .int (nI (nmV t a (min (1 + j) 7)))), (3, .int (byI t a)), (0, .ref (D 0)), (1, .int (nI a)), (2, .int (nI k))]) C dX4_read_130 1 rfl (inc_n _) (by decide) rfl ?_
          refine ww_goto (tgt := 87) C dX4_read_133 (by decide) ?_
          refine ww_sub [1, 0, 2, 3, 4, 5] rfl ?_
          exact ww_lv (lv' := [(5, .int (nI (nmV t a (min (1 + (j + 1)) 7)))), (4, .int (nI (a + 1 + (j + 1)))), (3, .int (byI t a)), (0, .ref (D 0)), (1, .int (nI a)), (2, .int (nI k))]) (by rw [show min (1 + (j + 1)) 7 = min (1 + j) 7 by omega]; rfl) ih
        · skip
          refine ww_bipush C dX4_read_108 cB_10 ?_
          refine ww_iload C dX4_read_110 0 rfl ?_
          refine ww_imuln C dX4_read_112 ?_
          refine ww_aload_n C dX4_read_113 rfl 3 rfl rfl ?_
          refine ww_iload C dX4_read_114 1 rfl ?_
          refine cv_X4_96_r (As := [.int (nI (a + 1 + j))]) (rest := [.int (nI (10 * (nmV t a (min (1 + j) 7))))]) C dX4_read_116 (ct_X4_byteAt (Cx.fl C) (Cx.ok C) hX1 hv1 ht (a := a + 1 + j) (by omega)) (rc_X4 (Cx.ok C) (Or.inl X0)) rfl rfl (Nat.le_of_ble_eq_true rfl) (by decide) (Nat.zero_le _) (Nat.zero_le _) ?_
          refine ww_st (st' := [.int (nI (t.1 (a + (1 + j)))), .int (nI (10 * (nmV t a (min (1 + j) 7))))]) (by rw [hBA]) ?_
          refine ww_iaddn C dX4_read_119 ?_
          refine ww_bipush C dX4_read_120 cB_48 ?_
          refine ww_isubn C dX4_read_122 (by omega) ?_
          refine ww_goto (tgt := 128) C dX4_read_123 (by decide) ?_
          refine ww_istore (lv' := [(5, .int (nI (((10 * (nmV t a (min (1 + j) 7))) + (t.1 (a + (1 + j)))) - 48))), (4, .int (nI (a + 1 + j))), (3, .int (byI t a)), (0, .ref (D 0)), (1, .int (nI a)), (2, .int (nI k))]) C dX4_read_128 (by decide) rfl ?_
          refine ww_iinc (lv' := [(4, .int (nI (a + 1 + j + 1))), (5, .int (nI (((10 * (nmV t a (min (1 + j) 7))) + (t.1 (a + (1 + j)))) - 48))), (3, .int (byI t a)), (0, .ref (D 0)), (1, .int (nI a)), (2, .int (nI k))]) C dX4_read_130 1 rfl (inc_n _) (by decide) rfl ?_
          refine ww_goto (tgt := 87) C dX4_read_133 (by decide) ?_
          refine ww_sub [1, 0, 2, 3, 4, 5] rfl ?_
          exact ww_lv (lv' := [(5, .int (nI (nmV t a (min (1 + (j + 1)) 7)))), (4, .int (nI (a + 1 + (j + 1)))), (3, .int (byI t a)), (0, .ref (D 0)), (1, .int (nI a)), (2, .int (nI k))]) (by rw [show min (1 + (j + 1)) 7 = (1 + j) + 1 by omega, show min (1 + j) 7 = 1 + j by omega, show nmV t a (1 + j + 1) = 10 * nmV t a (1 + j) + (t.1 (a + (1 + j)) - 48) from rfl, show 10 * nmV t a (1 + j) + t.1 (a + (1 + j)) - 48 = 10 * nmV t a (1 + j) + (t.1 (a + (1 + j)) - 48) by omega]; rfl) ih
  · skip
    have he : tkE t a = run (wdP t) t.2 (a + 1) := by unfold tkE; rw [c_23]; rfl
    have r1 := run_ge (p := wdP t) (n := t.2) (e := a + 1)
    have hkk : tkK t a = kwV t a (tkE t a - a) := by unfold tkK kwV; rw [c_23]; rfl
    refine ww_lv (lv' := [(4, .int (nI (a + 1 + 0))), (3, .int (byI t a)), (0, .ref (D 0)), (1, .int (nI a)), (2, .int (nI k))]) (by rfl) ?_
    refine loop_up (N := (run (wdP t) t.2 (a + 1) - (a + 1))) (M := fun j => WW X (Rv (fun v z' h' => v = .int (nI (tkE t a)) ∧ z' = z ∧ ∃ M', SF k M M' ∧ (M'.2.1 2 k = nI (tkK t a) ∧ M'.2.1 4 k = nI a ∧ M'.2.1 5 k = nI (tkE t a - a) ∧ (tkK t a = 31 → M'.2.1 3 k = nI (tkN t a))) ∧ Mx (xG X) h' D M' ∧ FrD h h' D)) z h1 0 0 26 [(4, .int (nI (a + 1 + j))), (3, .int (byI t a)), (0, .ref (D 0)), (1, .int (nI a)), (2, .int (nI k))] []) ?_ ?_ 0 (Nat.zero_le _)
    · show WW X (Rv (fun v z' h' => v = .int (nI (tkE t a)) ∧ z' = z ∧ ∃ M', SF k M M' ∧ (M'.2.1 2 k = nI (tkK t a) ∧ M'.2.1 4 k = nI a ∧ M'.2.1 5 k = nI (tkE t a - a) ∧ (tkK t a = 31 → M'.2.1 3 k = nI (tkN t a))) ∧ Mx (xG X) h' D M' ∧ FrD h h' D)) z h1 0 0 26 [(4, .int (nI (a + 1 + (run (wdP t) t.2 (a + 1) - (a + 1))))), (3, .int (byI t a)), (0, .ref (D 0)), (1, .int (nI a)), (2, .int (nI k))] []
      have hz9 : a + 1 + (run (wdP t) t.2 (a + 1) - (a + 1)) = tkE t a := by omega
      refine ww_lv (lv' := [(4, .int (nI (tkE t a))), (3, .int (byI t a)), (0, .ref (D 0)), (1, .int (nI a)), (2, .int (nI k))]) (by rw [hz9]) ?_
      have hb := run_end (p := wdP t) (n := t.2) (e := a + 1) (fun j hj => wdP_lt hj)
      rw [← he] at hb; unfold wdP at hb; rw [Bool.or_eq_false_iff] at hb
      have X0 : h1 (D 0) = some (cMd (M.1, va_up M.2.1 4 (upd (M.2.1 4) k (nI a)), M.2.2).1 D) := hX1.m
      have Y2 : h1 (D 2) = some (cI (xG X) 402 ((M.1, va_up M.2.1 4 (upd (M.2.1 4) k (nI a)), M.2.2).2.1 2)) := hX1.1 2 (by decide)
      have Y3 : h1 (D 3) = some (cI (xG X) 402 ((M.1, va_up M.2.1 4 (upd (M.2.1 4) k (nI a)), M.2.2).2.1 3)) := hX1.1 3 (by decide)
      have Y5 : h1 (D 5) = some (cI (xG X) 402 ((M.1, va_up M.2.1 4 (upd (M.2.1 4) k (nI a)), M.2.2).2.1 5)) := hX1.1 5 (by decide)
      refine ww_aload_n C dX4_read_26 rfl 2 rfl rfl ?_
      refine ww_iload C dX4_read_27 0 rfl ?_
      refine cv_X4_96_r (As := [.int (nI (tkE t a))]) (rest := []) C dX4_read_29 (ct_X4_byteAt (Cx.fl C) (Cx.ok C) hX1 hv1 ht (a := tkE t a) (by omega)) (rc_X4 (Cx.ok C) (Or.inl X0)) rfl rfl (Nat.le_of_ble_eq_true rfl) (by decide) (Nat.zero_le _) (Nat.zero_le _) ?_
      refine cs_X4_92_r (As := [.int (byI t (tkE t a))]) (rest := []) C dX4_read_32 (ct_X4_isLetter (Cx.fl C) (Cx.ok C) (a := tkE t a) ht) rfl rfl (Nat.le_of_ble_eq_true rfl) (by decide) (Nat.zero_le _) (Nat.zero_le _) ?_
      refine ww_if_ne_f (tgt := 50) C dX4_read_35 (by decide) (by rw [hb.1]; rfl) ?_
      refine ww_aload_n C dX4_read_38 rfl 2 rfl rfl ?_
      refine ww_iload C dX4_read_39 0 rfl ?_
      refine cv_X4_96_r (As := [.int (nI (tkE t a))]) (rest := []) C dX4_read_41 (ct_X4_byteAt (Cx.fl C) (Cx.ok C) hX1 hv1 ht (a := tkE t a) (by omega)) (rc_X4 (Cx.ok C) (Or.inl X0)) rfl rfl (Nat.le_of_ble_eq_true rfl) (by decide) (Nat.zero_le _) (Nat.zero_le _) ?_
      refine cs_X4_100_r (As := [.int (byI t (tkE t a))]) (rest := []) C dX4_read_44 (ct_X4_isDigit (Cx.fl C) (Cx.ok C) (a := tkE t a) ht) rfl rfl (Nat.le_of_ble_eq_true rfl) (by decide) (Nat.zero_le _) (Nat.zero_le _) ?_
      refine ww_if_eq_t (tgt := 56) C dX4_read_47 (by decide) (by rw [hb.2]; rfl) ?_
      refine ww_aload_n C dX4_read_56 rfl 2 rfl rfl ?_
      refine gf_X4_17_X4 C dX4_read_57 (Or.inl X0) rfl ?_
      refine ww_iload_n C dX4_read_60 rfl 4 rfl ?_
      refine ww_aload_n C dX4_read_61 rfl 2 rfl rfl ?_
      refine ww_iload_n C dX4_read_62 rfl 3 rfl ?_
      refine ww_iload C dX4_read_63 0 rfl ?_
      refine ww_iload_n C dX4_read_65 rfl 3 rfl ?_
      refine ww_isubn C dX4_read_66 (by omega) ?_
      refine cv_X4_103_r (As := [.int (nI a), .int (nI ((tkE t a) - a))]) (rest := [.int (nI k), .ref (D 2)]) C dX4_read_67 (ct_X4_keyword (Cx.fl C) (Cx.ok C) hz hX1 hv1 ht (a := a) (m := tkE t a - a) (by omega)) (rc_X4 (Cx.ok C) (Or.inl X0)) rfl rfl (Nat.le_of_ble_eq_true rfl) (by decide) (Nat.zero_le _) (Nat.zero_le _) ?_
      refine ww_st (st' := [.int (nI (tkK t a)), .int (nI k), .ref (D 2)]) (by rw [hkk]) ?_
      refine ww_iast C dX4_read_70 Y2 (by omega) (by decide) ?_
      refine ww_gen (fun h2 hE2 => ?_)
      have X0_h2 : h2 (D 0) = some (.inr (3, [.int ((M.1, va_up M.2.1 4 (upd (M.2.1 4) k (nI a)), M.2.2).1 0), .ref (D 1), .int ((M.1, va_up M.2.1 4 (upd (M.2.1 4) k (nI a)), M.2.2).1 1), .int ((M.1, va_up M.2.1 4 (upd (M.2.1 4) k (nI a)), M.2.2).1 2), .ref (D 2), .ref (D 3), .ref (D 4), .ref (D 5), .int ((M.1, va_up M.2.1 4 (upd (M.2.1 4) k (nI a)), M.2.2).1 3), .int ((M.1, va_up M.2.1 4 (upd (M.2.1 4) k (nI a)), M.2.2).1 4), .int ((M.1, va_up M.2.1 4 (upd (M.2.1 4) k (nI a)), M.2.2).1 5), .int ((M.1, va_up M.2.1 4 (upd (M.2.1 4) k (nI a)), M.2.2).1 6), .int ((M.1, va_up M.2.1 4 (upd (M.2.1 4) k (nI a)), M.2.2).1 7), .ref (D 6), .ref (D 7), .ref (D 8), .ref (D 9), .ref (D 10), .ref (D 11), .ref (D 12), .ref (D 13), .int ((M.1, va_up M.2.1 4 (upd (M.2.1 4) k (nI a)), M.2.2).1 8), .int ((M.1, va_up M.2.1 4 (upd (M.2.1 4) k (nI a)), M.2.2).1 9), .int ((M.1, va_up M.2.1 4 (upd (M.2.1 4) k (nI a)), M.2.2).1 10)])) := by rw [hE2, up_n (fun q => by cases hX1.2 0 2 (by decide) (by decide) q)]; exact X0
      have Y3_h2 : h2 (D 3) = some (.inl (gA (xG X) 0, (402, .inl ((M.1, va_up M.2.1 4 (upd (M.2.1 4) k (nI a)), M.2.2).2.1 3)))) := by rw [hE2, up_n (Ne.symm (fun q => by cases hX1.2 2 3 (by decide) (by decide) q))]; exact Y3
      have Y5_h2 : h2 (D 5) = some (.inl (gA (xG X) 0, (402, .inl ((M.1, va_up M.2.1 4 (upd (M.2.1 4) k (nI a)), M.2.2).2.1 5)))) := by rw [hE2, up_n (Ne.symm (fun q => by cases hX1.2 2 5 (by decide) (by decide) q))]; exact Y5
      have Y2_h2 : h2 (D 2) = some (.inl (gA (xG X) 0, (402, .inl (upd ((M.1, va_up M.2.1 4 (upd (M.2.1 4) k (nI a)), M.2.2).2.1 2) k (nI (tkK t a)))))) := by rw [hE2]; exact up_s
      refine ww_goto (tgt := 239) C dX4_read_71 (by decide) ?_
      have hne : tkK t a ≠ 31 := by { unfold tkK; rw [c_23]; simp only [if_true]; intro q; cases hq : kwN t a (tkE t a - a) with | some z => (rw [hq] at q; simp only at q; have := (ff_lt _ _ _ hq).1; omega) | none => (rw [hq] at q; simp only at q; split at q <;> omega) }
      refine ww_aload_n C dX4_read_239 rfl 2 rfl rfl ?_
      refine gf_X4_26_X4 C dX4_read_240 (Or.inl X0_h2) rfl ?_
      refine ww_iload_n C dX4_read_243 rfl 4 rfl ?_
      refine ww_iload C dX4_read_244 0 rfl ?_
      refine ww_iload_n C dX4_read_246 rfl 3 rfl ?_
      refine ww_isubn C dX4_read_247 (by omega) ?_
      refine ww_iast C dX4_read_248 Y5_h2 (by omega) (by decide) ?_
      refine ww_gen (fun h3 hE3 => ?_)
      have X0_h3 : h3 (D 0) = some (.inr (3, [.int ((M.1, va_up M.2.1 4 (upd (M.2.1 4) k (nI a)), M.2.2).1 0), .ref (D 1), .int ((M.1, va_up M.2.1 4 (upd (M.2.1 4) k (nI a)), M.2.2).1 1), .int ((M.1, va_up M.2.1 4 (upd (M.2.1 4) k (nI a)), M.2.2).1 2), .ref (D 2), .ref (D 3), .ref (D 4), .ref (D 5), .int ((M.1, va_up M.2.1 4 (upd (M.2.1 4) k (nI a)), M.2.2).1 3), .int ((M.1, va_up M.2.1 4 (upd (M.2.1 4) k (nI a)), M.2.2).1 4), .int ((M.1, va_up M.2.1 4 (upd (M.2.1 4) k (nI a)), M.2.2).1 5), .int ((M.1, va_up M.2.1 4 (upd (M.2.1 4) k (nI a)), M.2.2).1 6), .int ((M.1, va_up M.2.1 4 (upd (M.2.1 4) k (nI a)), M.2.2).1 7), .ref (D 6), .ref (D 7), .ref (D 8), .ref (D 9), .ref (D 10), .ref (D 11), .ref (D 12), .ref (D 13), .int ((M.1, va_up M.2.1 4 (upd (M.2.1 4) k (nI a)), M.2.2).1 8), .int ((M.1, va_up M.2.1 4 (upd (M.2.1 4) k (nI a)), M.2.2).1 9), .int ((M.1, va_up M.2.1 4 (upd (M.2.1 4) k (nI a)), M.2.2).1 10)])) := by rw [hE3, up_n (fun q => by cases hX1.2 0 5 (by decide) (by decide) q)]; exact X0_h2
      have Y2_h3 : h3 (D 2) = some (.inl (gA (xG X) 0, (402, .inl (upd ((M.1, va_up M.2.1 4 (upd (M.2.1 4) k (nI a)), M.2.2).2.1 2) k (nI (tkK t a)))))) := by rw [hE3, up_n (fun q => by cases hX1.2 2 5 (by decide) (by decide) q)]; exact Y2_h2
      have Y3_h3 : h3 (D 3) = some (.inl (gA (xG X) 0, (402, .inl ((M.1, va_up M.2.1 4 (upd (M.2.1 4) k (nI a)), M.2.2).2.1 3)))) := by rw [hE3, up_n (fun q => by cases hX1.2 3 5 (by decide) (by decide) q)]; exact Y3_h2
      have Y5_h3 : h3 (D 5) = some (.inl (gA (xG X) 0, (402, .inl (upd ((M.1, va_up M.2.1 4 (upd (M.2.1 4) k (nI a)), M.2.2).2.1 5) k (nI ((tkE t a) - a)))))) := by rw [hE3]; exact up_s
      refine ww_iload C dX4_read_249 0 rfl ?_
      exact ww_iret C dX4_read_251 ⟨rfl, rfl, (M.1, va_up (va_up (va_up M.2.1 4 (upd (M.2.1 4) k (nI a))) 2 (upd ((M.1, va_up M.2.1 4 (upd (M.2.1 4) k (nI a)), M.2.2).2.1 2) k (nI (tkK t a)))) 5 (upd ((M.1, va_up M.2.1 4 (upd (M.2.1 4) k (nI a)), M.2.2).2.1 5) k (nI (tkE t a - a))), M.2.2), ((s1.rk (by omega) (fun j hj => by exact upd_ne hj)).rk (by omega) (fun j hj => by exact upd_ne hj)), ⟨by show upd _ k (nI (tkK t a)) k = _; rw [upd_eq], f4, by show upd _ k (nI (tkE t a - a)) k = _; rw [upd_eq], (fun q => absurd q hne)⟩, by rw [hE3, hE2]; exact (Mx.r (Mx.r hX1 (i := 2) (by decide)) (i := 5) (by decide)), by rw [hE3, hE2]; exact (FrD.w (FrD.w fr1 (i := 2) (by decide)) (i := 5) (by decide))⟩
    · intro j hi ih
      show WW X (Rv (fun v z' h' => v = .int (nI (tkE t a)) ∧ z' = z ∧ ∃ M', SF k M M' ∧ (M'.2.1 2 k = nI (tkK t a) ∧ M'.2.1 4 k = nI a ∧ M'.2.1 5 k = nI (tkE t a - a) ∧ (tkK t a = 31 → M'.2.1 3 k = nI (tkN t a))) ∧ Mx (xG X) h' D M' ∧ FrD h h' D)) z h1 0 0 26 [(4, .int (nI (a + 1 + j))), (3, .int (byI t a)), (0, .ref (D 0)), (1, .int (nI a)), (2, .int (nI k))] []
      have hb : wdP t (a + 1 + j) = true := run_all (n := t.2) (e := a + 1) (by omega) (by omega)
      have hbl := wdP_lt hb
      unfold wdP at hb
      refine ww_aload_n C dX4_read_26 rfl 2 rfl rfl ?_
      refine ww_iload C dX4_read_27 0 rfl ?_
      refine cv_X4_96_r (As := [.int (nI (a + 1 + j))]) (rest := []) C dX4_read_29 (ct_X4_byteAt (Cx.fl C) (Cx.ok C) hX1 hv1 ht (a := a + 1 + j) (by omega)) (rc_X4 (Cx.ok C) (Or.inl X0)) rfl rfl (Nat.le_of_ble_eq_true rfl) (by decide) (Nat.zero_le _) (Nat.zero_le _) ?_
      refine cs_X4_92_r (As := [.int (byI t (a + 1 + j))]) (rest := []) C dX4_read_32 (ct_X4_isLetter (Cx.fl C) (Cx.ok C) (a := a + 1 + j) ht) rfl rfl (Nat.le_of_ble_eq_true rfl) (by decide) (Nat.zero_le _) (Nat.zero_le _) ?_
      refine ww_if_ne_b (tgt := 50) C dX4_read_35 (by decide) (fun c_35 => ?_) (fun c_35 => ?_)
      · skip
        refine ww_iinc (lv' := [(4, .int (nI (a + 1 + j + 1))), (3, .int (byI t a)), (0, .ref (D 0)), (1, .int (nI a)), (2, .int (nI k))]) C dX4_read_50 0 rfl (inc_n _) (by decide) rfl ?_
        refine ww_goto (tgt := 26) C dX4_read_53 (by decide) ?_
        exact ww_lv (lv' := [(4, .int (nI (a + 1 + (j + 1)))), (3, .int (byI t a)), (0, .ref (D 0)), (1, .int (nI a)), (2, .int (nI k))]) (by rfl) ih
      · skip
        refine ww_aload_n C dX4_read_38 rfl 2 rfl rfl ?_
        refine ww_iload C dX4_read_39 0 rfl ?_
        refine cv_X4_96_r (As := [.int (nI (a + 1 + j))]) (rest := []) C dX4_read_41 (ct_X4_byteAt (Cx.fl C) (Cx.ok C) hX1 hv1 ht (a := a + 1 + j) (by omega)) (rc_X4 (Cx.ok C) (Or.inl X0)) rfl rfl (Nat.le_of_ble_eq_true rfl) (by decide) (Nat.zero_le _) (Nat.zero_le _) ?_
        refine cs_X4_100_r (As := [.int (byI t (a + 1 + j))]) (rest := []) C dX4_read_44 (ct_X4_isDigit (Cx.fl C) (Cx.ok C) (a := a + 1 + j) ht) rfl rfl (Nat.le_of_ble_eq_true rfl) (by decide) (Nat.zero_le _) (Nat.zero_le _) ?_
        refine ww_if_eq_f (tgt := 56) C dX4_read_47 (by decide) (fun q => by rw [c_35, Bool.false_or] at hb; rw [hb] at q; cases q) ?_
        refine ww_iinc (lv' := [(4, .int (nI (a + 1 + j + 1))), (3, .int (byI t a)), (0, .ref (D 0)), (1, .int (nI a)), (2, .int (nI k))]) C dX4_read_50 0 rfl (inc_n _) (by decide) rfl ?_
        refine ww_goto (tgt := 26) C dX4_read_53 (by decide) ?_
        exact ww_lv (lv' := [(4, .int (nI (a + 1 + (j + 1)))), (3, .int (byI t a)), (0, .ref (D 0)), (1, .int (nI a)), (2, .int (nI k))]) (by rfl) ih
end MO25
