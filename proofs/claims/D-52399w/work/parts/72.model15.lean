section MO15
set_option maxRecDepth 100000
set_option maxHeartbeats 2000000 in
theorem ct_X4_carryOut {l : Launch} {Γ : Gm} (hl : l.flags = flags0) (hΓ : GOK Γ) {z : ZR} {h : AH} {B : GB} {M : MS} {D : Nat → Nat} {T : TD} {k : Nat} (hz : zle (cst Γ) z) (hX : Mx Γ h D M) (hb : MBd M 30 40 B) (hC : BC B) (hT : TdP M T) (hS : TdS B T) (hk : k < T.1.1) : Ct l Γ yX4_carryOut cX4_carryOut 4 (some .boolean) 9 0 0 [.ref (D 0), .ref (D 10), .int (nI k)] z h (Rv (fun v z' h' => v = .int (bI (coB B T (coV B (M.1 31) T (M.2.1 9) k) k).1) ∧ z' = z ∧ ∃ M', Mst 30 40 M M' ∧ MBd M' 30 40 (coB B T (coV B (M.1 31) T (M.2.1 9) k) k).2 ∧ Mx Γ h' D M' ∧ FrD h h' D)) := by
  refine Ct.of hl hΓ (by decide +kernel) (Nat.le_of_ble_eq_true rfl) (fun X e1 e2 C => ?_)
  subst e1; subst e2
  have C : Cx X cX4_carryOut 4 "RingDominoModel" "carryOut" (some .boolean) [] 9 := C
  have hB := hC.1
  obtain ⟨⟨⟨c1, c2⟩, ⟨r1, r2⟩⟩, t1, bl1, bu1, bp1, bn1⟩ := id hB
  obtain ⟨s1, s2, s3⟩ := id hS
  obtain ⟨k1, k2, k3, k4, k5, k6, k7⟩ := s3 k hk
  obtain ⟨e1, e2, e3, e4, e5⟩ := id hT
  show WW X (Rv (fun v z' h' => v = .int (bI (coB B T (coV B (M.1 31) T (M.2.1 9) k) k).1) ∧ z' = z ∧ ∃ M', Mst 30 40 M M' ∧ MBd M' 30 40 (coB B T (coV B (M.1 31) T (M.2.1 9) k) k).2 ∧ Mx (xG X) h' D M' ∧ FrD h h' D)) z h 0 0 0 [(0, .ref (D 0)), (1, .ref (D 10)), (2, .int (nI k))] []
  refine ww_h (h' := up h (D 9) (cI (xG X) 800 (M.2.1 9))) (up_id (hX.1 9 (by decide))).symm ?_
  have hX1 : Mx (xG X) (up h (D 9) (cI (xG X) 800 (M.2.1 9))) D (M.1, va_up M.2.1 9 (M.2.1 9), M.2.2) := hX.r (i := 9) (by decide)
  have hb1 : MBd (M.1, va_up M.2.1 9 (M.2.1 9), M.2.2) 30 40 B := hb.v (by decide)
  have X0 := hX1.m
  have X7 : (up h (D 9) (cI (xG X) 800 (M.2.1 9))) (D 7) = some (cTd (M.1 20) (M.1 21) (M.1 22) (M.1 23) (M.1 24) (fun i => D (20 + i))) := hX1.1 7 (by decide)
  have X9 : (up h (D 9) (cI (xG X) 800 (M.2.1 9))) (D 9) = some (cI (xG X) 800 (M.2.1 9)) := up_s
  have Y21 : (up h (D 9) (cI (xG X) 800 (M.2.1 9))) (D 21) = some (cI (xG X) 17 (M.2.1 21)) := hX1.1 21 (by decide)
  have Y22 : (up h (D 9) (cI (xG X) 800 (M.2.1 9))) (D 22) = some (cI (xG X) 17 (M.2.1 22)) := hX1.1 22 (by decide)
  have Y23 : (up h (D 9) (cI (xG X) 800 (M.2.1 9))) (D 23) = some (cI (xG X) 17 (M.2.1 23)) := hX1.1 23 (by decide)
  have Y24 : (up h (D 9) (cI (xG X) 800 (M.2.1 9))) (D 24) = some (cI (xG X) 17 (M.2.1 24)) := hX1.1 24 (by decide)
  have Y25 : (up h (D 9) (cI (xG X) 800 (M.2.1 9))) (D 25) = some (cI (xG X) 51 (M.2.1 25)) := hX1.1 25 (by decide)
  have Y26 : (up h (D 9) (cI (xG X) 800 (M.2.1 9))) (D 26) = some (cI (xG X) 17 (M.2.1 26)) := hX1.1 26 (by decide)
  have Y27 : (up h (D 9) (cI (xG X) 800 (M.2.1 9))) (D 27) = some (cI (xG X) 800 (M.2.1 27)) := hX1.1 27 (by decide)
  have Y28 : (up h (D 9) (cI (xG X) 800 (M.2.1 9))) (D 28) = some (cI (xG X) 800 (M.2.1 28)) := hX1.1 28 (by decide)
  have Y29 : (up h (D 9) (cI (xG X) 800 (M.2.1 9))) (D 29) = some (cI (xG X) 800 (M.2.1 29)) := hX1.1 29 (by decide)
  have Xs : (up h (D 9) (cI (xG X) 800 (M.2.1 9))) (D 10) = some (cSt (fun i => D (40 + i)) (M.1 30) (M.1 31)) := hX1.1 10 (by decide)
  have Xc : (up h (D 9) (cI (xG X) 800 (M.2.1 9))) (D 41) = some (cI (xG X) 16 (fun k => oI (Bp B k))) := by have := hX1.1 41 (by decide); have e9 := hb1.2.2.2.2.2.2.1; rw [this]; show some (cI (xG X) 16 _) = _; rw [e9]
  refine ww_aload_n C dX4_carryOut_0 rfl 0 rfl rfl ?_
  refine gf_X4_35_X4 C dX4_carryOut_1 (Or.inl X0) rfl ?_
  refine gf_X4_223_X5 C dX4_carryOut_4 (Or.inl X7) rfl ?_
  refine ww_iload_n C dX4_carryOut_7 rfl 2 rfl ?_
  refine ww_iald C dX4_carryOut_8 (Or.inl Y23) (by omega) (by decide) ?_
  refine ww_st (st' := [.int (nI (T.2.1 23 k + 0))]) (by rw [e2 23 k (by decide) hk]; try rfl) ?_
  refine ww_istore_n (lv' := [(3, .int (nI (T.2.1 23 k + 0))), (0, .ref (D 0)), (1, .ref (D 10)), (2, .int (nI k))]) C dX4_carryOut_9 rfl (by decide) rfl ?_
  refine loop_up (N := (T.2.1 24 k - T.2.1 23 k)) (M := fun j => WW X (Rv (fun v z' h' => v = .int (bI (coB B T (coV B (M.1 31) T (M.2.1 9) k) k).1) ∧ z' = z ∧ ∃ M', Mst 30 40 M M' ∧ MBd M' 30 40 (coB B T (coV B (M.1 31) T (M.2.1 9) k) k).2 ∧ Mx (xG X) h' D M' ∧ FrD h h' D)) z (up h (D 9) (cI (xG X) 800 (ndV B (M.1 31) T (M.2.1 9) (T.2.1 23 k) j))) 0 0 10 [(3, .int (nI (T.2.1 23 k + j))), (0, .ref (D 0)), (1, .ref (D 10)), (2, .int (nI k))] []) ?_ ?_ 0 (Nat.zero_le _) 
  · skip
    show WW X (Rv (fun v z' h' => v = .int (bI (coB B T (coV B (M.1 31) T (M.2.1 9) k) k).1) ∧ z' = z ∧ ∃ M', Mst 30 40 M M' ∧ MBd M' 30 40 (coB B T (coV B (M.1 31) T (M.2.1 9) k) k).2 ∧ Mx (xG X) h' D M' ∧ FrD h h' D)) z (up h (D 9) (cI (xG X) 800 (ndV B (M.1 31) T (M.2.1 9) (T.2.1 23 k) (T.2.1 24 k - T.2.1 23 k)))) 0 0 10 [(3, .int (nI (T.2.1 23 k + (T.2.1 24 k - T.2.1 23 k)))), (0, .ref (D 0)), (1, .ref (D 10)), (2, .int (nI k))] []
    have hX1 : Mx (xG X) (up h (D 9) (cI (xG X) 800 (ndV B (M.1 31) T (M.2.1 9) (T.2.1 23 k) (T.2.1 24 k - T.2.1 23 k)))) D (M.1, va_up M.2.1 9 (ndV B (M.1 31) T (M.2.1 9) (T.2.1 23 k) (T.2.1 24 k - T.2.1 23 k)), M.2.2) := hX.r (i := 9) (by decide)
    have hb1 : MBd (M.1, va_up M.2.1 9 (ndV B (M.1 31) T (M.2.1 9) (T.2.1 23 k) (T.2.1 24 k - T.2.1 23 k)), M.2.2) 30 40 B := hb.v (by decide)
    have X0 := hX1.m
    have X7 : (up h (D 9) (cI (xG X) 800 (ndV B (M.1 31) T (M.2.1 9) (T.2.1 23 k) (T.2.1 24 k - T.2.1 23 k)))) (D 7) = some (cTd (M.1 20) (M.1 21) (M.1 22) (M.1 23) (M.1 24) (fun i => D (20 + i))) := hX1.1 7 (by decide)
    have X9 : (up h (D 9) (cI (xG X) 800 (ndV B (M.1 31) T (M.2.1 9) (T.2.1 23 k) (T.2.1 24 k - T.2.1 23 k)))) (D 9) = some (cI (xG X) 800 (ndV B (M.1 31) T (M.2.1 9) (T.2.1 23 k) (T.2.1 24 k - T.2.1 23 k))) := up_s
    have Y21 : (up h (D 9) (cI (xG X) 800 (ndV B (M.1 31) T (M.2.1 9) (T.2.1 23 k) (T.2.1 24 k - T.2.1 23 k)))) (D 21) = some (cI (xG X) 17 (M.2.1 21)) := hX1.1 21 (by decide)
    have Y22 : (up h (D 9) (cI (xG X) 800 (ndV B (M.1 31) T (M.2.1 9) (T.2.1 23 k) (T.2.1 24 k - T.2.1 23 k)))) (D 22) = some (cI (xG X) 17 (M.2.1 22)) := hX1.1 22 (by decide)
    have Y23 : (up h (D 9) (cI (xG X) 800 (ndV B (M.1 31) T (M.2.1 9) (T.2.1 23 k) (T.2.1 24 k - T.2.1 23 k)))) (D 23) = some (cI (xG X) 17 (M.2.1 23)) := hX1.1 23 (by decide)
    have Y24 : (up h (D 9) (cI (xG X) 800 (ndV B (M.1 31) T (M.2.1 9) (T.2.1 23 k) (T.2.1 24 k - T.2.1 23 k)))) (D 24) = some (cI (xG X) 17 (M.2.1 24)) := hX1.1 24 (by decide)
    have Y25 : (up h (D 9) (cI (xG X) 800 (ndV B (M.1 31) T (M.2.1 9) (T.2.1 23 k) (T.2.1 24 k - T.2.1 23 k)))) (D 25) = some (cI (xG X) 51 (M.2.1 25)) := hX1.1 25 (by decide)
    have Y26 : (up h (D 9) (cI (xG X) 800 (ndV B (M.1 31) T (M.2.1 9) (T.2.1 23 k) (T.2.1 24 k - T.2.1 23 k)))) (D 26) = some (cI (xG X) 17 (M.2.1 26)) := hX1.1 26 (by decide)
    have Y27 : (up h (D 9) (cI (xG X) 800 (ndV B (M.1 31) T (M.2.1 9) (T.2.1 23 k) (T.2.1 24 k - T.2.1 23 k)))) (D 27) = some (cI (xG X) 800 (M.2.1 27)) := hX1.1 27 (by decide)
    have Y28 : (up h (D 9) (cI (xG X) 800 (ndV B (M.1 31) T (M.2.1 9) (T.2.1 23 k) (T.2.1 24 k - T.2.1 23 k)))) (D 28) = some (cI (xG X) 800 (M.2.1 28)) := hX1.1 28 (by decide)
    have Y29 : (up h (D 9) (cI (xG X) 800 (ndV B (M.1 31) T (M.2.1 9) (T.2.1 23 k) (T.2.1 24 k - T.2.1 23 k)))) (D 29) = some (cI (xG X) 800 (M.2.1 29)) := hX1.1 29 (by decide)
    have Xs : (up h (D 9) (cI (xG X) 800 (ndV B (M.1 31) T (M.2.1 9) (T.2.1 23 k) (T.2.1 24 k - T.2.1 23 k)))) (D 10) = some (cSt (fun i => D (40 + i)) (M.1 30) (M.1 31)) := hX1.1 10 (by decide)
    have Xc : (up h (D 9) (cI (xG X) 800 (ndV B (M.1 31) T (M.2.1 9) (T.2.1 23 k) (T.2.1 24 k - T.2.1 23 k)))) (D 41) = some (cI (xG X) 16 (fun k => oI (Bp B k))) := by have := hX1.1 41 (by decide); have e9 := hb1.2.2.2.2.2.2.1; rw [this]; show some (cI (xG X) 16 _) = _; rw [e9]
    have hle : T.2.1 23 k + (T.2.1 24 k - T.2.1 23 k) = T.2.1 24 k := by omega
    refine ww_iload_n C dX4_carryOut_10 rfl 0 rfl ?_
    refine ww_aload_n C dX4_carryOut_11 rfl 1 rfl rfl ?_
    refine gf_X4_35_X4 C dX4_carryOut_12 (Or.inl X0) rfl ?_
    refine gf_X4_237_X5 C dX4_carryOut_15 (Or.inl X7) rfl ?_
    refine ww_iload_n C dX4_carryOut_18 rfl 3 rfl ?_
    refine ww_iald C dX4_carryOut_19 (Or.inl Y24) (by omega) (by decide) ?_
    refine ww_st (st' := [.int (nI (T.2.1 24 k)), .int (nI (T.2.1 23 k + (T.2.1 24 k - T.2.1 23 k)))]) (by rw [e2 24 k (by decide) hk]; try rfl) ?_
    refine ww_icmp_ge_t (tgt := 67) C dX4_carryOut_20 (by decide) (nI_le (by omega) (by omega)) ?_
    have hcv : (ndV B (M.1 31) T (M.2.1 9) (T.2.1 23 k) (T.2.1 24 k - T.2.1 23 k)) = coV B (M.1 31) T (M.2.1 9) k := rfl
    refine ww_aload_n C dX4_carryOut_67 rfl 1 rfl rfl ?_
    refine gf_X4_35_X4 C dX4_carryOut_68 (Or.inl X0) rfl ?_
    refine gf_X4_235_X5 C dX4_carryOut_71 (Or.inl X7) rfl ?_
    refine ww_iload_n C dX4_carryOut_74 rfl 3 rfl ?_
    refine ww_iald C dX4_carryOut_75 (Or.inl Y26) (by omega) (by decide) ?_
    refine ww_st (st' := [.int (oI (T.2.2 k))]) (by rw [e4 k hk]; try rfl) ?_
    refine ww_iconst C dX4_carryOut_76 cI_m1 ?_
    refine ww_icmp_eq_o (tgt := 99) C dX4_carryOut_77 (by decide) (fun y q => Nat.lt_trans (k6 y q) (by decide)) (fun c_77 => ?_) (fun c_77 => ?_)
    · skip
      have hte : teB T (coV B (M.1 31) T (M.2.1 9) k) k = true := by unfold teB; rw [c_77]
      refine ww_aload_n C dX4_carryOut_99 rfl 1 rfl rfl ?_
      refine gf_X4_35_X4 C dX4_carryOut_100 (Or.inl X0) rfl ?_
      refine gf_X4_229_X5 C dX4_carryOut_103 (Or.inl X7) rfl ?_
      refine ww_iload_n C dX4_carryOut_106 rfl 3 rfl ?_
      refine ww_iald C dX4_carryOut_107 (Or.inl Y22) (by omega) (by decide) ?_
      refine ww_st (st' := [.int (nI (T.2.1 22 k))]) (by rw [e2 22 k (by decide) hk]; try rfl) ?_
      refine ww_istore_n (lv' := [(3, .int (nI (T.2.1 22 k))), (0, .ref (D 0)), (1, .ref (D 10)), (2, .int (nI k))]) C dX4_carryOut_108 rfl (by decide) rfl ?_
      refine ww_aload_n C dX4_carryOut_109 rfl 1 rfl rfl ?_
      refine gf_X4_35_X4 C dX4_carryOut_110 (Or.inl X0) rfl ?_
      refine gf_X4_226_X5 C dX4_carryOut_113 (Or.inl X7) rfl ?_
      refine ww_iload_n C dX4_carryOut_116 rfl 3 rfl ?_
      refine ww_iald C dX4_carryOut_117 (Or.inl Y21) (by omega) (by decide) ?_
      refine ww_st (st' := [.int (nI (T.2.1 21 k))]) (by rw [e2 21 k (by decide) hk]; try rfl) ?_
      refine ww_iconst C dX4_carryOut_118 cI_2 ?_
      refine ww_icmp_ne_n (tgt := 129) C dX4_carryOut_119 (by decide) (by omega) (by decide) (fun c_119 => ?_) (fun c_119 => ?_)
      · skip
        refine ww_aload_n C dX4_carryOut_129 rfl 1 rfl rfl ?_
        refine gf_X4_35_X4 C dX4_carryOut_130 (Or.inl X0) rfl ?_
        refine gf_X4_226_X5 C dX4_carryOut_133 (Or.inl X7) rfl ?_
        refine ww_iload_n C dX4_carryOut_136 rfl 3 rfl ?_
        refine ww_iald C dX4_carryOut_137 (Or.inl Y21) (by omega) (by decide) ?_
        refine ww_st (st' := [.int (nI (T.2.1 21 k))]) (by rw [e2 21 k (by decide) hk]; try rfl) ?_
        refine ww_if_ne_n (tgt := 200) C dX4_carryOut_138 (by decide) (by omega) (fun c_138 => ?_) (fun c_138 => ?_)
        · skip
          have hd1 : T.2.1 21 k = 1 := by omega
          refine ww_aload_n C dX4_carryOut_200 rfl 2 rfl rfl ?_
          refine gf_X4_293_X6 C dX4_carryOut_201 (Or.inl Xs) rfl ?_
          refine ww_iload_n C dX4_carryOut_204 rfl 0 rfl ?_
          refine ww_iald C dX4_carryOut_205 (Or.inl Xc) (by omega) (by decide) ?_
          refine ww_iconst C dX4_carryOut_206 cI_m1 ?_
          refine ww_icmp_ne_o (tgt := 212) C dX4_carryOut_207 (by decide) (fun y q => Nat.lt_trans (bp1 _ y q) (by decide)) (fun c_207 => ?_) (fun c_207 => ?_)
          · skip
            obtain ⟨y, hy⟩ := Option.ne_none_iff_exists'.mp c_207
            have hco : coB B T (coV B (M.1 31) T (M.2.1 9) k) k = (true, takB B (T.2.1 22 k)) := by unfold coB; rw [hte]; simp only [hd1, hy]
            refine ww_aload_n C dX4_carryOut_212 rfl 2 rfl rfl ?_
            refine ww_iload_n C dX4_carryOut_213 rfl 0 rfl ?_
            refine cv_X4_378_q (As := [.int (nI (T.2.1 22 k))]) (rest := []) C dX4_carryOut_214 (ct_X6_take (Cx.fl C) (Cx.ok C) (x := y) hX1 (by omega) (bp1 _ y hy) (by rw [hb1.2.2.2.2.2.2.1]; show oI (Bp B _) = _; rw [hy]; rfl)) (rc_X6 (Cx.ok C) (Or.inl Xs)) rfl rfl (Nat.le_of_ble_eq_true rfl) (by decide) (Nat.zero_le _) (Nat.zero_le _) (fun z9 h9 q => ?_)
            obtain ⟨hq1, hX9, hF9⟩ := q; replace hq1 := hq1.symm; subst hq1
            refine ww_iconst C dX4_carryOut_217 cI_1 ?_
            exact ww_zret C dX4_carryOut_218 nar_z1 ⟨by rw [hco]; try rfl, rfl, _, Mst.v.tr Mst.k, by rw [hco]; exact (MBd_tak hb1 hC (by decide) hy), hX9, (FrD.tr (FrD.w FrD.rf (i := 9) (by decide)) hF9)⟩
          · skip
            have hco : coB B T (coV B (M.1 31) T (M.2.1 9) k) k = (false, B) := by unfold coB; rw [hte]; simp only [hd1, c_207]
            refine ww_iconst C dX4_carryOut_210 cI_0 ?_
            exact ww_zret C dX4_carryOut_211 nar_z0 ⟨by rw [hco]; try rfl, rfl, (M.1, va_up M.2.1 9 (ndV B (M.1 31) T (M.2.1 9) (T.2.1 23 k) (T.2.1 24 k - T.2.1 23 k)), M.2.2), Mst.v, by rw [hco]; exact hb1, hX1, FrD.w FrD.rf (i := 9) (by decide)⟩
        · skip
          have s0 := k7 c_138 0 (by decide)
          have s1_ := k7 c_138 1 (by decide)
          have s2_ := k7 c_138 2 (by decide)
          refine ww_aload_n C dX4_carryOut_141 rfl 1 rfl rfl ?_
          refine ww_aload_n C dX4_carryOut_142 rfl 2 rfl rfl ?_
          refine ww_iload_n C dX4_carryOut_143 rfl 0 rfl ?_
          refine ww_aload_n C dX4_carryOut_144 rfl 1 rfl rfl ?_
          refine gf_X4_42_X4 C dX4_carryOut_145 (Or.inl X0) rfl ?_
          refine ww_aload_n C dX4_carryOut_148 rfl 1 rfl rfl ?_
          refine gf_X4_35_X4 C dX4_carryOut_149 (Or.inl X0) rfl ?_
          refine gf_X4_232_X5 C dX4_carryOut_152 (Or.inl X7) rfl ?_
          refine ww_iconst C dX4_carryOut_155 cI_3 ?_
          refine ww_iload_n C dX4_carryOut_156 rfl 3 rfl ?_
          refine ww_imuln C dX4_carryOut_157 ?_
          refine ww_iald C dX4_carryOut_158 (Or.inl Y25) (by omega) (by decide) ?_
          refine ww_st (st' := [.int (nI (T.2.1 25 (3 * k))), .ref (D 9), .int (nI (T.2.1 22 k)), .ref (D 10), .ref (D 0)]) (by rw [show M.2.1 25 (3 * k) = _ from e3 k 0 hk c_138 (by decide)]; try rfl) ?_
          refine ww_iald C dX4_carryOut_159 (Or.inl X9) (by omega) (by decide) ?_
          refine ww_aload_n C dX4_carryOut_160 rfl 1 rfl rfl ?_
          refine gf_X4_42_X4 C dX4_carryOut_161 (Or.inl X0) rfl ?_
          refine ww_aload_n C dX4_carryOut_164 rfl 1 rfl rfl ?_
          refine gf_X4_35_X4 C dX4_carryOut_165 (Or.inl X0) rfl ?_
          refine gf_X4_232_X5 C dX4_carryOut_168 (Or.inl X7) rfl ?_
          refine ww_iconst C dX4_carryOut_171 cI_3 ?_
          refine ww_iload_n C dX4_carryOut_172 rfl 3 rfl ?_
          refine ww_imuln C dX4_carryOut_173 ?_
          refine ww_iconst C dX4_carryOut_174 cI_1 ?_
          refine ww_iaddn C dX4_carryOut_175 ?_
          refine ww_iald C dX4_carryOut_176 (Or.inl Y25) (by omega) (by decide) ?_
          refine ww_st (st' := [.int (nI (T.2.1 25 (3 * k + 1))), .ref (D 9), .int ((ndV B (M.1 31) T (M.2.1 9) (T.2.1 23 k) (T.2.1 24 k - T.2.1 23 k)) (T.2.1 25 (3 * k))), .int (nI (T.2.1 22 k)), .ref (D 10), .ref (D 0)]) (by rw [e3 k 1 hk c_138 (by decide)]) ?_
          refine ww_iald C dX4_carryOut_177 (Or.inl X9) (by omega) (by decide) ?_
          refine ww_aload_n C dX4_carryOut_178 rfl 1 rfl rfl ?_
          refine gf_X4_42_X4 C dX4_carryOut_179 (Or.inl X0) rfl ?_
          refine ww_aload_n C dX4_carryOut_182 rfl 1 rfl rfl ?_
          refine gf_X4_35_X4 C dX4_carryOut_183 (Or.inl X0) rfl ?_
          refine gf_X4_232_X5 C dX4_carryOut_186 (Or.inl X7) rfl ?_
          refine ww_iconst C dX4_carryOut_189 cI_3 ?_
          refine ww_iload_n C dX4_carryOut_190 rfl 3 rfl ?_
          refine ww_imuln C dX4_carryOut_191 ?_
          refine ww_iconst C dX4_carryOut_192 cI_2 ?_
          refine ww_iaddn C dX4_carryOut_193 ?_
          refine ww_iald C dX4_carryOut_194 (Or.inl Y25) (by omega) (by decide) ?_
          refine ww_st (st' := [.int (nI (T.2.1 25 (3 * k + 2))), .ref (D 9), .int ((ndV B (M.1 31) T (M.2.1 9) (T.2.1 23 k) (T.2.1 24 k - T.2.1 23 k)) (T.2.1 25 (3 * k + 1))), .int ((ndV B (M.1 31) T (M.2.1 9) (T.2.1 23 k) (T.2.1 24 k - T.2.1 23 k)) (T.2.1 25 (3 * k))), .int (nI (T.2.1 22 k)), .ref (D 10), .ref (D 0)]) (by rw [e3 k 2 hk c_138 (by decide)]) ?_
          refine ww_iald C dX4_carryOut_195 (Or.inl X9) (by omega) (by decide) ?_
          refine cv_X4_374_q (As := [.ref (D 10), .int (nI (T.2.1 22 k)), .int ((ndV B (M.1 31) T (M.2.1 9) (T.2.1 23 k) (T.2.1 24 k - T.2.1 23 k)) (T.2.1 25 (3 * k))), .int ((ndV B (M.1 31) T (M.2.1 9) (T.2.1 23 k) (T.2.1 24 k - T.2.1 23 k)) (T.2.1 25 (3 * k + 1))), .int ((ndV B (M.1 31) T (M.2.1 9) (T.2.1 23 k) (T.2.1 24 k - T.2.1 23 k)) (T.2.1 25 (3 * k + 2)))]) (rest := []) C dX4_carryOut_196 (ct_X4_isPut (Cx.fl C) (Cx.ok C) hz hX1 hb1 hC k3) (rc_X4 (Cx.ok C) (Or.inl X0)) rfl rfl (Nat.le_of_ble_eq_true rfl) (by decide) (Nat.zero_le _) (Nat.zero_le _) (fun v z9 h9 q => ?_)
          obtain ⟨rfl, hq1, hX9, hF9⟩ := q; replace hq1 := hq1.symm; subst hq1
          cases hft : ftN B (T.2.1 22 k) (fmN ((ndV B (M.1 31) T (M.2.1 9) (T.2.1 23 k) (T.2.1 24 k - T.2.1 23 k)) (T.2.1 25 (3 * k + 1))) (Br B) * Bc B + fmN ((ndV B (M.1 31) T (M.2.1 9) (T.2.1 23 k) (T.2.1 24 k - T.2.1 23 k)) (T.2.1 25 (3 * k))) (Bc B)) (fmN ((ndV B (M.1 31) T (M.2.1 9) (T.2.1 23 k) (T.2.1 24 k - T.2.1 23 k)) (T.2.1 25 (3 * k + 2))) 6) with
          | false =>
            unfold tryM at hX9; rw [hft] at hX9
            have hco : coB B T (coV B (M.1 31) T (M.2.1 9) k) k = (false, B) := by unfold coB; rw [hte]; simp only [c_138]; rw [← hcv, hft]
            exact ww_zret C dX4_carryOut_199 (nar_bI _) ⟨by rw [hco]; try rfl, rfl, _, Mst.v, by rw [hco]; exact hb1, hX9, (FrD.tr (FrD.w FrD.rf (i := 9) (by decide)) hF9)⟩
          | true =>
            unfold tryM at hX9; rw [hft] at hX9
            have hco : coB B T (coV B (M.1 31) T (M.2.1 9) k) k = (true, putB B (T.2.1 22 k) (fmN ((ndV B (M.1 31) T (M.2.1 9) (T.2.1 23 k) (T.2.1 24 k - T.2.1 23 k)) (T.2.1 25 (3 * k + 1))) (Br B) * Bc B + fmN ((ndV B (M.1 31) T (M.2.1 9) (T.2.1 23 k) (T.2.1 24 k - T.2.1 23 k)) (T.2.1 25 (3 * k))) (Bc B)) (fmN ((ndV B (M.1 31) T (M.2.1 9) (T.2.1 23 k) (T.2.1 24 k - T.2.1 23 k)) (T.2.1 25 (3 * k + 2))) 6)) := by unfold coB; rw [hte]; simp only [c_138]; rw [← hcv, hft]; try rfl
            have hcl := cel_lt (B := B) (fm_lt (x := (ndV B (M.1 31) T (M.2.1 9) (T.2.1 23 k) (T.2.1 24 k - T.2.1 23 k)) (T.2.1 25 (3 * k + 1))) (m := Br B) (by omega)) (fm_lt (x := (ndV B (M.1 31) T (M.2.1 9) (T.2.1 23 k) (T.2.1 24 k - T.2.1 23 k)) (T.2.1 25 (3 * k))) (m := Bc B) (by omega))
            exact ww_zret C dX4_carryOut_199 (nar_bI _) ⟨by rw [hco]; try rfl, rfl, _, Mst.v.tr Mst.p, by rw [hco]; exact (MBd_put hb1 (by decide) hcl (ftN_d hft).1), hX9, (FrD.tr (FrD.w FrD.rf (i := 9) (by decide)) hF9)⟩
      · skip
        refine ww_aload_n C dX4_carryOut_122 rfl 1 rfl rfl ?_
        refine ww_aload_n C dX4_carryOut_123 rfl 2 rfl rfl ?_
        refine ww_iload_n C dX4_carryOut_124 rfl 0 rfl ?_
        refine cv_X4_371_q (As := [.ref (D 10), .int (nI (T.2.1 22 k))]) (rest := []) C dX4_carryOut_125 (ct_X4_isFitted (Cx.fl C) (Cx.ok C) hz hX1 hb1 hC k3) (rc_X4 (Cx.ok C) (Or.inl X0)) rfl rfl (Nat.le_of_ble_eq_true rfl) (by decide) (Nat.zero_le _) (Nat.zero_le _) (fun v z9 h9 q => ?_)
        obtain ⟨rfl, hq1, hX9, hF9⟩ := q; replace hq1 := hq1.symm; subst hq1
        have hd2 : T.2.1 21 k = 2 := c_119
        cases hfw : fwN B (T.2.1 22 k) with
        | none =>
          unfold fitM at hX9; rw [hfw] at hX9
          have hco : coB B T (coV B (M.1 31) T (M.2.1 9) k) k = (false, B) := by unfold coB; rw [hte]; simp only [hd2, hfw]
          exact ww_zret C dX4_carryOut_128 (nar_bI _) ⟨by rw [hco]; try rfl, rfl, _, Mst.v, by rw [hco]; exact hb1, hX9, (FrD.tr (FrD.w FrD.rf (i := 9) (by decide)) hF9)⟩
        | some y =>
          unfold fitM at hX9; rw [hfw] at hX9
          have hco : coB B T (coV B (M.1 31) T (M.2.1 9) k) k = (true, putB B (T.2.1 22 k) (y / 6) (y % 6)) := by unfold coB; rw [hte]; simp only [hd2, hfw]
          have hyl := (ff_lt _ _ _ hfw).1
          have hfy : ftN B (T.2.1 22 k) (y / 6) (y % 6) = true := (ff_lt _ _ _ hfw).2
          exact ww_zret C dX4_carryOut_128 (nar_bI _) ⟨by rw [hco]; try rfl, rfl, _, Mst.v.tr Mst.p, by rw [hco]; exact (MBd_put hb1 (by decide) (by omega) (ftN_d hfy).1), hX9, (FrD.tr (FrD.w FrD.rf (i := 9) (by decide)) hF9)⟩
    · skip
      obtain ⟨t, ht⟩ := Option.ne_none_iff_exists'.mp c_77
      have ht8 := k6 t ht
      refine ww_aload_n C dX4_carryOut_80 rfl 1 rfl rfl ?_
      refine gf_X4_42_X4 C dX4_carryOut_81 (Or.inl X0) rfl ?_
      refine ww_aload_n C dX4_carryOut_84 rfl 1 rfl rfl ?_
      refine gf_X4_35_X4 C dX4_carryOut_85 (Or.inl X0) rfl ?_
      refine gf_X4_235_X5 C dX4_carryOut_88 (Or.inl X7) rfl ?_
      refine ww_iload_n C dX4_carryOut_91 rfl 3 rfl ?_
      refine ww_iald C dX4_carryOut_92 (Or.inl Y26) (by omega) (by decide) ?_
      refine ww_st (st' := [.int (nI t), .ref (D 9)]) (by rw [show M.2.1 26 k = nI t from by rw [e4 k hk, ht]; rfl]; try rfl) ?_
      refine ww_iald C dX4_carryOut_93 (Or.inl X9) (by omega) (by decide) ?_
      refine ww_if_ne (tgt := 99) C dX4_carryOut_94 (by decide) (fun c_94 => ?_) (fun c_94 => ?_)
      · skip
        have hte : teB T (coV B (M.1 31) T (M.2.1 9) k) k = true := by unfold teB; rw [ht]; exact decide_eq_true c_94
        refine ww_aload_n C dX4_carryOut_99 rfl 1 rfl rfl ?_
        refine gf_X4_35_X4 C dX4_carryOut_100 (Or.inl X0) rfl ?_
        refine gf_X4_229_X5 C dX4_carryOut_103 (Or.inl X7) rfl ?_
        refine ww_iload_n C dX4_carryOut_106 rfl 3 rfl ?_
        refine ww_iald C dX4_carryOut_107 (Or.inl Y22) (by omega) (by decide) ?_
        refine ww_st (st' := [.int (nI (T.2.1 22 k))]) (by rw [e2 22 k (by decide) hk]; try rfl) ?_
        refine ww_istore_n (lv' := [(3, .int (nI (T.2.1 22 k))), (0, .ref (D 0)), (1, .ref (D 10)), (2, .int (nI k))]) C dX4_carryOut_108 rfl (by decide) rfl ?_
        refine ww_aload_n C dX4_carryOut_109 rfl 1 rfl rfl ?_
        refine gf_X4_35_X4 C dX4_carryOut_110 (Or.inl X0) rfl ?_
        refine gf_X4_226_X5 C dX4_carryOut_113 (Or.inl X7) rfl ?_
        refine ww_iload_n C dX4_carryOut_116 rfl 3 rfl ?_
        refine ww_iald C dX4_carryOut_117 (Or.inl Y21) (by omega) (by decide) ?_
        refine ww_st (st' := [.int (nI (T.2.1 21 k))]) (by rw [e2 21 k (by decide) hk]; try rfl) ?_
        refine ww_iconst C dX4_carryOut_118 cI_2 ?_
        refine ww_icmp_ne_n (tgt := 129) C dX4_carryOut_119 (by decide) (by omega) (by decide) (fun c_119 => ?_) (fun c_119 => ?_)
        · skip
          refine ww_aload_n C dX4_carryOut_129 rfl 1 rfl rfl ?_
          refine gf_X4_35_X4 C dX4_carryOut_130 (Or.inl X0) rfl ?_
          refine gf_X4_226_X5 C dX4_carryOut_133 (Or.inl X7) rfl ?_
          refine ww_iload_n C dX4_carryOut_136 rfl 3 rfl ?_
          refine ww_iald C dX4_carryOut_137 (Or.inl Y21) (by omega) (by decide) ?_
          refine ww_st (st' := [.int (nI (T.2.1 21 k))]) (by rw [e2 21 k (by decide) hk]; try rfl) ?_
          refine ww_if_ne_n (tgt := 200) C dX4_carryOut_138 (by decide) (by omega) (fun c_138 => ?_) (fun c_138 => ?_)
          · skip
            have hd1 : T.2.1 21 k = 1 := by omega
            refine ww_aload_n C dX4_carryOut_200 rfl 2 rfl rfl ?_
            refine gf_X4_293_X6 C dX4_carryOut_201 (Or.inl Xs) rfl ?_
            refine ww_iload_n C dX4_carryOut_204 rfl 0 rfl ?_
            refine ww_iald C dX4_carryOut_205 (Or.inl Xc) (by omega) (by decide) ?_
            refine ww_iconst C dX4_carryOut_206 cI_m1 ?_
            refine ww_icmp_ne_o (tgt := 212) C dX4_carryOut_207 (by decide) (fun y q => Nat.lt_trans (bp1 _ y q) (by decide)) (fun c_207 => ?_) (fun c_207 => ?_)
            · skip
              obtain ⟨y, hy⟩ := Option.ne_none_iff_exists'.mp c_207
              have hco : coB B T (coV B (M.1 31) T (M.2.1 9) k) k = (true, takB B (T.2.1 22 k)) := by unfold coB; rw [hte]; simp only [hd1, hy]
              refine ww_aload_n C dX4_carryOut_212 rfl 2 rfl rfl ?_
              refine ww_iload_n C dX4_carryOut_213 rfl 0 rfl ?_
              refine cv_X4_378_q (As := [.int (nI (T.2.1 22 k))]) (rest := []) C dX4_carryOut_214 (ct_X6_take (Cx.fl C) (Cx.ok C) (x := y) hX1 (by omega) (bp1 _ y hy) (by rw [hb1.2.2.2.2.2.2.1]; show oI (Bp B _) = _; rw [hy]; rfl)) (rc_X6 (Cx.ok C) (Or.inl Xs)) rfl rfl (Nat.le_of_ble_eq_true rfl) (by decide) (Nat.zero_le _) (Nat.zero_le _) (fun z9 h9 q => ?_)
              obtain ⟨hq1, hX9, hF9⟩ := q; replace hq1 := hq1.symm; subst hq1
              refine ww_iconst C dX4_carryOut_217 cI_1 ?_
              exact ww_zret C dX4_carryOut_218 nar_z1 ⟨by rw [hco]; try rfl, rfl, _, Mst.v.tr Mst.k, by rw [hco]; exact (MBd_tak hb1 hC (by decide) hy), hX9, (FrD.tr (FrD.w FrD.rf (i := 9) (by decide)) hF9)⟩
            · skip
              have hco : coB B T (coV B (M.1 31) T (M.2.1 9) k) k = (false, B) := by unfold coB; rw [hte]; simp only [hd1, c_207]
              refine ww_iconst C dX4_carryOut_210 cI_0 ?_
              exact ww_zret C dX4_carryOut_211 nar_z0 ⟨by rw [hco]; try rfl, rfl, (M.1, va_up M.2.1 9 (ndV B (M.1 31) T (M.2.1 9) (T.2.1 23 k) (T.2.1 24 k - T.2.1 23 k)), M.2.2), Mst.v, by rw [hco]; exact hb1, hX1, FrD.w FrD.rf (i := 9) (by decide)⟩
          · skip
            have s0 := k7 c_138 0 (by decide)
            have s1_ := k7 c_138 1 (by decide)
            have s2_ := k7 c_138 2 (by decide)
            refine ww_aload_n C dX4_carryOut_141 rfl 1 rfl rfl ?_
            refine ww_aload_n C dX4_carryOut_142 rfl 2 rfl rfl ?_
            refine ww_iload_n C dX4_carryOut_143 rfl 0 rfl ?_
            refine ww_aload_n C dX4_carryOut_144 rfl 1 rfl rfl ?_
            refine gf_X4_42_X4 C dX4_carryOut_145 (Or.inl X0) rfl ?_
            refine ww_aload_n C dX4_carryOut_148 rfl 1 rfl rfl ?_
            refine gf_X4_35_X4 C dX4_carryOut_149 (Or.inl X0) rfl ?_
            refine gf_X4_232_X5 C dX4_carryOut_152 (Or.inl X7) rfl ?_
            refine ww_iconst C dX4_carryOut_155 cI_3 ?_
            refine ww_iload_n C dX4_carryOut_156 rfl 3 rfl ?_
            refine ww_imuln C dX4_carryOut_157 ?_
            refine ww_iald C dX4_carryOut_158 (Or.inl Y25) (by omega) (by decide) ?_
            refine ww_st (st' := [.int (nI (T.2.1 25 (3 * k))), .ref (D 9), .int (nI (T.2.1 22 k)), .ref (D 10), .ref (D 0)]) (by rw [show M.2.1 25 (3 * k) = _ from e3 k 0 hk c_138 (by decide)]; try rfl) ?_
            refine ww_iald C dX4_carryOut_159 (Or.inl X9) (by omega) (by decide) ?_
            refine ww_aload_n C dX4_carryOut_160 rfl 1 rfl rfl ?_
            refine gf_X4_42_X4 C dX4_carryOut_161 (Or.inl X0) rfl ?_
            refine ww_aload_n C dX4_carryOut_164 rfl 1 rfl rfl ?_
            refine gf_X4_35_X4 C dX4_carryOut_165 (Or.inl X0) rfl ?_
            refine gf_X4_232_X5 C dX4_carryOut_168 (Or.inl X7) rfl ?_
            refine ww_iconst C dX4_carryOut_171 cI_3 ?_
            refine ww_iload_n C dX4_carryOut_172 rfl 3 rfl ?_
            refine ww_imuln C dX4_carryOut_173 ?_
            refine ww_iconst C dX4_carryOut_174 cI_1 ?_
            refine ww_iaddn C dX4_carryOut_175 ?_
            refine ww_iald C dX4_carryOut_176 (Or.inl Y25) (by omega) (by decide) ?_
            refine ww_st (st' := [.int (nI (T.2.1 25 (3 * k + 1))), .ref (D 9), .int ((ndV B (M.1 31) T (M.2.1 9) (T.2.1 23 k) (T.2.1 24 k - T.2.1 23 k)) (T.2.1 25 (3 * k))), .int (nI (T.2.1 22 k)), .ref (D 10), .ref (D 0)]) (by rw [e3 k 1 hk c_138 (by decide)]) ?_
            refine ww_iald C dX4_carryOut_177 (Or.inl X9) (by omega) (by decide) ?_
            refine ww_aload_n C dX4_carryOut_178 rfl 1 rfl rfl ?_
            refine gf_X4_42_X4 C dX4_carryOut_179 (Or.inl X0) rfl ?_
            refine ww_aload_n C dX4_carryOut_182 rfl 1 rfl rfl ?_
            refine gf_X4_35_X4 C dX4_carryOut_183 (Or.inl X0) rfl ?_
            refine gf_X4_232_X5 C dX4_carryOut_186 (Or.inl X7) rfl ?_
            refine ww_iconst C dX4_carryOut_189 cI_3 ?_
            refine ww_iload_n C dX4_carryOut_190 rfl 3 rfl ?_
            refine ww_imuln C dX4_carryOut_191 ?_
            refine ww_iconst C dX4_carryOut_192 cI_2 ?_
            refine ww_iaddn C dX4_carryOut_193 ?_
            refine ww_iald C dX4_carryOut_194 (Or.inl Y25) (by omega) (by decide) ?_
            refine ww_st (st' := [.int (nI (T.2.1 25 (3 * k + 2))), .ref (D 9), .int ((ndV B (M.1 31) T (M.2.1 9) (T.2.1 23 k) (T.2.1 24 k - T.2.1 23 k)) (T.2.1 25 (3 * k + 1))), .int ((ndV B (M.1 31) T (M.2.1 9) (T.2.1 23 k) (T.2.1 24 k - T.2.1 23 k)) (T.2.1 25 (3 * k))), .int (nI (T.2.1 22 k)), .ref (D 10), .ref (D 0)]) (by rw [e3 k 2 hk c_138 (by decide)]) ?_
            refine ww_iald C dX4_carryOut_195 (Or.inl X9) (by omega) (by decide) ?_
            refine cv_X4_374_q (As := [.ref (D 10), .int (nI (T.2.1 22 k)), .int ((ndV B (M.1 31) T (M.2.1 9) (T.2.1 23 k) (T.2.1 24 k - T.2.1 23 k)) (T.2.1 25 (3 * k))), .int ((ndV B (M.1 31) T (M.2.1 9) (T.2.1 23 k) (T.2.1 24 k - T.2.1 23 k)) (T.2.1 25 (3 * k + 1))), .int ((ndV B (M.1 31) T (M.2.1 9) (T.2.1 23 k) (T.2.1 24 k - T.2.1 23 k)) (T.2.1 25 (3 * k + 2)))]) (rest := []) C dX4_carryOut_196 (ct_X4_isPut (Cx.fl C) (Cx.ok C) hz hX1 hb1 hC k3) (rc_X4 (Cx.ok C) (Or.inl X0)) rfl rfl (Nat.le_of_ble_eq_true rfl) (by decide) (Nat.zero_le _) (Nat.zero_le _) (fun v z9 h9 q => ?_)
            obtain ⟨rfl, hq1, hX9, hF9⟩ := q; replace hq1 := hq1.symm; subst hq1
            cases hft : ftN B (T.2.1 22 k) (fmN ((ndV B (M.1 31) T (M.2.1 9) (T.2.1 23 k) (T.2.1 24 k - T.2.1 23 k)) (T.2.1 25 (3 * k + 1))) (Br B) * Bc B + fmN ((ndV B (M.1 31) T (M.2.1 9) (T.2.1 23 k) (T.2.1 24 k - T.2.1 23 k)) (T.2.1 25 (3 * k))) (Bc B)) (fmN ((ndV B (M.1 31) T (M.2.1 9) (T.2.1 23 k) (T.2.1 24 k - T.2.1 23 k)) (T.2.1 25 (3 * k + 2))) 6) with
            | false =>
              unfold tryM at hX9; rw [hft] at hX9
              have hco : coB B T (coV B (M.1 31) T (M.2.1 9) k) k = (false, B) := by unfold coB; rw [hte]; simp only [c_138]; rw [← hcv, hft]
              exact ww_zret C dX4_carryOut_199 (nar_bI _) ⟨by rw [hco]; try rfl, rfl, _, Mst.v, by rw [hco]; exact hb1, hX9, (FrD.tr (FrD.w FrD.rf (i := 9) (by decide)) hF9)⟩
            | true =>
              unfold tryM at hX9; rw [hft] at hX9
              have hco : coB B T (coV B (M.1 31) T (M.2.1 9) k) k = (true, putB B (T.2.1 22 k) (fmN ((ndV B (M.1 31) T (M.2.1 9) (T.2.1 23 k) (T.2.1 24 k - T.2.1 23 k)) (T.2.1 25 (3 * k + 1))) (Br B) * Bc B + fmN ((ndV B (M.1 31) T (M.2.1 9) (T.2.1 23 k) (T.2.1 24 k - T.2.1 23 k)) (T.2.1 25 (3 * k))) (Bc B)) (fmN ((ndV B (M.1 31) T (M.2.1 9) (T.2.1 23 k) (T.2.1 24 k - T.2.1 23 k)) (T.2.1 25 (3 * k + 2))) 6)) := by unfold coB; rw [hte]; simp only [c_138]; rw [← hcv, hft]; try rfl
              have hcl := cel_lt (B := B) (fm_lt (x := (ndV B (M.1 31) T (M.2.1 9) (T.2.1 23 k) (T.2.1 24 k - T.2.1 23 k)) (T.2.1 25 (3 * k + 1))) (m := Br B) (by omega)) (fm_lt (x := (ndV B (M.1 31) T (M.2.1 9) (T.2.1 23 k) (T.2.1 24 k - T.2.1 23 k)) (T.2.1 25 (3 * k))) (m := Bc B) (by omega))
              exact ww_zret C dX4_carryOut_199 (nar_bI _) ⟨by rw [hco]; try rfl, rfl, _, Mst.v.tr Mst.p, by rw [hco]; exact (MBd_put hb1 (by decide) hcl (ftN_d hft).1), hX9, (FrD.tr (FrD.w FrD.rf (i := 9) (by decide)) hF9)⟩
        · skip
          refine ww_aload_n C dX4_carryOut_122 rfl 1 rfl rfl ?_
          refine ww_aload_n C dX4_carryOut_123 rfl 2 rfl rfl ?_
          refine ww_iload_n C dX4_carryOut_124 rfl 0 rfl ?_
          refine cv_X4_371_q (As := [.ref (D 10), .int (nI (T.2.1 22 k))]) (rest := []) C dX4_carryOut_125 (ct_X4_isFitted (Cx.fl C) (Cx.ok C) hz hX1 hb1 hC k3) (rc_X4 (Cx.ok C) (Or.inl X0)) rfl rfl (Nat.le_of_ble_eq_true rfl) (by decide) (Nat.zero_le _) (Nat.zero_le _) (fun v z9 h9 q => ?_)
          obtain ⟨rfl, hq1, hX9, hF9⟩ := q; replace hq1 := hq1.symm; subst hq1
          have hd2 : T.2.1 21 k = 2 := c_119
          cases hfw : fwN B (T.2.1 22 k) with
          | none =>
            unfold fitM at hX9; rw [hfw] at hX9
            have hco : coB B T (coV B (M.1 31) T (M.2.1 9) k) k = (false, B) := by unfold coB; rw [hte]; simp only [hd2, hfw]
            exact ww_zret C dX4_carryOut_128 (nar_bI _) ⟨by rw [hco]; try rfl, rfl, _, Mst.v, by rw [hco]; exact hb1, hX9, (FrD.tr (FrD.w FrD.rf (i := 9) (by decide)) hF9)⟩
          | some y =>
            unfold fitM at hX9; rw [hfw] at hX9
            have hco : coB B T (coV B (M.1 31) T (M.2.1 9) k) k = (true, putB B (T.2.1 22 k) (y / 6) (y % 6)) := by unfold coB; rw [hte]; simp only [hd2, hfw]
            have hyl := (ff_lt _ _ _ hfw).1
            have hfy : ftN B (T.2.1 22 k) (y / 6) (y % 6) = true := (ff_lt _ _ _ hfw).2
            exact ww_zret C dX4_carryOut_128 (nar_bI _) ⟨by rw [hco]; try rfl, rfl, _, Mst.v.tr Mst.p, by rw [hco]; exact (MBd_put hb1 (by decide) (by omega) (ftN_d hfy).1), hX9, (FrD.tr (FrD.w FrD.rf (i := 9) (by decide)) hF9)⟩
      · skip
        have hte : teB T (coV B (M.1 31) T (M.2.1 9) k) k = false := by unfold teB; rw [ht]; exact decide_eq_false (fun q => q c_94)
        have hco : coB B T (coV B (M.1 31) T (M.2.1 9) k) k = (false, B) := by unfold coB; rw [hte]
        refine ww_iconst C dX4_carryOut_97 cI_0 ?_
        exact ww_zret C dX4_carryOut_98 nar_z0 ⟨by rw [hco]; try rfl, rfl, (M.1, va_up M.2.1 9 (ndV B (M.1 31) T (M.2.1 9) (T.2.1 23 k) (T.2.1 24 k - T.2.1 23 k)), M.2.2), Mst.v, by rw [hco]; exact hb1, hX1, FrD.w FrD.rf (i := 9) (by decide)⟩
  · intro j hi ih  
    show WW X (Rv (fun v z' h' => v = .int (bI (coB B T (coV B (M.1 31) T (M.2.1 9) k) k).1) ∧ z' = z ∧ ∃ M', Mst 30 40 M M' ∧ MBd M' 30 40 (coB B T (coV B (M.1 31) T (M.2.1 9) k) k).2 ∧ Mx (xG X) h' D M' ∧ FrD h h' D)) z (up h (D 9) (cI (xG X) 800 (ndV B (M.1 31) T (M.2.1 9) (T.2.1 23 k) j))) 0 0 10 [(3, .int (nI (T.2.1 23 k + j))), (0, .ref (D 0)), (1, .ref (D 10)), (2, .int (nI k))] []
    have hX1 : Mx (xG X) (up h (D 9) (cI (xG X) 800 (ndV B (M.1 31) T (M.2.1 9) (T.2.1 23 k) j))) D (M.1, va_up M.2.1 9 (ndV B (M.1 31) T (M.2.1 9) (T.2.1 23 k) j), M.2.2) := hX.r (i := 9) (by decide)
    have hb1 : MBd (M.1, va_up M.2.1 9 (ndV B (M.1 31) T (M.2.1 9) (T.2.1 23 k) j), M.2.2) 30 40 B := hb.v (by decide)
    have X0 := hX1.m
    have X7 : (up h (D 9) (cI (xG X) 800 (ndV B (M.1 31) T (M.2.1 9) (T.2.1 23 k) j))) (D 7) = some (cTd (M.1 20) (M.1 21) (M.1 22) (M.1 23) (M.1 24) (fun i => D (20 + i))) := hX1.1 7 (by decide)
    have X9 : (up h (D 9) (cI (xG X) 800 (ndV B (M.1 31) T (M.2.1 9) (T.2.1 23 k) j))) (D 9) = some (cI (xG X) 800 (ndV B (M.1 31) T (M.2.1 9) (T.2.1 23 k) j)) := up_s
    have Y21 : (up h (D 9) (cI (xG X) 800 (ndV B (M.1 31) T (M.2.1 9) (T.2.1 23 k) j))) (D 21) = some (cI (xG X) 17 (M.2.1 21)) := hX1.1 21 (by decide)
    have Y22 : (up h (D 9) (cI (xG X) 800 (ndV B (M.1 31) T (M.2.1 9) (T.2.1 23 k) j))) (D 22) = some (cI (xG X) 17 (M.2.1 22)) := hX1.1 22 (by decide)
    have Y23 : (up h (D 9) (cI (xG X) 800 (ndV B (M.1 31) T (M.2.1 9) (T.2.1 23 k) j))) (D 23) = some (cI (xG X) 17 (M.2.1 23)) := hX1.1 23 (by decide)
    have Y24 : (up h (D 9) (cI (xG X) 800 (ndV B (M.1 31) T (M.2.1 9) (T.2.1 23 k) j))) (D 24) = some (cI (xG X) 17 (M.2.1 24)) := hX1.1 24 (by decide)
    have Y25 : (up h (D 9) (cI (xG X) 800 (ndV B (M.1 31) T (M.2.1 9) (T.2.1 23 k) j))) (D 25) = some (cI (xG X) 51 (M.2.1 25)) := hX1.1 25 (by decide)
    have Y26 : (up h (D 9) (cI (xG X) 800 (ndV B (M.1 31) T (M.2.1 9) (T.2.1 23 k) j))) (D 26) = some (cI (xG X) 17 (M.2.1 26)) := hX1.1 26 (by decide)
    have Y27 : (up h (D 9) (cI (xG X) 800 (ndV B (M.1 31) T (M.2.1 9) (T.2.1 23 k) j))) (D 27) = some (cI (xG X) 800 (M.2.1 27)) := hX1.1 27 (by decide)
    have Y28 : (up h (D 9) (cI (xG X) 800 (ndV B (M.1 31) T (M.2.1 9) (T.2.1 23 k) j))) (D 28) = some (cI (xG X) 800 (M.2.1 28)) := hX1.1 28 (by decide)
    have Y29 : (up h (D 9) (cI (xG X) 800 (ndV B (M.1 31) T (M.2.1 9) (T.2.1 23 k) j))) (D 29) = some (cI (xG X) 800 (M.2.1 29)) := hX1.1 29 (by decide)
    have Xs : (up h (D 9) (cI (xG X) 800 (ndV B (M.1 31) T (M.2.1 9) (T.2.1 23 k) j))) (D 10) = some (cSt (fun i => D (40 + i)) (M.1 30) (M.1 31)) := hX1.1 10 (by decide)
    have Xc : (up h (D 9) (cI (xG X) 800 (ndV B (M.1 31) T (M.2.1 9) (T.2.1 23 k) j))) (D 41) = some (cI (xG X) 16 (fun k => oI (Bp B k))) := by have := hX1.1 41 (by decide); have e9 := hb1.2.2.2.2.2.2.1; rw [this]; show some (cI (xG X) 16 _) = _; rw [e9]
    have hP1 : MrP (xG X) z (up h (D 9) (cI (xG X) 800 (ndV B (M.1 31) T (M.2.1 9) (T.2.1 23 k) j))) (D 0) (D 10) B := ⟨_, D, Or.inl X0, Mx.n hX1 hb1⟩
    refine ww_iload_n C dX4_carryOut_10 rfl 0 rfl ?_
    refine ww_aload_n C dX4_carryOut_11 rfl 1 rfl rfl ?_
    refine gf_X4_35_X4 C dX4_carryOut_12 (Or.inl X0) rfl ?_
    refine gf_X4_237_X5 C dX4_carryOut_15 (Or.inl X7) rfl ?_
    refine ww_iload_n C dX4_carryOut_18 rfl 3 rfl ?_
    refine ww_iald C dX4_carryOut_19 (Or.inl Y24) (by omega) (by decide) ?_
    refine ww_st (st' := [.int (nI (T.2.1 24 k)), .int (nI (T.2.1 23 k + j))]) (by rw [e2 24 k (by decide) hk]; try rfl) ?_
    refine ww_icmp_ge_f (tgt := 67) C dX4_carryOut_20 (by decide) (nI_ge (by omega) (by omega)) ?_
    obtain ⟨rk, l1, l2⟩ := k5 (T.2.1 23 k + j) (by omega) (by omega)
    refine ww_aload_n C dX4_carryOut_23 rfl 1 rfl rfl ?_
    refine gf_X4_42_X4 C dX4_carryOut_24 (Or.inl X0) rfl ?_
    refine ww_iload_n C dX4_carryOut_27 rfl 0 rfl ?_
    refine ww_aload_n C dX4_carryOut_28 rfl 1 rfl rfl ?_
    refine ww_aload_n C dX4_carryOut_29 rfl 2 rfl rfl ?_
    refine ww_aload_n C dX4_carryOut_30 rfl 1 rfl rfl ?_
    refine gf_X4_35_X4 C dX4_carryOut_31 (Or.inl X0) rfl ?_
    refine gf_X4_141_X5 C dX4_carryOut_34 (Or.inl X7) rfl ?_
    refine ww_iload_n C dX4_carryOut_37 rfl 0 rfl ?_
    refine ww_iald C dX4_carryOut_38 (Or.inl Y27) (by omega) (by decide) ?_
    refine ww_st (st' := [.int (nI (T.2.1 27 (T.2.1 23 k + j))), .ref (D 10), .ref (D 0), .int (nI (T.2.1 23 k + j)), .ref (D 9)]) (by rw [e5 27 _ (by decide) (by omega)]; try rfl) ?_
    refine ww_aload_n C dX4_carryOut_39 rfl 1 rfl rfl ?_
    refine gf_X4_35_X4 C dX4_carryOut_40 (Or.inl X0) rfl ?_
    refine gf_X4_144_X5 C dX4_carryOut_43 (Or.inl X7) rfl ?_
    refine ww_iload_n C dX4_carryOut_46 rfl 0 rfl ?_
    refine ww_iald C dX4_carryOut_47 (Or.inl Y28) (by omega) (by decide) ?_
    refine ww_st (st' := [.int (nI (T.2.1 28 (T.2.1 23 k + j))), .int (nI (T.2.1 27 (T.2.1 23 k + j))), .ref (D 10), .ref (D 0), .int (nI (T.2.1 23 k + j)), .ref (D 9)]) (by rw [e5 28 _ (by decide) (by omega)]; try rfl) ?_
    refine ww_aload_n C dX4_carryOut_48 rfl 1 rfl rfl ?_
    refine gf_X4_35_X4 C dX4_carryOut_49 (Or.inl X0) rfl ?_
    refine gf_X4_147_X5 C dX4_carryOut_52 (Or.inl X7) rfl ?_
    refine ww_iload_n C dX4_carryOut_55 rfl 0 rfl ?_
    refine ww_iald C dX4_carryOut_56 (Or.inl Y29) (by omega) (by decide) ?_
    refine ww_st (st' := [.int (nI (T.2.1 29 (T.2.1 23 k + j))), .int (nI (T.2.1 28 (T.2.1 23 k + j))), .int (nI (T.2.1 27 (T.2.1 23 k + j))), .ref (D 10), .ref (D 0), .int (nI (T.2.1 23 k + j)), .ref (D 9)]) (by rw [e5 29 _ (by decide) (by omega)]; try rfl) ?_
    refine cv_X4_368_r (As := [.ref (D 10), .int (nI (T.2.1 27 (T.2.1 23 k + j))), .int (nI (T.2.1 28 (T.2.1 23 k + j))), .int (nI (T.2.1 29 (T.2.1 23 k + j)))]) (rest := [.int (nI (T.2.1 23 k + j)), .ref (D 9)]) C dX4_carryOut_57 (ct_X4_reckon (Cx.fl C) (Cx.ok C) hz hX1 hb1 hC rk) (rc_X4 (Cx.ok C) (Or.inl X0)) rfl rfl (Nat.le_of_ble_eq_true rfl) (by decide) (Nat.zero_le _) (Nat.zero_le _) ?_
    refine ww_iast C dX4_carryOut_60 X9 (by omega) (by decide) ?_
    refine ww_gen (fun h1 hE1 => ?_)
    have X0_h1 : h1 (D 0) = some (.inr (3, [.int (M.1 0), .ref (D 1), .int (M.1 1), .int (M.1 2), .ref (D 2), .ref (D 3), .ref (D 4), .ref (D 5), .int (M.1 3), .int (M.1 4), .int (M.1 5), .int (M.1 6), .int (M.1 7), .ref (D 6), .ref (D 7), .ref (D 8), .ref (D 9), .ref (D 10), .ref (D 11), .ref (D 12), .ref (D 13), .int (M.1 8), .int (M.1 9), .int (M.1 10)])) := by rw [hE1, up_n (fun q => by cases hX.2 0 9 (by decide) (by decide) q)]; exact X0
    have X7_h1 : h1 (D 7) = some (.inr (4, [.int (M.1 20), .int (M.1 21), .int (M.1 22), .ref (D 20), .int (M.1 23), .ref (D 21), .ref (D 22), .ref (D 23), .ref (D 24), .ref (D 25), .ref (D 26), .int (M.1 24), .ref (D 27), .ref (D 28), .ref (D 29)])) := by rw [hE1, up_n (fun q => by cases hX.2 7 9 (by decide) (by decide) q)]; exact X7
    have Y21_h1 : h1 (D 21) = some (.inl (gA (xG X) 0, (17, .inl (M.2.1 21)))) := by rw [hE1, up_n (Ne.symm (fun q => by cases hX.2 9 21 (by decide) (by decide) q))]; exact Y21
    have Y22_h1 : h1 (D 22) = some (.inl (gA (xG X) 0, (17, .inl (M.2.1 22)))) := by rw [hE1, up_n (Ne.symm (fun q => by cases hX.2 9 22 (by decide) (by decide) q))]; exact Y22
    have Y23_h1 : h1 (D 23) = some (.inl (gA (xG X) 0, (17, .inl (M.2.1 23)))) := by rw [hE1, up_n (Ne.symm (fun q => by cases hX.2 9 23 (by decide) (by decide) q))]; exact Y23
    have Y24_h1 : h1 (D 24) = some (.inl (gA (xG X) 0, (17, .inl (M.2.1 24)))) := by rw [hE1, up_n (Ne.symm (fun q => by cases hX.2 9 24 (by decide) (by decide) q))]; exact Y24
    have Y25_h1 : h1 (D 25) = some (.inl (gA (xG X) 0, (51, .inl (M.2.1 25)))) := by rw [hE1, up_n (Ne.symm (fun q => by cases hX.2 9 25 (by decide) (by decide) q))]; exact Y25
    have Y26_h1 : h1 (D 26) = some (.inl (gA (xG X) 0, (17, .inl (M.2.1 26)))) := by rw [hE1, up_n (Ne.symm (fun q => by cases hX.2 9 26 (by decide) (by decide) q))]; exact Y26
    have Y27_h1 : h1 (D 27) = some (.inl (gA (xG X) 0, (800, .inl (M.2.1 27)))) := by rw [hE1, up_n (Ne.symm (fun q => by cases hX.2 9 27 (by decide) (by decide) q))]; exact Y27
    have Y28_h1 : h1 (D 28) = some (.inl (gA (xG X) 0, (800, .inl (M.2.1 28)))) := by rw [hE1, up_n (Ne.symm (fun q => by cases hX.2 9 28 (by decide) (by decide) q))]; exact Y28
    have Y29_h1 : h1 (D 29) = some (.inl (gA (xG X) 0, (800, .inl (M.2.1 29)))) := by rw [hE1, up_n (Ne.symm (fun q => by cases hX.2 9 29 (by decide) (by decide) q))]; exact Y29
    have Xs_h1 : h1 (D 10) = some (.inr (5, [.ref (D 40), .ref (D 41), .ref (D 42), .int (M.1 30), .int (M.1 31)])) := by rw [hE1, up_n (Ne.symm (fun q => by cases hX.2 9 10 (by decide) (by decide) q))]; exact Xs
    have Xc_h1 : h1 (D 41) = some (.inl (gA (xG X) 0, (16, .inl (fun k => oI (Bp B k))))) := by rw [hE1, up_n (Ne.symm (fun q => by cases hX.2 9 41 (by decide) (by decide) q))]; exact Xc
    have X9_h1 : h1 (D 9) = some (.inl (gA (xG X) 0, (800, .inl (upd (ndV B (M.1 31) T (M.2.1 9) (T.2.1 23 k) j) (T.2.1 23 k + j) (rkI B (M.1 31) (ndV B (M.1 31) T (M.2.1 9) (T.2.1 23 k) j) (T.2.1 27 (T.2.1 23 k + j)) (T.2.1 28 (T.2.1 23 k + j)) (T.2.1 29 (T.2.1 23 k + j))))))) := by rw [hE1]; exact up_s
    refine ww_iinc (lv' := [(3, .int (nI (T.2.1 23 k + j + 1))), (0, .ref (D 0)), (1, .ref (D 10)), (2, .int (nI k))]) C dX4_carryOut_61 0 rfl (inc_n _) (by decide) rfl ?_
    refine ww_goto (tgt := 10) C dX4_carryOut_64 (by decide) ?_
    refine ww_h (h' := up h (D 9) (cI (xG X) 800 (ndV B (M.1 31) T (M.2.1 9) (T.2.1 23 k) (j + 1)))) (by rw [hE1, up_up]; rfl) ?_
    exact ww_lv (lv' := [(3, .int (nI (T.2.1 23 k + (j + 1)))), (0, .ref (D 0)), (1, .ref (D 10)), (2, .int (nI k))]) (by rfl) ih
set_option maxHeartbeats 2000000 in
theorem ct_X4_carryOut_a {l : Launch} {Γ : Gm} (hl : l.flags = flags0) (hΓ : GOK Γ) {z : ZR} {h : AH} {B : GB} {M : MS} {D : Nat → Nat} {T : TD} {k : Nat} (hz : zle (cst Γ) z) (hX : Mx Γ h D M) (hb : MBd M 32 43 B) (hC : BC B) (hT : TdP M T) (hS : TdS B T) (hk : k < T.1.1) : Ct l Γ yX4_carryOut cX4_carryOut 4 (some .boolean) 9 0 0 [.ref (D 0), .ref (D 11), .int (nI k)] z h (Rv (fun v z' h' => v = .int (bI (coB B T (coV B (M.1 33) T (M.2.1 9) k) k).1) ∧ z' = z ∧ ∃ M', Mst 32 43 M M' ∧ MBd M' 32 43 (coB B T (coV B (M.1 33) T (M.2.1 9) k) k).2 ∧ Mx Γ h' D M' ∧ FrD h h' D)) := by
  refine Ct.of hl hΓ (by decide +kernel) (Nat.le_of_ble_eq_true rfl) (fun X e1 e2 C => ?_)
  subst e1; subst e2
  have C : Cx X cX4_carryOut 4 "RingDominoModel" "carryOut" (some .boolean) [] 9 := C
  have hB := hC.1
  obtain ⟨⟨⟨c1, c2⟩, ⟨r1, r2⟩⟩, t1, bl1, bu1, bp1, bn1⟩ := id hB
  obtain ⟨s1, s2, s3⟩ := id hS
  obtain ⟨k1, k2, k3, k4, k5, k6, k7⟩ := s3 k hk
  obtain ⟨e1, e2, e3, e4, e5⟩ := id hT
  show WW X (Rv (fun v z' h' => v = .int (bI (coB B T (coV B (M.1 33) T (M.2.1 9) k) k).1) ∧ z' = z ∧ ∃ M', Mst 32 43 M M' ∧ MBd M' 32 43 (coB B T (coV B (M.1 33) T (M.2.1 9) k) k).2 ∧ Mx (xG X) h' D M' ∧ FrD h h' D)) z h 0 0 0 [(0, .ref (D 0)), (1, .ref (D 11)), (2, .int (nI k))] []
  refine ww_h (h' := up h (D 9) (cI (xG X) 800 (M.2.1 9))) (up_id (hX.1 9 (by decide))).symm ?_
  have hX1 : Mx (xG X) (up h (D 9) (cI (xG X) 800 (M.2.1 9))) D (M.1, va_up M.2.1 9 (M.2.1 9), M.2.2) := hX.r (i := 9) (by decide)
  have hb1 : MBd (M.1, va_up M.2.1 9 (M.2.1 9), M.2.2) 32 43 B := hb.v (by decide)
  have X0 := hX1.m
  have X7 : (up h (D 9) (cI (xG X) 800 (M.2.1 9))) (D 7) = some (cTd (M.1 20) (M.1 21) (M.1 22) (M.1 23) (M.1 24) (fun i => D (20 + i))) := hX1.1 7 (by decide)
  have X9 : (up h (D 9) (cI (xG X) 800 (M.2.1 9))) (D 9) = some (cI (xG X) 800 (M.2.1 9)) := up_s
  have Y21 : (up h (D 9) (cI (xG X) 800 (M.2.1 9))) (D 21) = some (cI (xG X) 17 (M.2.1 21)) := hX1.1 21 (by decide)
  have Y22 : (up h (D 9) (cI (xG X) 800 (M.2.1 9))) (D 22) = some (cI (xG X) 17 (M.2.1 22)) := hX1.1 22 (by decide)
  have Y23 : (up h (D 9) (cI (xG X) 800 (M.2.1 9))) (D 23) = some (cI (xG X) 17 (M.2.1 23)) := hX1.1 23 (by decide)
  have Y24 : (up h (D 9) (cI (xG X) 800 (M.2.1 9))) (D 24) = some (cI (xG X) 17 (M.2.1 24)) := hX1.1 24 (by decide)
  have Y25 : (up h (D 9) (cI (xG X) 800 (M.2.1 9))) (D 25) = some (cI (xG X) 51 (M.2.1 25)) := hX1.1 25 (by decide)
  have Y26 : (up h (D 9) (cI (xG X) 800 (M.2.1 9))) (D 26) = some (cI (xG X) 17 (M.2.1 26)) := hX1.1 26 (by decide)
  have Y27 : (up h (D 9) (cI (xG X) 800 (M.2.1 9))) (D 27) = some (cI (xG X) 800 (M.2.1 27)) := hX1.1 27 (by decide)
  have Y28 : (up h (D 9) (cI (xG X) 800 (M.2.1 9))) (D 28) = some (cI (xG X) 800 (M.2.1 28)) := hX1.1 28 (by decide)
  have Y29 : (up h (D 9) (cI (xG X) 800 (M.2.1 9))) (D 29) = some (cI (xG X) 800 (M.2.1 29)) := hX1.1 29 (by decide)
  have Xs : (up h (D 9) (cI (xG X) 800 (M.2.1 9))) (D 11) = some (cSt (fun i => D (43 + i)) (M.1 32) (M.1 33)) := hX1.1 11 (by decide)
  have Xc : (up h (D 9) (cI (xG X) 800 (M.2.1 9))) (D 44) = some (cI (xG X) 16 (fun k => oI (Bp B k))) := by have := hX1.1 44 (by decide); have e9 := hb1.2.2.2.2.2.2.1; rw [this]; show some (cI (xG X) 16 _) = _; rw [e9]
  refine ww_aload_n C dX4_carryOut_0 rfl 0 rfl rfl ?_
  refine gf_X4_35_X4 C dX4_carryOut_1 (Or.inl X0) rfl ?_
  refine gf_X4_223_X5 C dX4_carryOut_4 (Or.inl X7) rfl ?_
  refine ww_iload_n C dX4_carryOut_7 rfl 2 rfl ?_
  refine ww_iald C dX4_carryOut_8 (Or.inl Y23) (by omega) (by decide) ?_
  refine ww_st (st' := [.int (nI (T.2.1 23 k + 0))]) (by rw [e2 23 k (by decide) hk]; try rfl) ?_
  refine ww_istore_n (lv' := [(3, .int (nI (T.2.1 23 k + 0))), (0, .ref (D 0)), (1, .ref (D 11)), (2, .int (nI k))]) C dX4_carryOut_9 rfl (by decide) rfl ?_
  refine loop_up (N := (T.2.1 24 k - T.2.1 23 k)) (M := fun j => WW X (Rv (fun v z' h' => v = .int (bI (coB B T (coV B (M.1 33) T (M.2.1 9) k) k).1) ∧ z' = z ∧ ∃ M', Mst 32 43 M M' ∧ MBd M' 32 43 (coB B T (coV B (M.1 33) T (M.2.1 9) k) k).2 ∧ Mx (xG X) h' D M' ∧ FrD h h' D)) z (up h (D 9) (cI (xG X) 800 (ndV B (M.1 33) T (M.2.1 9) (T.2.1 23 k) j))) 0 0 10 [(3, .int (nI (T.2.1 23 k + j))), (0, .ref (D 0)), (1, .ref (D 11)), (2, .int (nI k))] []) ?_ ?_ 0 (Nat.zero_le _) 
  · skip
    show WW X (Rv (fun v z' h' => v = .int (bI (coB B T (coV B (M.1 33) T (M.2.1 9) k) k).1) ∧ z' = z ∧ ∃ M', Mst 32 43 M M' ∧ MBd M' 32 43 (coB B T (coV B (M.1 33) T (M.2.1 9) k) k).2 ∧ Mx (xG X) h' D M' ∧ FrD h h' D)) z (up h (D 9) (cI (xG X) 800 (ndV B (M.1 33) T (M.2.1 9) (T.2.1 23 k) (T.2.1 24 k - T.2.1 23 k)))) 0 0 10 [(3, .int (nI (T.2.1 23 k + (T.2.1 24 k - T.2.1 23 k)))), (0, .ref (D 0)), (1, .ref (D 11)), (2, .int (nI k))] []
    have hX1 : Mx (xG X) (up h (D 9) (cI (xG X) 800 (ndV B (M.1 33) T (M.2.1 9) (T.2.1 23 k) (T.2.1 24 k - T.2.1 23 k)))) D (M.1, va_up M.2.1 9 (ndV B (M.1 33) T (M.2.1 9) (T.2.1 23 k) (T.2.1 24 k - T.2.1 23 k)), M.2.2) := hX.r (i := 9) (by decide)
    have hb1 : MBd (M.1, va_up M.2.1 9 (ndV B (M.1 33) T (M.2.1 9) (T.2.1 23 k) (T.2.1 24 k - T.2.1 23 k)), M.2.2) 32 43 B := hb.v (by decide)
    have X0 := hX1.m
    have X7 : (up h (D 9) (cI (xG X) 800 (ndV B (M.1 33) T (M.2.1 9) (T.2.1 23 k) (T.2.1 24 k - T.2.1 23 k)))) (D 7) = some (cTd (M.1 20) (M.1 21) (M.1 22) (M.1 23) (M.1 24) (fun i => D (20 + i))) := hX1.1 7 (by decide)
    have X9 : (up h (D 9) (cI (xG X) 800 (ndV B (M.1 33) T (M.2.1 9) (T.2.1 23 k) (T.2.1 24 k - T.2.1 23 k)))) (D 9) = some (cI (xG X) 800 (ndV B (M.1 33) T (M.2.1 9) (T.2.1 23 k) (T.2.1 24 k - T.2.1 23 k))) := up_s
    have Y21 : (up h (D 9) (cI (xG X) 800 (ndV B (M.1 33) T (M.2.1 9) (T.2.1 23 k) (T.2.1 24 k - T.2.1 23 k)))) (D 21) = some (cI (xG X) 17 (M.2.1 21)) := hX1.1 21 (by decide)
    have Y22 : (up h (D 9) (cI (xG X) 800 (ndV B (M.1 33) T (M.2.1 9) (T.2.1 23 k) (T.2.1 24 k - T.2.1 23 k)))) (D 22) = some (cI (xG X) 17 (M.2.1 22)) := hX1.1 22 (by decide)
    have Y23 : (up h (D 9) (cI (xG X) 800 (ndV B (M.1 33) T (M.2.1 9) (T.2.1 23 k) (T.2.1 24 k - T.2.1 23 k)))) (D 23) = some (cI (xG X) 17 (M.2.1 23)) := hX1.1 23 (by decide)
    have Y24 : (up h (D 9) (cI (xG X) 800 (ndV B (M.1 33) T (M.2.1 9) (T.2.1 23 k) (T.2.1 24 k - T.2.1 23 k)))) (D 24) = some (cI (xG X) 17 (M.2.1 24)) := hX1.1 24 (by decide)
    have Y25 : (up h (D 9) (cI (xG X) 800 (ndV B (M.1 33) T (M.2.1 9) (T.2.1 23 k) (T.2.1 24 k - T.2.1 23 k)))) (D 25) = some (cI (xG X) 51 (M.2.1 25)) := hX1.1 25 (by decide)
    have Y26 : (up h (D 9) (cI (xG X) 800 (ndV B (M.1 33) T (M.2.1 9) (T.2.1 23 k) (T.2.1 24 k - T.2.1 23 k)))) (D 26) = some (cI (xG X) 17 (M.2.1 26)) := hX1.1 26 (by decide)
    have Y27 : (up h (D 9) (cI (xG X) 800 (ndV B (M.1 33) T (M.2.1 9) (T.2.1 23 k) (T.2.1 24 k - T.2.1 23 k)))) (D 27) = some (cI (xG X) 800 (M.2.1 27)) := hX1.1 27 (by decide)
    have Y28 : (up h (D 9) (cI (xG X) 800 (ndV B (M.1 33) T (M.2.1 9) (T.2.1 23 k) (T.2.1 24 k - T.2.1 23 k)))) (D 28) = some (cI (xG X) 800 (M.2.1 28)) := hX1.1 28 (by decide)
    have Y29 : (up h (D 9) (cI (xG X) 800 (ndV B (M.1 33) T (M.2.1 9) (T.2.1 23 k) (T.2.1 24 k - T.2.1 23 k)))) (D 29) = some (cI (xG X) 800 (M.2.1 29)) := hX1.1 29 (by decide)
    have Xs : (up h (D 9) (cI (xG X) 800 (ndV B (M.1 33) T (M.2.1 9) (T.2.1 23 k) (T.2.1 24 k - T.2.1 23 k)))) (D 11) = some (cSt (fun i => D (43 + i)) (M.1 32) (M.1 33)) := hX1.1 11 (by decide)
    have Xc : (up h (D 9) (cI (xG X) 800 (ndV B (M.1 33) T (M.2.1 9) (T.2.1 23 k) (T.2.1 24 k - T.2.1 23 k)))) (D 44) = some (cI (xG X) 16 (fun k => oI (Bp B k))) := by have := hX1.1 44 (by decide); have e9 := hb1.2.2.2.2.2.2.1; rw [this]; show some (cI (xG X) 16 _) = _; rw [e9]
    have hle : T.2.1 23 k + (T.2.1 24 k - T.2.1 23 k) = T.2.1 24 k := by omega
    refine ww_iload_n C dX4_carryOut_10 rfl 0 rfl ?_
    refine ww_aload_n C dX4_carryOut_11 rfl 1 rfl rfl ?_
    refine gf_X4_35_X4 C dX4_carryOut_12 (Or.inl X0) rfl ?_
    refine gf_X4_237_X5 C dX4_carryOut_15 (Or.inl X7) rfl ?_
    refine ww_iload_n C dX4_carryOut_18 rfl 3 rfl ?_
    refine ww_iald C dX4_carryOut_19 (Or.inl Y24) (by omega) (by decide) ?_
    refine ww_st (st' := [.int (nI (T.2.1 24 k)), .int (nI (T.2.1 23 k + (T.2.1 24 k - T.2.1 23 k)))]) (by rw [e2 24 k (by decide) hk]; try rfl) ?_
    refine ww_icmp_ge_t (tgt := 67) C dX4_carryOut_20 (by decide) (nI_le (by omega) (by omega)) ?_
    have hcv : (ndV B (M.1 33) T (M.2.1 9) (T.2.1 23 k) (T.2.1 24 k - T.2.1 23 k)) = coV B (M.1 33) T (M.2.1 9) k := rfl
    refine ww_aload_n C dX4_carryOut_67 rfl 1 rfl rfl ?_
    refine gf_X4_35_X4 C dX4_carryOut_68 (Or.inl X0) rfl ?_
    refine gf_X4_235_X5 C dX4_carryOut_71 (Or.inl X7) rfl ?_
    refine ww_iload_n C dX4_carryOut_74 rfl 3 rfl ?_
    refine ww_iald C dX4_carryOut_75 (Or.inl Y26) (by omega) (by decide) ?_
    refine ww_st (st' := [.int (oI (T.2.2 k))]) (by rw [e4 k hk]; try rfl) ?_
    refine ww_iconst C dX4_carryOut_76 cI_m1 ?_
    refine ww_icmp_eq_o (tgt := 99) C dX4_carryOut_77 (by decide) (fun y q => Nat.lt_trans (k6 y q) (by decide)) (fun c_77 => ?_) (fun c_77 => ?_)
    · skip
      have hte : teB T (coV B (M.1 33) T (M.2.1 9) k) k = true := by unfold teB; rw [c_77]
      refine ww_aload_n C dX4_carryOut_99 rfl 1 rfl rfl ?_
      refine gf_X4_35_X4 C dX4_carryOut_100 (Or.inl X0) rfl ?_
      refine gf_X4_229_X5 C dX4_carryOut_103 (Or.inl X7) rfl ?_
      refine ww_iload_n C dX4_carryOut_106 rfl 3 rfl ?_
      refine ww_iald C dX4_carryOut_107 (Or.inl Y22) (by omega) (by decide) ?_
      refine ww_st (st' := [.int (nI (T.2.1 22 k))]) (by rw [e2 22 k (by decide) hk]; try rfl) ?_
      refine ww_istore_n (lv' := [(3, .int (nI (T.2.1 22 k))), (0, .ref (D 0)), (1, .ref (D 11)), (2, .int (nI k))]) C dX4_carryOut_108 rfl (by decide) rfl ?_
      refine ww_aload_n C dX4_carryOut_109 rfl 1 rfl rfl ?_
      refine gf_X4_35_X4 C dX4_carryOut_110 (Or.inl X0) rfl ?_
      refine gf_X4_226_X5 C dX4_carryOut_113 (Or.inl X7) rfl ?_
      refine ww_iload_n C dX4_carryOut_116 rfl 3 rfl ?_
      refine ww_iald C dX4_carryOut_117 (Or.inl Y21) (by omega) (by decide) ?_
      refine ww_st (st' := [.int (nI (T.2.1 21 k))]) (by rw [e2 21 k (by decide) hk]; try rfl) ?_
      refine ww_iconst C dX4_carryOut_118 cI_2 ?_
      refine ww_icmp_ne_n (tgt := 129) C dX4_carryOut_119 (by decide) (by omega) (by decide) (fun c_119 => ?_) (fun c_119 => ?_)
      · skip
        refine ww_aload_n C dX4_carryOut_129 rfl 1 rfl rfl ?_
        refine gf_X4_35_X4 C dX4_carryOut_130 (Or.inl X0) rfl ?_
        refine gf_X4_226_X5 C dX4_carryOut_133 (Or.inl X7) rfl ?_
        refine ww_iload_n C dX4_carryOut_136 rfl 3 rfl ?_
        refine ww_iald C dX4_carryOut_137 (Or.inl Y21) (by omega) (by decide) ?_
        refine ww_st (st' := [.int (nI (T.2.1 21 k))]) (by rw [e2 21 k (by decide) hk]; try rfl) ?_
        refine ww_if_ne_n (tgt := 200) C dX4_carryOut_138 (by decide) (by omega) (fun c_138 => ?_) (fun c_138 => ?_)
        · skip
          have hd1 : T.2.1 21 k = 1 := by omega
          refine ww_aload_n C dX4_carryOut_200 rfl 2 rfl rfl ?_
          refine gf_X4_293_X6 C dX4_carryOut_201 (Or.inl Xs) rfl ?_
          refine ww_iload_n C dX4_carryOut_204 rfl 0 rfl ?_
          refine ww_iald C dX4_carryOut_205 (Or.inl Xc) (by omega) (by decide) ?_
          refine ww_iconst C dX4_carryOut_206 cI_m1 ?_
          refine ww_icmp_ne_o (tgt := 212) C dX4_carryOut_207 (by decide) (fun y q => Nat.lt_trans (bp1 _ y q) (by decide)) (fun c_207 => ?_) (fun c_207 => ?_)
          · skip
            obtain ⟨y, hy⟩ := Option.ne_none_iff_exists'.mp c_207
            have hco : coB B T (coV B (M.1 33) T (M.2.1 9) k) k = (true, takB B (T.2.1 22 k)) := by unfold coB; rw [hte]; simp only [hd1, hy]
            refine ww_aload_n C dX4_carryOut_212 rfl 2 rfl rfl ?_
            refine ww_iload_n C dX4_carryOut_213 rfl 0 rfl ?_
            refine cv_X4_378_q (As := [.int (nI (T.2.1 22 k))]) (rest := []) C dX4_carryOut_214 (ct_X6_take_a (Cx.fl C) (Cx.ok C) (x := y) hX1 (by omega) (bp1 _ y hy) (by rw [hb1.2.2.2.2.2.2.1]; show oI (Bp B _) = _; rw [hy]; rfl)) (rc_X6 (Cx.ok C) (Or.inl Xs)) rfl rfl (Nat.le_of_ble_eq_true rfl) (by decide) (Nat.zero_le _) (Nat.zero_le _) (fun z9 h9 q => ?_)
            obtain ⟨hq1, hX9, hF9⟩ := q; replace hq1 := hq1.symm; subst hq1
            refine ww_iconst C dX4_carryOut_217 cI_1 ?_
            exact ww_zret C dX4_carryOut_218 nar_z1 ⟨by rw [hco]; try rfl, rfl, _, Mst.v.tr Mst.k, by rw [hco]; exact (MBd_tak hb1 hC (by decide) hy), hX9, (FrD.tr (FrD.w FrD.rf (i := 9) (by decide)) hF9)⟩
          · skip
            have hco : coB B T (coV B (M.1 33) T (M.2.1 9) k) k = (false, B) := by unfold coB; rw [hte]; simp only [hd1, c_207]
            refine ww_iconst C dX4_carryOut_210 cI_0 ?_
            exact ww_zret C dX4_carryOut_211 nar_z0 ⟨by rw [hco]; try rfl, rfl, (M.1, va_up M.2.1 9 (ndV B (M.1 33) T (M.2.1 9) (T.2.1 23 k) (T.2.1 24 k - T.2.1 23 k)), M.2.2), Mst.v, by rw [hco]; exact hb1, hX1, FrD.w FrD.rf (i := 9) (by decide)⟩
        · skip
          have s0 := k7 c_138 0 (by decide)
          have s1_ := k7 c_138 1 (by decide)
          have s2_ := k7 c_138 2 (by decide)
          refine ww_aload_n C dX4_carryOut_141 rfl 1 rfl rfl ?_
          refine ww_aload_n C dX4_carryOut_142 rfl 2 rfl rfl ?_
          refine ww_iload_n C dX4_carryOut_143 rfl 0 rfl ?_
          refine ww_aload_n C dX4_carryOut_144 rfl 1 rfl rfl ?_
          refine gf_X4_42_X4 C dX4_carryOut_145 (Or.inl X0) rfl ?_
          refine ww_aload_n C dX4_carryOut_148 rfl 1 rfl rfl ?_
          refine gf_X4_35_X4 C dX4_carryOut_149 (Or.inl X0) rfl ?_
          refine gf_X4_232_X5 C dX4_carryOut_152 (Or.inl X7) rfl ?_
          refine ww_iconst C dX4_carryOut_155 cI_3 ?_
          refine ww_iload_n C dX4_carryOut_156 rfl 3 rfl ?_
          refine ww_imuln C dX4_carryOut_157 ?_
          refine ww_iald C dX4_carryOut_158 (Or.inl Y25) (by omega) (by decide) ?_
          refine ww_st (st' := [.int (nI (T.2.1 25 (3 * k))), .ref (D 9), .int (nI (T.2.1 22 k)), .ref (D 11), .ref (D 0)]) (by rw [show M.2.1 25 (3 * k) = _ from e3 k 0 hk c_138 (by decide)]; try rfl) ?_
          refine ww_iald C dX4_carryOut_159 (Or.inl X9) (by omega) (by decide) ?_
          refine ww_aload_n C dX4_carryOut_160 rfl 1 rfl rfl ?_
          refine gf_X4_42_X4 C dX4_carryOut_161 (Or.inl X0) rfl ?_
          refine ww_aload_n C dX4_carryOut_164 rfl 1 rfl rfl ?_
          refine gf_X4_35_X4 C dX4_carryOut_165 (Or.inl X0) rfl ?_
          refine gf_X4_232_X5 C dX4_carryOut_168 (Or.inl X7) rfl ?_
          refine ww_iconst C dX4_carryOut_171 cI_3 ?_
          refine ww_iload_n C dX4_carryOut_172 rfl 3 rfl ?_
          refine ww_imuln C dX4_carryOut_173 ?_
          refine ww_iconst C dX4_carryOut_174 cI_1 ?_
          refine ww_iaddn C dX4_carryOut_175 ?_
          refine ww_iald C dX4_carryOut_176 (Or.inl Y25) (by omega) (by decide) ?_
          refine ww_st (st' := [.int (nI (T.2.1 25 (3 * k + 1))), .ref (D 9), .int ((ndV B (M.1 33) T (M.2.1 9) (T.2.1 23 k) (T.2.1 24 k - T.2.1 23 k)) (T.2.1 25 (3 * k))), .int (nI (T.2.1 22 k)), .ref (D 11), .ref (D 0)]) (by rw [e3 k 1 hk c_138 (by decide)]) ?_
          refine ww_iald C dX4_carryOut_177 (Or.inl X9) (by omega) (by decide) ?_
          refine ww_aload_n C dX4_carryOut_178 rfl 1 rfl rfl ?_
          refine gf_X4_42_X4 C dX4_carryOut_179 (Or.inl X0) rfl ?_
          refine ww_aload_n C dX4_carryOut_182 rfl 1 rfl rfl ?_
          refine gf_X4_35_X4 C dX4_carryOut_183 (Or.inl X0) rfl ?_
          refine gf_X4_232_X5 C dX4_carryOut_186 (Or.inl X7) rfl ?_
          refine ww_iconst C dX4_carryOut_189 cI_3 ?_
          refine ww_iload_n C dX4_carryOut_190 rfl 3 rfl ?_
          refine ww_imuln C dX4_carryOut_191 ?_
          refine ww_iconst C dX4_carryOut_192 cI_2 ?_
          refine ww_iaddn C dX4_carryOut_193 ?_
          refine ww_iald C dX4_carryOut_194 (Or.inl Y25) (by omega) (by decide) ?_
          refine ww_st (st' := [.int (nI (T.2.1 25 (3 * k + 2))), .ref (D 9), .int ((ndV B (M.1 33) T (M.2.1 9) (T.2.1 23 k) (T.2.1 24 k - T.2.1 23 k)) (T.2.1 25 (3 * k + 1))), .int ((ndV B (M.1 33) T (M.2.1 9) (T.2.1 23 k) (T.2.1 24 k - T.2.1 23 k)) (T.2.1 25 (3 * k))), .int (nI (T.2.1 22 k)), .ref (D 11), .ref (D 0)]) (by rw [e3 k 2 hk c_138 (by decide)]) ?_
          refine ww_iald C dX4_carryOut_195 (Or.inl X9) (by omega) (by decide) ?_
          refine cv_X4_374_q (As := [.ref (D 11), .int (nI (T.2.1 22 k)), .int ((ndV B (M.1 33) T (M.2.1 9) (T.2.1 23 k) (T.2.1 24 k - T.2.1 23 k)) (T.2.1 25 (3 * k))), .int ((ndV B (M.1 33) T (M.2.1 9) (T.2.1 23 k) (T.2.1 24 k - T.2.1 23 k)) (T.2.1 25 (3 * k + 1))), .int ((ndV B (M.1 33) T (M.2.1 9) (T.2.1 23 k) (T.2.1 24 k - T.2.1 23 k)) (T.2.1 25 (3 * k + 2)))]) (rest := []) C dX4_carryOut_196 (ct_X4_isPut_a (Cx.fl C) (Cx.ok C) hz hX1 hb1 hC k3) (rc_X4 (Cx.ok C) (Or.inl X0)) rfl rfl (Nat.le_of_ble_eq_true rfl) (by decide) (Nat.zero_le _) (Nat.zero_le _) (fun v z9 h9 q => ?_)
          obtain ⟨rfl, hq1, hX9, hF9⟩ := q; replace hq1 := hq1.symm; subst hq1
          cases hft : ftN B (T.2.1 22 k) (fmN ((ndV B (M.1 33) T (M.2.1 9) (T.2.1 23 k) (T.2.1 24 k - T.2.1 23 k)) (T.2.1 25 (3 * k + 1))) (Br B) * Bc B + fmN ((ndV B (M.1 33) T (M.2.1 9) (T.2.1 23 k) (T.2.1 24 k - T.2.1 23 k)) (T.2.1 25 (3 * k))) (Bc B)) (fmN ((ndV B (M.1 33) T (M.2.1 9) (T.2.1 23 k) (T.2.1 24 k - T.2.1 23 k)) (T.2.1 25 (3 * k + 2))) 6) with
          | false =>
            unfold tryM at hX9; rw [hft] at hX9
            have hco : coB B T (coV B (M.1 33) T (M.2.1 9) k) k = (false, B) := by unfold coB; rw [hte]; simp only [c_138]; rw [← hcv, hft]
            exact ww_zret C dX4_carryOut_199 (nar_bI _) ⟨by rw [hco]; try rfl, rfl, _, Mst.v, by rw [hco]; exact hb1, hX9, (FrD.tr (FrD.w FrD.rf (i := 9) (by decide)) hF9)⟩
          | true =>
            unfold tryM at hX9; rw [hft] at hX9
            have hco : coB B T (coV B (M.1 33) T (M.2.1 9) k) k = (true, putB B (T.2.1 22 k) (fmN ((ndV B (M.1 33) T (M.2.1 9) (T.2.1 23 k) (T.2.1 24 k - T.2.1 23 k)) (T.2.1 25 (3 * k + 1))) (Br B) * Bc B + fmN ((ndV B (M.1 33) T (M.2.1 9) (T.2.1 23 k) (T.2.1 24 k - T.2.1 23 k)) (T.2.1 25 (3 * k))) (Bc B)) (fmN ((ndV B (M.1 33) T (M.2.1 9) (T.2.1 23 k) (T.2.1 24 k - T.2.1 23 k)) (T.2.1 25 (3 * k + 2))) 6)) := by unfold coB; rw [hte]; simp only [c_138]; rw [← hcv, hft]; try rfl
            have hcl := cel_lt (B := B) (fm_lt (x := (ndV B (M.1 33) T (M.2.1 9) (T.2.1 23 k) (T.2.1 24 k - T.2.1 23 k)) (T.2.1 25 (3 * k + 1))) (m := Br B) (by omega)) (fm_lt (x := (ndV B (M.1 33) T (M.2.1 9) (T.2.1 23 k) (T.2.1 24 k - T.2.1 23 k)) (T.2.1 25 (3 * k))) (m := Bc B) (by omega))
            exact ww_zret C dX4_carryOut_199 (nar_bI _) ⟨by rw [hco]; try rfl, rfl, _, Mst.v.tr Mst.p, by rw [hco]; exact (MBd_put hb1 (by decide) hcl (ftN_d hft).1), hX9, (FrD.tr (FrD.w FrD.rf (i := 9) (by decide)) hF9)⟩
      · skip
        refine ww_aload_n C dX4_carryOut_122 rfl 1 rfl rfl ?_
        refine ww_aload_n C dX4_carryOut_123 rfl 2 rfl rfl ?_
        refine ww_iload_n C dX4_carryOut_124 rfl 0 rfl ?_
        refine cv_X4_371_q (As := [.ref (D 11), .int (nI (T.2.1 22 k))]) (rest := []) C dX4_carryOut_125 (ct_X4_isFitted_a (Cx.fl C) (Cx.ok C) hz hX1 hb1 hC k3) (rc_X4 (Cx.ok C) (Or.inl X0)) rfl rfl (Nat.le_of_ble_eq_true rfl) (by decide) (Nat.zero_le _) (Nat.zero_le _) (fun v z9 h9 q => ?_)
        obtain ⟨rfl, hq1, hX9, hF9⟩ := q; replace hq1 := hq1.symm; subst hq1
        have hd2 : T.2.1 21 k = 2 := c_119
        cases hfw : fwN B (T.2.1 22 k) with
        | none =>
          unfold fitM at hX9; rw [hfw] at hX9
          have hco : coB B T (coV B (M.1 33) T (M.2.1 9) k) k = (false, B) := by unfold coB; rw [hte]; simp only [hd2, hfw]
          exact ww_zret C dX4_carryOut_128 (nar_bI _) ⟨by rw [hco]; try rfl, rfl, _, Mst.v, by rw [hco]; exact hb1, hX9, (FrD.tr (FrD.w FrD.rf (i := 9) (by decide)) hF9)⟩
        | some y =>
          unfold fitM at hX9; rw [hfw] at hX9
          have hco : coB B T (coV B (M.1 33) T (M.2.1 9) k) k = (true, putB B (T.2.1 22 k) (y / 6) (y % 6)) := by unfold coB; rw [hte]; simp only [hd2, hfw]
          have hyl := (ff_lt _ _ _ hfw).1
          have hfy : ftN B (T.2.1 22 k) (y / 6) (y % 6) = true := (ff_lt _ _ _ hfw).2
          exact ww_zret C dX4_carryOut_128 (nar_bI _) ⟨by rw [hco]; try rfl, rfl, _, Mst.v.tr Mst.p, by rw [hco]; exact (MBd_put hb1 (by decide) (by omega) (ftN_d hfy).1), hX9, (FrD.tr (FrD.w FrD.rf (i := 9) (by decide)) hF9)⟩
    · skip
      obtain ⟨t, ht⟩ := Option.ne_none_iff_exists'.mp c_77
      have ht8 := k6 t ht
      refine ww_aload_n C dX4_carryOut_80 rfl 1 rfl rfl ?_
      refine gf_X4_42_X4 C dX4_carryOut_81 (Or.inl X0) rfl ?_
      refine ww_aload_n C dX4_carryOut_84 rfl 1 rfl rfl ?_
      refine gf_X4_35_X4 C dX4_carryOut_85 (Or.inl X0) rfl ?_
      refine gf_X4_235_X5 C dX4_carryOut_88 (Or.inl X7) rfl ?_
      refine ww_iload_n C dX4_carryOut_91 rfl 3 rfl ?_
      refine ww_iald C dX4_carryOut_92 (Or.inl Y26) (by omega) (by decide) ?_
      refine ww_st (st' := [.int (nI t), .ref (D 9)]) (by rw [show M.2.1 26 k = nI t from by rw [e4 k hk, ht]; rfl]; try rfl) ?_
      refine ww_iald C dX4_carryOut_93 (Or.inl X9) (by omega) (by decide) ?_
      refine ww_if_ne (tgt := 99) C dX4_carryOut_94 (by decide) (fun c_94 => ?_) (fun c_94 => ?_)
      · skip
        have hte : teB T (coV B (M.1 33) T (M.2.1 9) k) k = true := by unfold teB; rw [ht]; exact decide_eq_true c_94
        refine ww_aload_n C dX4_carryOut_99 rfl 1 rfl rfl ?_
        refine gf_X4_35_X4 C dX4_carryOut_100 (Or.inl X0) rfl ?_
        refine gf_X4_229_X5 C dX4_carryOut_103 (Or.inl X7) rfl ?_
        refine ww_iload_n C dX4_carryOut_106 rfl 3 rfl ?_
        refine ww_iald C dX4_carryOut_107 (Or.inl Y22) (by omega) (by decide) ?_
        refine ww_st (st' := [.int (nI (T.2.1 22 k))]) (by rw [e2 22 k (by decide) hk]; try rfl) ?_
        refine ww_istore_n (lv' := [(3, .int (nI (T.2.1 22 k))), (0, .ref (D 0)), (1, .ref (D 11)), (2, .int (nI k))]) C dX4_carryOut_108 rfl (by decide) rfl ?_
        refine ww_aload_n C dX4_carryOut_109 rfl 1 rfl rfl ?_
        refine gf_X4_35_X4 C dX4_carryOut_110 (Or.inl X0) rfl ?_
        refine gf_X4_226_X5 C dX4_carryOut_113 (Or.inl X7) rfl ?_
        refine ww_iload_n C dX4_carryOut_116 rfl 3 rfl ?_
        refine ww_iald C dX4_carryOut_117 (Or.inl Y21) (by omega) (by decide) ?_
        refine ww_st (st' := [.int (nI (T.2.1 21 k))]) (by rw [e2 21 k (by decide) hk]; try rfl) ?_
        refine ww_iconst C dX4_carryOut_118 cI_2 ?_
        refine ww_icmp_ne_n (tgt := 129) C dX4_carryOut_119 (by decide) (by omega) (by decide) (fun c_119 => ?_) (fun c_119 => ?_)
        · skip
          refine ww_aload_n C dX4_carryOut_129 rfl 1 rfl rfl ?_
          refine gf_X4_35_X4 C dX4_carryOut_130 (Or.inl X0) rfl ?_
          refine gf_X4_226_X5 C dX4_carryOut_133 (Or.inl X7) rfl ?_
          refine ww_iload_n C dX4_carryOut_136 rfl 3 rfl ?_
          refine ww_iald C dX4_carryOut_137 (Or.inl Y21) (by omega) (by decide) ?_
          refine ww_st (st' := [.int (nI (T.2.1 21 k))]) (by rw [e2 21 k (by decide) hk]; try rfl) ?_
          refine ww_if_ne_n (tgt := 200) C dX4_carryOut_138 (by decide) (by omega) (fun c_138 => ?_) (fun c_138 => ?_)
          · skip
            have hd1 : T.2.1 21 k = 1 := by omega
            refine ww_aload_n C dX4_carryOut_200 rfl 2 rfl rfl ?_
            refine gf_X4_293_X6 C dX4_carryOut_201 (Or.inl Xs) rfl ?_
            refine ww_iload_n C dX4_carryOut_204 rfl 0 rfl ?_
            refine ww_iald C dX4_carryOut_205 (Or.inl Xc) (by omega) (by decide) ?_
            refine ww_iconst C dX4_carryOut_206 cI_m1 ?_
            refine ww_icmp_ne_o (tgt := 212) C dX4_carryOut_207 (by decide) (fun y q => Nat.lt_trans (bp1 _ y q) (by decide)) (fun c_207 => ?_) (fun c_207 => ?_)
            · skip
              obtain ⟨y, hy⟩ := Option.ne_none_iff_exists'.mp c_207
              have hco : coB B T (coV B (M.1 33) T (M.2.1 9) k) k = (true, takB B (T.2.1 22 k)) := by unfold coB; rw [hte]; simp only [hd1, hy]
              refine ww_aload_n C dX4_carryOut_212 rfl 2 rfl rfl ?_
              refine ww_iload_n C dX4_carryOut_213 rfl 0 rfl ?_
              refine cv_X4_378_q (As := [.int (nI (T.2.1 22 k))]) (rest := []) C dX4_carryOut_214 (ct_X6_take_a (Cx.fl C) (Cx.ok C) (x := y) hX1 (by omega) (bp1 _ y hy) (by rw [hb1.2.2.2.2.2.2.1]; show oI (Bp B _) = _; rw [hy]; rfl)) (rc_X6 (Cx.ok C) (Or.inl Xs)) rfl rfl (Nat.le_of_ble_eq_true rfl) (by decide) (Nat.zero_le _) (Nat.zero_le _) (fun z9 h9 q => ?_)
              obtain ⟨hq1, hX9, hF9⟩ := q; replace hq1 := hq1.symm; subst hq1
              refine ww_iconst C dX4_carryOut_217 cI_1 ?_
              exact ww_zret C dX4_carryOut_218 nar_z1 ⟨by rw [hco]; try rfl, rfl, _, Mst.v.tr Mst.k, by rw [hco]; exact (MBd_tak hb1 hC (by decide) hy), hX9, (FrD.tr (FrD.w FrD.rf (i := 9) (by decide)) hF9)⟩
            · skip
              have hco : coB B T (coV B (M.1 33) T (M.2.1 9) k) k = (false, B) := by unfold coB; rw [hte]; simp only [hd1, c_207]
              refine ww_iconst C dX4_carryOut_210 cI_0 ?_
              exact ww_zret C dX4_carryOut_211 nar_z0 ⟨by rw [hco]; try rfl, rfl, (M.1, va_up M.2.1 9 (ndV B (M.1 33) T (M.2.1 9) (T.2.1 23 k) (T.2.1 24 k - T.2.1 23 k)), M.2.2), Mst.v, by rw [hco]; exact hb1, hX1, FrD.w FrD.rf (i := 9) (by decide)⟩
          · skip
            have s0 := k7 c_138 0 (by decide)
            have s1_ := k7 c_138 1 (by decide)
            have s2_ := k7 c_138 2 (by decide)
            refine ww_aload_n C dX4_carryOut_141 rfl 1 rfl rfl ?_
            refine ww_aload_n C dX4_carryOut_142 rfl 2 rfl rfl ?_
            refine ww_iload_n C dX4_carryOut_143 rfl 0 rfl ?_
            refine ww_aload_n C dX4_carryOut_144 rfl 1 rfl rfl ?_
            refine gf_X4_42_X4 C dX4_carryOut_145 (Or.inl X0) rfl ?_
            refine ww_aload_n C dX4_carryOut_148 rfl 1 rfl rfl ?_
            refine gf_X4_35_X4 C dX4_carryOut_149 (Or.inl X0) rfl ?_
            refine gf_X4_232_X5 C dX4_carryOut_152 (Or.inl X7) rfl ?_
            refine ww_iconst C dX4_carryOut_155 cI_3 ?_
            refine ww_iload_n C dX4_carryOut_156 rfl 3 rfl ?_
            refine ww_imuln C dX4_carryOut_157 ?_
            refine ww_iald C dX4_carryOut_158 (Or.inl Y25) (by omega) (by decide) ?_
            refine ww_st (st' := [.int (nI (T.2.1 25 (3 * k))), .ref (D 9), .int (nI (T.2.1 22 k)), .ref (D 11), .ref (D 0)]) (by rw [show M.2.1 25 (3 * k) = _ from e3 k 0 hk c_138 (by decide)]; try rfl) ?_
            refine ww_iald C dX4_carryOut_159 (Or.inl X9) (by omega) (by decide) ?_
            refine ww_aload_n C dX4_carryOut_160 rfl 1 rfl rfl ?_
            refine gf_X4_42_X4 C dX4_carryOut_161 (Or.inl X0) rfl ?_
            refine ww_aload_n C dX4_carryOut_164 rfl 1 rfl rfl ?_
            refine gf_X4_35_X4 C dX4_carryOut_165 (Or.inl X0) rfl ?_
            refine gf_X4_232_X5 C dX4_carryOut_168 (Or.inl X7) rfl ?_
            refine ww_iconst C dX4_carryOut_171 cI_3 ?_
            refine ww_iload_n C dX4_carryOut_172 rfl 3 rfl ?_
            refine ww_imuln C dX4_carryOut_173 ?_
            refine ww_iconst C dX4_carryOut_174 cI_1 ?_
            refine ww_iaddn C dX4_carryOut_175 ?_
            refine ww_iald C dX4_carryOut_176 (Or.inl Y25) (by omega) (by decide) ?_
            refine ww_st (st' := [.int (nI (T.2.1 25 (3 * k + 1))), .ref (D 9), .int ((ndV B (M.1 33) T (M.2.1 9) (T.2.1 23 k) (T.2.1 24 k - T.2.1 23 k)) (T.2.1 25 (3 * k))), .int (nI (T.2.1 22 k)), .ref (D 11), .ref (D 0)]) (by rw [e3 k 1 hk c_138 (by decide)]) ?_
            refine ww_iald C dX4_carryOut_177 (Or.inl X9) (by omega) (by decide) ?_
            refine ww_aload_n C dX4_carryOut_178 rfl 1 rfl rfl ?_
            refine gf_X4_42_X4 C dX4_carryOut_179 (Or.inl X0) rfl ?_
            refine ww_aload_n C dX4_carryOut_182 rfl 1 rfl rfl ?_
            refine gf_X4_35_X4 C dX4_carryOut_183 (Or.inl X0) rfl ?_
            refine gf_X4_232_X5 C dX4_carryOut_186 (Or.inl X7) rfl ?_
            refine ww_iconst C dX4_carryOut_189 cI_3 ?_
            refine ww_iload_n C dX4_carryOut_190 rfl 3 rfl ?_
            refine ww_imuln C dX4_carryOut_191 ?_
            refine ww_iconst C dX4_carryOut_192 cI_2 ?_
            refine ww_iaddn C dX4_carryOut_193 ?_
            refine ww_iald C dX4_carryOut_194 (Or.inl Y25) (by omega) (by decide) ?_
            refine ww_st (st' := [.int (nI (T.2.1 25 (3 * k + 2))), .ref (D 9), .int ((ndV B (M.1 33) T (M.2.1 9) (T.2.1 23 k) (T.2.1 24 k - T.2.1 23 k)) (T.2.1 25 (3 * k + 1))), .int ((ndV B (M.1 33) T (M.2.1 9) (T.2.1 23 k) (T.2.1 24 k - T.2.1 23 k)) (T.2.1 25 (3 * k))), .int (nI (T.2.1 22 k)), .ref (D 11), .ref (D 0)]) (by rw [e3 k 2 hk c_138 (by decide)]) ?_
            refine ww_iald C dX4_carryOut_195 (Or.inl X9) (by omega) (by decide) ?_
            refine cv_X4_374_q (As := [.ref (D 11), .int (nI (T.2.1 22 k)), .int ((ndV B (M.1 33) T (M.2.1 9) (T.2.1 23 k) (T.2.1 24 k - T.2.1 23 k)) (T.2.1 25 (3 * k))), .int ((ndV B (M.1 33) T (M.2.1 9) (T.2.1 23 k) (T.2.1 24 k - T.2.1 23 k)) (T.2.1 25 (3 * k + 1))), .int ((ndV B (M.1 33) T (M.2.1 9) (T.2.1 23 k) (T.2.1 24 k - T.2.1 23 k)) (T.2.1 25 (3 * k + 2)))]) (rest := []) C dX4_carryOut_196 (ct_X4_isPut_a (Cx.fl C) (Cx.ok C) hz hX1 hb1 hC k3) (rc_X4 (Cx.ok C) (Or.inl X0)) rfl rfl (Nat.le_of_ble_eq_true rfl) (by decide) (Nat.zero_le _) (Nat.zero_le _) (fun v z9 h9 q => ?_)
            obtain ⟨rfl, hq1, hX9, hF9⟩ := q; replace hq1 := hq1.symm; subst hq1
            cases hft : ftN B (T.2.1 22 k) (fmN ((ndV B (M.1 33) T (M.2.1 9) (T.2.1 23 k) (T.2.1 24 k - T.2.1 23 k)) (T.2.1 25 (3 * k + 1))) (Br B) * Bc B + fmN ((ndV B (M.1 33) T (M.2.1 9) (T.2.1 23 k) (T.2.1 24 k - T.2.1 23 k)) (T.2.1 25 (3 * k))) (Bc B)) (fmN ((ndV B (M.1 33) T (M.2.1 9) (T.2.1 23 k) (T.2.1 24 k - T.2.1 23 k)) (T.2.1 25 (3 * k + 2))) 6) with
            | false =>
              unfold tryM at hX9; rw [hft] at hX9
              have hco : coB B T (coV B (M.1 33) T (M.2.1 9) k) k = (false, B) := by unfold coB; rw [hte]; simp only [c_138]; rw [← hcv, hft]
              exact ww_zret C dX4_carryOut_199 (nar_bI _) ⟨by rw [hco]; try rfl, rfl, _, Mst.v, by rw [hco]; exact hb1, hX9, (FrD.tr (FrD.w FrD.rf (i := 9) (by decide)) hF9)⟩
            | true =>
              unfold tryM at hX9; rw [hft] at hX9
              have hco : coB B T (coV B (M.1 33) T (M.2.1 9) k) k = (true, putB B (T.2.1 22 k) (fmN ((ndV B (M.1 33) T (M.2.1 9) (T.2.1 23 k) (T.2.1 24 k - T.2.1 23 k)) (T.2.1 25 (3 * k + 1))) (Br B) * Bc B + fmN ((ndV B (M.1 33) T (M.2.1 9) (T.2.1 23 k) (T.2.1 24 k - T.2.1 23 k)) (T.2.1 25 (3 * k))) (Bc B)) (fmN ((ndV B (M.1 33) T (M.2.1 9) (T.2.1 23 k) (T.2.1 24 k - T.2.1 23 k)) (T.2.1 25 (3 * k + 2))) 6)) := by unfold coB; rw [hte]; simp only [c_138]; rw [← hcv, hft]; try rfl
              have hcl := cel_lt (B := B) (fm_lt (x := (ndV B (M.1 33) T (M.2.1 9) (T.2.1 23 k) (T.2.1 24 k - T.2.1 23 k)) (T.2.1 25 (3 * k + 1))) (m := Br B) (by omega)) (fm_lt (x := (ndV B (M.1 33) T (M.2.1 9) (T.2.1 23 k) (T.2.1 24 k - T.2.1 23 k)) (T.2.1 25 (3 * k))) (m := Bc B) (by omega))
              exact ww_zret C dX4_carryOut_199 (nar_bI _) ⟨by rw [hco]; try rfl, rfl, _, Mst.v.tr Mst.p, by rw [hco]; exact (MBd_put hb1 (by decide) hcl (ftN_d hft).1), hX9, (FrD.tr (FrD.w FrD.rf (i := 9) (by decide)) hF9)⟩
        · skip
          refine ww_aload_n C dX4_carryOut_122 rfl 1 rfl rfl ?_
          refine ww_aload_n C dX4_carryOut_123 rfl 2 rfl rfl ?_
          refine ww_iload_n C dX4_carryOut_124 rfl 0 rfl ?_
          refine cv_X4_371_q (As := [.ref (D 11), .int (nI (T.2.1 22 k))]) (rest := []) C dX4_carryOut_125 (ct_X4_isFitted_a (Cx.fl C) (Cx.ok C) hz hX1 hb1 hC k3) (rc_X4 (Cx.ok C) (Or.inl X0)) rfl rfl (Nat.le_of_ble_eq_true rfl) (by decide) (Nat.zero_le _) (Nat.zero_le _) (fun v z9 h9 q => ?_)
          obtain ⟨rfl, hq1, hX9, hF9⟩ := q; replace hq1 := hq1.symm; subst hq1
          have hd2 : T.2.1 21 k = 2 := c_119
          cases hfw : fwN B (T.2.1 22 k) with
          | none =>
            unfold fitM at hX9; rw [hfw] at hX9
            have hco : coB B T (coV B (M.1 33) T (M.2.1 9) k) k = (false, B) := by unfold coB; rw [hte]; simp only [hd2, hfw]
            exact ww_zret C dX4_carryOut_128 (nar_bI _) ⟨by rw [hco]; try rfl, rfl, _, Mst.v, by rw [hco]; exact hb1, hX9, (FrD.tr (FrD.w FrD.rf (i := 9) (by decide)) hF9)⟩
          | some y =>
            unfold fitM at hX9; rw [hfw] at hX9
            have hco : coB B T (coV B (M.1 33) T (M.2.1 9) k) k = (true, putB B (T.2.1 22 k) (y / 6) (y % 6)) := by unfold coB; rw [hte]; simp only [hd2, hfw]
            have hyl := (ff_lt _ _ _ hfw).1
            have hfy : ftN B (T.2.1 22 k) (y / 6) (y % 6) = true := (ff_lt _ _ _ hfw).2
            exact ww_zret C dX4_carryOut_128 (nar_bI _) ⟨by rw [hco]; try rfl, rfl, _, Mst.v.tr Mst.p, by rw [hco]; exact (MBd_put hb1 (by decide) (by omega) (ftN_d hfy).1), hX9, (FrD.tr (FrD.w FrD.rf (i := 9) (by decide)) hF9)⟩
      · skip
        have hte : teB T (coV B (M.1 33) T (M.2.1 9) k) k = false := by unfold teB; rw [ht]; exact decide_eq_false (fun q => q c_94)
        have hco : coB B T (coV B (M.1 33) T (M.2.1 9) k) k = (false, B) := by unfold coB; rw [hte]
        refine ww_iconst C dX4_carryOut_97 cI_0 ?_
        exact ww_zret C dX4_carryOut_98 nar_z0 ⟨by rw [hco]; try rfl, rfl, (M.1, va_up M.2.1 9 (ndV B (M.1 33) T (M.2.1 9) (T.2.1 23 k) (T.2.1 24 k - T.2.1 23 k)), M.2.2), Mst.v, by rw [hco]; exact hb1, hX1, FrD.w FrD.rf (i := 9) (by decide)⟩
  · intro j hi ih  
    show WW X (Rv (fun v z' h' => v = .int (bI (coB B T (coV B (M.1 33) T (M.2.1 9) k) k).1) ∧ z' = z ∧ ∃ M', Mst 32 43 M M' ∧ MBd M' 32 43 (coB B T (coV B (M.1 33) T (M.2.1 9) k) k).2 ∧ Mx (xG X) h' D M' ∧ FrD h h' D)) z (up h (D 9) (cI (xG X) 800 (ndV B (M.1 33) T (M.2.1 9) (T.2.1 23 k) j))) 0 0 10 [(3, .int (nI (T.2.1 23 k + j))), (0, .ref (D 0)), (1, .ref (D 11)), (2, .int (nI k))] []
    have hX1 : Mx (xG X) (up h (D 9) (cI (xG X) 800 (ndV B (M.1 33) T (M.2.1 9) (T.2.1 23 k) j))) D (M.1, va_up M.2.1 9 (ndV B (M.1 33) T (M.2.1 9) (T.2.1 23 k) j), M.2.2) := hX.r (i := 9) (by decide)
    have hb1 : MBd (M.1, va_up M.2.1 9 (ndV B (M.1 33) T (M.2.1 9) (T.2.1 23 k) j), M.2.2) 32 43 B := hb.v (by decide)
    have X0 := hX1.m
    have X7 : (up h (D 9) (cI (xG X) 800 (ndV B (M.1 33) T (M.2.1 9) (T.2.1 23 k) j))) (D 7) = some (cTd (M.1 20) (M.1 21) (M.1 22) (M.1 23) (M.1 24) (fun i => D (20 + i))) := hX1.1 7 (by decide)
    have X9 : (up h (D 9) (cI (xG X) 800 (ndV B (M.1 33) T (M.2.1 9) (T.2.1 23 k) j))) (D 9) = some (cI (xG X) 800 (ndV B (M.1 33) T (M.2.1 9) (T.2.1 23 k) j)) := up_s
    have Y21 : (up h (D 9) (cI (xG X) 800 (ndV B (M.1 33) T (M.2.1 9) (T.2.1 23 k) j))) (D 21) = some (cI (xG X) 17 (M.2.1 21)) := hX1.1 21 (by decide)
    have Y22 : (up h (D 9) (cI (xG X) 800 (ndV B (M.1 33) T (M.2.1 9) (T.2.1 23 k) j))) (D 22) = some (cI (xG X) 17 (M.2.1 22)) := hX1.1 22 (by decide)
    have Y23 : (up h (D 9) (cI (xG X) 800 (ndV B (M.1 33) T (M.2.1 9) (T.2.1 23 k) j))) (D 23) = some (cI (xG X) 17 (M.2.1 23)) := hX1.1 23 (by decide)
    have Y24 : (up h (D 9) (cI (xG X) 800 (ndV B (M.1 33) T (M.2.1 9) (T.2.1 23 k) j))) (D 24) = some (cI (xG X) 17 (M.2.1 24)) := hX1.1 24 (by decide)
    have Y25 : (up h (D 9) (cI (xG X) 800 (ndV B (M.1 33) T (M.2.1 9) (T.2.1 23 k) j))) (D 25) = some (cI (xG X) 51 (M.2.1 25)) := hX1.1 25 (by decide)
    have Y26 : (up h (D 9) (cI (xG X) 800 (ndV B (M.1 33) T (M.2.1 9) (T.2.1 23 k) j))) (D 26) = some (cI (xG X) 17 (M.2.1 26)) := hX1.1 26 (by decide)
    have Y27 : (up h (D 9) (cI (xG X) 800 (ndV B (M.1 33) T (M.2.1 9) (T.2.1 23 k) j))) (D 27) = some (cI (xG X) 800 (M.2.1 27)) := hX1.1 27 (by decide)
    have Y28 : (up h (D 9) (cI (xG X) 800 (ndV B (M.1 33) T (M.2.1 9) (T.2.1 23 k) j))) (D 28) = some (cI (xG X) 800 (M.2.1 28)) := hX1.1 28 (by decide)
    have Y29 : (up h (D 9) (cI (xG X) 800 (ndV B (M.1 33) T (M.2.1 9) (T.2.1 23 k) j))) (D 29) = some (cI (xG X) 800 (M.2.1 29)) := hX1.1 29 (by decide)
    have Xs : (up h (D 9) (cI (xG X) 800 (ndV B (M.1 33) T (M.2.1 9) (T.2.1 23 k) j))) (D 11) = some (cSt (fun i => D (43 + i)) (M.1 32) (M.1 33)) := hX1.1 11 (by decide)
    have Xc : (up h (D 9) (cI (xG X) 800 (ndV B (M.1 33) T (M.2.1 9) (T.2.1 23 k) j))) (D 44) = some (cI (xG X) 16 (fun k => oI (Bp B k))) := by have := hX1.1 44 (by decide); have e9 := hb1.2.2.2.2.2.2.1; rw [this]; show some (cI (xG X) 16 _) = _; rw [e9]
    have hP1 : MrP (xG X) z (up h (D 9) (cI (xG X) 800 (ndV B (M.1 33) T (M.2.1 9) (T.2.1 23 k) j))) (D 0) (D 11) B := ⟨_, D, Or.inl X0, Mx.a hX1 hb1⟩
    refine ww_iload_n C dX4_carryOut_10 rfl 0 rfl ?_
    refine ww_aload_n C dX4_carryOut_11 rfl 1 rfl rfl ?_
    refine gf_X4_35_X4 C dX4_carryOut_12 (Or.inl X0) rfl ?_
    refine gf_X4_237_X5 C dX4_carryOut_15 (Or.inl X7) rfl ?_
    refine ww_iload_n C dX4_carryOut_18 rfl 3 rfl ?_
    refine ww_iald C dX4_carryOut_19 (Or.inl Y24) (by omega) (by decide) ?_
    refine ww_st (st' := [.int (nI (T.2.1 24 k)), .int (nI (T.2.1 23 k + j))]) (by rw [e2 24 k (by decide) hk]; try rfl) ?_
    refine ww_icmp_ge_f (tgt := 67) C dX4_carryOut_20 (by decide) (nI_ge (by omega) (by omega)) ?_
    obtain ⟨rk, l1, l2⟩ := k5 (T.2.1 23 k + j) (by omega) (by omega)
    refine ww_aload_n C dX4_carryOut_23 rfl 1 rfl rfl ?_
    refine gf_X4_42_X4 C dX4_carryOut_24 (Or.inl X0) rfl ?_
    refine ww_iload_n C dX4_carryOut_27 rfl 0 rfl ?_
    refine ww_aload_n C dX4_carryOut_28 rfl 1 rfl rfl ?_
    refine ww_aload_n C dX4_carryOut_29 rfl 2 rfl rfl ?_
    refine ww_aload_n C dX4_carryOut_30 rfl 1 rfl rfl ?_
    refine gf_X4_35_X4 C dX4_carryOut_31 (Or.inl X0) rfl ?_
    refine gf_X4_141_X5 C dX4_carryOut_34 (Or.inl X7) rfl ?_
    refine ww_iload_n C dX4_carryOut_37 rfl 0 rfl ?_
    refine ww_iald C dX4_carryOut_38 (Or.inl Y27) (by omega) (by decide) ?_
    refine ww_st (st' := [.int (nI (T.2.1 27 (T.2.1 23 k + j))), .ref (D 11), .ref (D 0), .int (nI (T.2.1 23 k + j)), .ref (D 9)]) (by rw [e5 27 _ (by decide) (by omega)]; try rfl) ?_
    refine ww_aload_n C dX4_carryOut_39 rfl 1 rfl rfl ?_
    refine gf_X4_35_X4 C dX4_carryOut_40 (Or.inl X0) rfl ?_
    refine gf_X4_144_X5 C dX4_carryOut_43 (Or.inl X7) rfl ?_
    refine ww_iload_n C dX4_carryOut_46 rfl 0 rfl ?_
    refine ww_iald C dX4_carryOut_47 (Or.inl Y28) (by omega) (by decide) ?_
    refine ww_st (st' := [.int (nI (T.2.1 28 (T.2.1 23 k + j))), .int (nI (T.2.1 27 (T.2.1 23 k + j))), .ref (D 11), .ref (D 0), .int (nI (T.2.1 23 k + j)), .ref (D 9)]) (by rw [e5 28 _ (by decide) (by omega)]; try rfl) ?_
    refine ww_aload_n C dX4_carryOut_48 rfl 1 rfl rfl ?_
    refine gf_X4_35_X4 C dX4_carryOut_49 (Or.inl X0) rfl ?_
    refine gf_X4_147_X5 C dX4_carryOut_52 (Or.inl X7) rfl ?_
    refine ww_iload_n C dX4_carryOut_55 rfl 0 rfl ?_
    refine ww_iald C dX4_carryOut_56 (Or.inl Y29) (by omega) (by decide) ?_
    refine ww_st (st' := [.int (nI (T.2.1 29 (T.2.1 23 k + j))), .int (nI (T.2.1 28 (T.2.1 23 k + j))), .int (nI (T.2.1 27 (T.2.1 23 k + j))), .ref (D 11), .ref (D 0), .int (nI (T.2.1 23 k + j)), .ref (D 9)]) (by rw [e5 29 _ (by decide) (by omega)]; try rfl) ?_
    refine cv_X4_368_r (As := [.ref (D 11), .int (nI (T.2.1 27 (T.2.1 23 k + j))), .int (nI (T.2.1 28 (T.2.1 23 k + j))), .int (nI (T.2.1 29 (T.2.1 23 k + j)))]) (rest := [.int (nI (T.2.1 23 k + j)), .ref (D 9)]) C dX4_carryOut_57 (ct_X4_reckon_a (Cx.fl C) (Cx.ok C) hz hX1 hb1 hC rk) (rc_X4 (Cx.ok C) (Or.inl X0)) rfl rfl (Nat.le_of_ble_eq_true rfl) (by decide) (Nat.zero_le _) (Nat.zero_le _) ?_
    refine ww_iast C dX4_carryOut_60 X9 (by omega) (by decide) ?_
    refine ww_gen (fun h1 hE1 => ?_)
    have X0_h1 : h1 (D 0) = some (.inr (3, [.int (M.1 0), .ref (D 1), .int (M.1 1), .int (M.1 2), .ref (D 2), .ref (D 3), .ref (D 4), .ref (D 5), .int (M.1 3), .int (M.1 4), .int (M.1 5), .int (M.1 6), .int (M.1 7), .ref (D 6), .ref (D 7), .ref (D 8), .ref (D 9), .ref (D 10), .ref (D 11), .ref (D 12), .ref (D 13), .int (M.1 8), .int (M.1 9), .int (M.1 10)])) := by rw [hE1, up_n (fun q => by cases hX.2 0 9 (by decide) (by decide) q)]; exact X0
    have X7_h1 : h1 (D 7) = some (.inr (4, [.int (M.1 20), .int (M.1 21), .int (M.1 22), .ref (D 20), .int (M.1 23), .ref (D 21), .ref (D 22), .ref (D 23), .ref (D 24), .ref (D 25), .ref (D 26), .int (M.1 24), .ref (D 27), .ref (D 28), .ref (D 29)])) := by rw [hE1, up_n (fun q => by cases hX.2 7 9 (by decide) (by decide) q)]; exact X7
    have Y21_h1 : h1 (D 21) = some (.inl (gA (xG X) 0, (17, .inl (M.2.1 21)))) := by rw [hE1, up_n (Ne.symm (fun q => by cases hX.2 9 21 (by decide) (by decide) q))]; exact Y21
    have Y22_h1 : h1 (D 22) = some (.inl (gA (xG X) 0, (17, .inl (M.2.1 22)))) := by rw [hE1, up_n (Ne.symm (fun q => by cases hX.2 9 22 (by decide) (by decide) q))]; exact Y22
    have Y23_h1 : h1 (D 23) = some (.inl (gA (xG X) 0, (17, .inl (M.2.1 23)))) := by rw [hE1, up_n (Ne.symm (fun q => by cases hX.2 9 23 (by decide) (by decide) q))]; exact Y23
    have Y24_h1 : h1 (D 24) = some (.inl (gA (xG X) 0, (17, .inl (M.2.1 24)))) := by rw [hE1, up_n (Ne.symm (fun q => by cases hX.2 9 24 (by decide) (by decide) q))]; exact Y24
    have Y25_h1 : h1 (D 25) = some (.inl (gA (xG X) 0, (51, .inl (M.2.1 25)))) := by rw [hE1, up_n (Ne.symm (fun q => by cases hX.2 9 25 (by decide) (by decide) q))]; exact Y25
    have Y26_h1 : h1 (D 26) = some (.inl (gA (xG X) 0, (17, .inl (M.2.1 26)))) := by rw [hE1, up_n (Ne.symm (fun q => by cases hX.2 9 26 (by decide) (by decide) q))]; exact Y26
    have Y27_h1 : h1 (D 27) = some (.inl (gA (xG X) 0, (800, .inl (M.2.1 27)))) := by rw [hE1, up_n (Ne.symm (fun q => by cases hX.2 9 27 (by decide) (by decide) q))]; exact Y27
    have Y28_h1 : h1 (D 28) = some (.inl (gA (xG X) 0, (800, .inl (M.2.1 28)))) := by rw [hE1, up_n (Ne.symm (fun q => by cases hX.2 9 28 (by decide) (by decide) q))]; exact Y28
    have Y29_h1 : h1 (D 29) = some (.inl (gA (xG X) 0, (800, .inl (M.2.1 29)))) := by rw [hE1, up_n (Ne.symm (fun q => by cases hX.2 9 29 (by decide) (by decide) q))]; exact Y29
    have Xs_h1 : h1 (D 11) = some (.inr (5, [.ref (D 43), .ref (D 44), .ref (D 45), .int (M.1 32), .int (M.1 33)])) := by rw [hE1, up_n (Ne.symm (fun q => by cases hX.2 9 11 (by decide) (by decide) q))]; exact Xs
    have Xc_h1 : h1 (D 44) = some (.inl (gA (xG X) 0, (16, .inl (fun k => oI (Bp B k))))) := by rw [hE1, up_n (Ne.symm (fun q => by cases hX.2 9 44 (by decide) (by decide) q))]; exact Xc
    have X9_h1 : h1 (D 9) = some (.inl (gA (xG X) 0, (800, .inl (upd (ndV B (M.1 33) T (M.2.1 9) (T.2.1 23 k) j) (T.2.1 23 k + j) (rkI B (M.1 33) (ndV B (M.1 33) T (M.2.1 9) (T.2.1 23 k) j) (T.2.1 27 (T.2.1 23 k + j)) (T.2.1 28 (T.2.1 23 k + j)) (T.2.1 29 (T.2.1 23 k + j))))))) := by rw [hE1]; exact up_s
    refine ww_iinc (lv' := [(3, .int (nI (T.2.1 23 k + j + 1))), (0, .ref (D 0)), (1, .ref (D 11)), (2, .int (nI k))]) C dX4_carryOut_61 0 rfl (inc_n _) (by decide) rfl ?_
    refine ww_goto (tgt := 10) C dX4_carryOut_64 (by decide) ?_
    refine ww_h (h' := up h (D 9) (cI (xG X) 800 (ndV B (M.1 33) T (M.2.1 9) (T.2.1 23 k) (j + 1)))) (by rw [hE1, up_up]; rfl) ?_
    exact ww_lv (lv' := [(3, .int (nI (T.2.1 23 k + (j + 1)))), (0, .ref (D 0)), (1, .ref (D 11)), (2, .int (nI k))]) (by rfl) ih
end MO15
