section MO16
set_option maxRecDepth 100000
/-- only a state with its rounds, and the values have changed -/
def Msr (b a : Nat) (M M' : MS) : Prop := (∀ j, j ≠ b → j ≠ b + 1 → M'.1 j = M.1 j) ∧ ∀ i, i ≠ 9 → i ≠ a → i ≠ a + 1 → i ≠ a + 2 → M'.2.1 i = M.2.1 i
theorem Msr.rf {b a : Nat} {M : MS} : Msr b a M M := ⟨fun _ _ _ => rfl, fun _ _ _ _ _ => rfl⟩
theorem Msr.tr {b a : Nat} {M M1 M2 : MS} (h1 : Msr b a M M1) (h2 : Msr b a M1 M2) : Msr b a M M2 := ⟨fun j hj hk => (h2.1 j hj hk).trans (h1.1 j hj hk), fun i h9 ha hb hc => (h2.2 i h9 ha hb hc).trans (h1.2 i h9 ha hb hc)⟩
theorem TdP.sr {M M' : MS} {T : TD} {b a : Nat} (h : TdP M T) (hs : Msr b a M M') (hb : b = 30 ∨ b = 32) (ha : a = 40 ∨ a = 43) : TdP M' T := by
  obtain ⟨h1, h2, h3, h4, h5⟩ := h
  refine ⟨(hs.1 23 (by omega) (by omega)).trans h1, fun i k hi hk => ?_, fun k p hk hd hp => ?_, fun k hk => ?_, fun i k hi hk => ?_⟩
  · rw [hs.2 i (by omega) (by omega) (by omega) (by omega)]; exact h2 i k hi hk
  · rw [hs.2 25 (by omega) (by omega) (by omega) (by omega)]; exact h3 k p hk hd hp
  · rw [hs.2 26 (by omega) (by omega) (by omega) (by omega)]; exact h4 k hk
  · rw [hs.2 i (by omega) (by omega) (by omega) (by omega)]; exact h5 i k hi hk
theorem MBd.rnd {M : MS} {b a : Nat} {B : GB} {v : Int32} (hb : MBd M b a B) (h : b = 30 ∨ b = 32) : MBd (upd M.1 (b + 1) v, M.2) b a B := by
  obtain ⟨h1, h2, h3, h4, h5, h6⟩ := hb
  exact ⟨(upd_ne (by omega)).trans h1, (upd_ne (by omega)).trans h2, (upd_ne (by omega)).trans h3, h4, (upd_ne (by omega)).trans h5, h6⟩
set_option maxHeartbeats 2000000 in
theorem ct_X4_play {l : Launch} {Γ : Gm} (hl : l.flags = flags0) (hΓ : GOK Γ) {z : ZR} {h : AH} {B : GB} {M : MS} {D : Nat → Nat} {T : TD} (hz : zle (cst Γ) z) (hX : Mx Γ h D M) (hb : MBd M 30 40 B) (hC : BC B) (hT : TdP M T) (hS : TdS B T) (hR : TdR T) : Ct l Γ yX4_play cX4_play 4 (some .int) 10 0 0 [.ref (D 0), .ref (D 10)] z h (Rv (fun v z' h' => v = .int (nI (plR B (M.1 31) T T.1.1).1) ∧ z' = z ∧ ∃ M', Msr 30 40 M M' ∧ MBd M' 30 40 (plR B (M.1 31) T T.1.1).2 ∧ M'.1 31 = (M.1 31) + nI 1 ∧ Mx Γ h' D M' ∧ FrD h h' D)) := by
  refine Ct.of hl hΓ (by decide +kernel) (Nat.le_of_ble_eq_true rfl) (fun X e1 e2 C => ?_)
  subst e1; subst e2
  have C : Cx X cX4_play 4 "RingDominoModel" "play" (some .int) [] 10 := C
  obtain ⟨s1, s2, s3⟩ := id hS
  show WW X (Rv (fun v z' h' => v = .int (nI (plR B (M.1 31) T T.1.1).1) ∧ z' = z ∧ ∃ M', Msr 30 40 M M' ∧ MBd M' 30 40 (plR B (M.1 31) T T.1.1).2 ∧ M'.1 31 = (M.1 31) + nI 1 ∧ Mx (xG X) h' D M' ∧ FrD h h' D)) z h 0 0 0 [(0, .ref (D 0)), (1, .ref (D 10))] []
  refine ww_iconst C dX4_play_0 cI_0 ?_
  refine ww_istore_n (lv' := [(2, .int (nI 0)), (0, .ref (D 0)), (1, .ref (D 10))]) C dX4_play_1 rfl (by decide) rfl ?_
  refine ww_iconst C dX4_play_2 cI_0 ?_
  refine ww_istore_n (lv' := [(3, .int (nI 0)), (2, .int (nI 0)), (0, .ref (D 0)), (1, .ref (D 10))]) C dX4_play_3 rfl (by decide) rfl ?_
  refine loop_up (N := T.1.1) (M := fun k => ∀ (M1 : MS) (h1 : AH), (Mst 30 40 M M1) → (MBd M1 30 40 (plR B (M.1 31) T k).2) → (Mx (xG X) h1 D M1) → (FrD h h1 D) → WW X (Rv (fun v z' h' => v = .int (nI (plR B (M.1 31) T T.1.1).1) ∧ z' = z ∧ ∃ M', Msr 30 40 M M' ∧ MBd M' 30 40 (plR B (M.1 31) T T.1.1).2 ∧ M'.1 31 = (M.1 31) + nI 1 ∧ Mx (xG X) h' D M' ∧ FrD h h' D)) z h1 0 0 4 [(3, .int (nI k)), (2, .int (nI ((plR B (M.1 31) T k).1))), (0, .ref (D 0)), (1, .ref (D 10))] []) ?_ ?_ 0 (Nat.zero_le _) M h Mst.rf hb hX FrD.rf
  · intro M1 h1 hm hb1 hX1 hF1
    show WW X (Rv (fun v z' h' => v = .int (nI (plR B (M.1 31) T T.1.1).1) ∧ z' = z ∧ ∃ M', Msr 30 40 M M' ∧ MBd M' 30 40 (plR B (M.1 31) T T.1.1).2 ∧ M'.1 31 = (M.1 31) + nI 1 ∧ Mx (xG X) h' D M' ∧ FrD h h' D)) z h1 0 0 4 [(3, .int (nI T.1.1)), (2, .int (nI ((plR B (M.1 31) T T.1.1).1))), (0, .ref (D 0)), (1, .ref (D 10))] []
    have e1 : M1.1 23 = nI T.1.1 := (hm.1 23 (by decide)).trans hT.1
    have er : M1.1 31 = (M.1 31) := hm.1 31 (by decide)
    have X0 : h1 (D 0) = some (cMd M1.1 D) := hX1.m
    have X7 : h1 (D 7) = some (cTd (M1.1 20) (M1.1 21) (M1.1 22) (M1.1 23) (M1.1 24) (fun i => D (20 + i))) := hX1.1 7 (by decide)
    have X10 : h1 (D 10) = some (cSt (fun i => D (40 + i)) (M1.1 30) (M1.1 31)) := hX1.1 10 (by decide)
    refine ww_iload_n C dX4_play_4 rfl 0 rfl ?_
    refine ww_aload_n C dX4_play_5 rfl 2 rfl rfl ?_
    refine gf_X4_35_X4 C dX4_play_6 (Or.inl X0) rfl ?_
    refine gf_X4_220_X5 C dX4_play_9 (Or.inl X7) rfl ?_
    refine ww_st (st' := [.int (nI T.1.1), .int (nI T.1.1)]) (by rw [e1]) ?_
    refine ww_icmp_ge_t (tgt := 38) C dX4_play_12 (by decide) (nI_le (Nat.le_refl _) (by omega)) ?_
    refine ww_aload_n C dX4_play_38 rfl 3 rfl rfl ?_
    refine ww_dup C dX4_play_39 rfl ?_
    refine gf_X4_343_X6 C dX4_play_40 (Or.inl X10) rfl ?_
    refine ww_st (st' := [.int (M.1 31), .ref (D 10)]) (by rw [er]) ?_
    refine ww_iconst C dX4_play_43 cI_1 ?_
    refine ww_iadd C dX4_play_44 ?_
    refine pf_X4_343_X6 (fs' := [.ref (D 40), .ref (D 41), .ref (D 42), .int (M1.1 30), .int ((M.1 31) + (nI 1))]) C dX4_play_45 X10 rfl rfl (Nat.le_of_ble_eq_true rfl) rfl ?_
    refine ww_gen (fun h1 hE1 => ?_)
    have X0_h1 : h1 (D 0) = some (.inr (3, [.int (M1.1 0), .ref (D 1), .int (M1.1 1), .int (M1.1 2), .ref (D 2), .ref (D 3), .ref (D 4), .ref (D 5), .int (M1.1 3), .int (M1.1 4), .int (M1.1 5), .int (M1.1 6), .int (M1.1 7), .ref (D 6), .ref (D 7), .ref (D 8), .ref (D 9), .ref (D 10), .ref (D 11), .ref (D 12), .ref (D 13), .int (M1.1 8), .int (M1.1 9), .int (M1.1 10)])) := by rw [hE1, up_n (fun q => by cases hX1.2 0 10 (by decide) (by decide) q)]; exact X0
    have X7_h1 : h1 (D 7) = some (.inr (4, [.int (M1.1 20), .int (M1.1 21), .int (M1.1 22), .ref (D 20), .int (M1.1 23), .ref (D 21), .ref (D 22), .ref (D 23), .ref (D 24), .ref (D 25), .ref (D 26), .int (M1.1 24), .ref (D 27), .ref (D 28), .ref (D 29)])) := by rw [hE1, up_n (fun q => by cases hX1.2 7 10 (by decide) (by decide) q)]; exact X7
    have X10_h1 : h1 (D 10) = some (.inr (5, [.ref (D 40), .ref (D 41), .ref (D 42), .int (M1.1 30), .int ((M.1 31) + (nI 1))])) := by rw [hE1]; exact up_s
    refine ww_iload_n C dX4_play_48 rfl 1 rfl ?_
    exact ww_iret C dX4_play_49 ⟨rfl, rfl, (upd M1.1 31 ((M.1 31) + nI 1), M1.2), ⟨fun j h1 h2 => (upd_ne h2).trans (hm.1 j h1), fun i h9 ha hb hc => hm.2 i h9 ha hb hc⟩, hb1.rnd (by decide), rfl, by rw [hE1]; exact Mx.i hX1 (j := 31) (Or.inr (by decide)) rfl, by rw [hE1]; exact FrD.w hF1 (i := 10) (by decide)⟩
  · intro k hi ih M1 h1 hm hb1 hX1 hF1
    show WW X (Rv (fun v z' h' => v = .int (nI (plR B (M.1 31) T T.1.1).1) ∧ z' = z ∧ ∃ M', Msr 30 40 M M' ∧ MBd M' 30 40 (plR B (M.1 31) T T.1.1).2 ∧ M'.1 31 = (M.1 31) + nI 1 ∧ Mx (xG X) h' D M' ∧ FrD h h' D)) z h1 0 0 4 [(3, .int (nI k)), (2, .int (nI ((plR B (M.1 31) T k).1))), (0, .ref (D 0)), (1, .ref (D 10))] []
    obtain ⟨p1, p2, p3, p4⟩ := plR_ok hC (rn := (M.1 31)) hS k (by omega)
    have e1 : M1.1 23 = nI T.1.1 := (hm.1 23 (by decide)).trans hT.1
    have er : M1.1 31 = (M.1 31) := hm.1 31 (by decide)
    have X0 : h1 (D 0) = some (cMd M1.1 D) := hX1.m
    have X7 : h1 (D 7) = some (cTd (M1.1 20) (M1.1 21) (M1.1 22) (M1.1 23) (M1.1 24) (fun i => D (20 + i))) := hX1.1 7 (by decide)
    have X10 : h1 (D 10) = some (cSt (fun i => D (40 + i)) (M1.1 30) (M1.1 31)) := hX1.1 10 (by decide)
    refine ww_iload_n C dX4_play_4 rfl 0 rfl ?_
    refine ww_aload_n C dX4_play_5 rfl 2 rfl rfl ?_
    refine gf_X4_35_X4 C dX4_play_6 (Or.inl X0) rfl ?_
    refine gf_X4_220_X5 C dX4_play_9 (Or.inl X7) rfl ?_
    refine ww_st (st' := [.int (nI T.1.1), .int (nI k)]) (by rw [e1]) ?_
    refine ww_icmp_ge_f (tgt := 38) C dX4_play_12 (by decide) (nI_ge hi (by omega)) ?_
    refine ww_iload_n C dX4_play_15 rfl 1 rfl ?_
    refine ww_aload_n C dX4_play_16 rfl 2 rfl rfl ?_
    refine ww_aload_n C dX4_play_17 rfl 3 rfl rfl ?_
    refine ww_iload_n C dX4_play_18 rfl 0 rfl ?_
    refine cv_X4_379_q (As := [.ref (D 10), .int (nI k)]) (rest := [.int (nI ((plR B (M.1 31) T k).1))]) C dX4_play_19 (ct_X4_carryOut (Cx.fl C) (Cx.ok C) hz hX1 hb1 p1 (hT.st hm (by decide) (by decide)) (hS.c p2) hi) (rc_X4 (Cx.ok C) (Or.inl X0)) rfl rfl (Nat.le_of_ble_eq_true rfl) (by decide) (Nat.zero_le _) (Nat.zero_le _) (fun v z9 h9 q => ?_)
    rw [er, coB_c (hS.c p2) hR hi] at q
    obtain ⟨rfl, hq1, M2, hq2, hq3, hX2, hF2⟩ := q; replace hq1 := hq1.symm; subst hq1
    refine ww_tern_eq_b C dX4_play_22 dX4_play_25 dX4_play_26 dX4_play_29 ?_
    refine ww_iaddb C dX4_play_30 ?_
    refine ww_istore_n (lv' := [(2, .int (nI (((plR B (M.1 31) T k).1) + (if (coR (plR B (M.1 31) T k).2 (M.1 31) T k).1 then 1 else 0)))), (3, .int (nI k)), (0, .ref (D 0)), (1, .ref (D 10))]) C dX4_play_31 rfl (by decide) rfl ?_
    refine ww_iinc (lv' := [(3, .int (nI (k + 1))), (2, .int (nI (((plR B (M.1 31) T k).1) + (if (coR (plR B (M.1 31) T k).2 (M.1 31) T k).1 then 1 else 0)))), (0, .ref (D 0)), (1, .ref (D 10))]) C dX4_play_32 1 rfl (inc_n _) (by decide) rfl ?_
    refine ww_goto (tgt := 4) C dX4_play_35 (by decide) ?_
    exact ih M2 h9 (hm.tr hq2) hq3 hX2 (hF1.tr hF2)
set_option maxHeartbeats 2000000 in
theorem ct_X4_play_a {l : Launch} {Γ : Gm} (hl : l.flags = flags0) (hΓ : GOK Γ) {z : ZR} {h : AH} {B : GB} {M : MS} {D : Nat → Nat} {T : TD} (hz : zle (cst Γ) z) (hX : Mx Γ h D M) (hb : MBd M 32 43 B) (hC : BC B) (hT : TdP M T) (hS : TdS B T) (hR : TdR T) : Ct l Γ yX4_play cX4_play 4 (some .int) 10 0 0 [.ref (D 0), .ref (D 11)] z h (Rv (fun v z' h' => v = .int (nI (plR B (M.1 33) T T.1.1).1) ∧ z' = z ∧ ∃ M', Msr 32 43 M M' ∧ MBd M' 32 43 (plR B (M.1 33) T T.1.1).2 ∧ M'.1 33 = (M.1 33) + nI 1 ∧ Mx Γ h' D M' ∧ FrD h h' D)) := by
  refine Ct.of hl hΓ (by decide +kernel) (Nat.le_of_ble_eq_true rfl) (fun X e1 e2 C => ?_)
  subst e1; subst e2
  have C : Cx X cX4_play 4 "RingDominoModel" "play" (some .int) [] 10 := C
  obtain ⟨s1, s2, s3⟩ := id hS
  show WW X (Rv (fun v z' h' => v = .int (nI (plR B (M.1 33) T T.1.1).1) ∧ z' = z ∧ ∃ M', Msr 32 43 M M' ∧ MBd M' 32 43 (plR B (M.1 33) T T.1.1).2 ∧ M'.1 33 = (M.1 33) + nI 1 ∧ Mx (xG X) h' D M' ∧ FrD h h' D)) z h 0 0 0 [(0, .ref (D 0)), (1, .ref (D 11))] []
  refine ww_iconst C dX4_play_0 cI_0 ?_
  refine ww_istore_n (lv' := [(2, .int (nI 0)), (0, .ref (D 0)), (1, .ref (D 11))]) C dX4_play_1 rfl (by decide) rfl ?_
  refine ww_iconst C dX4_play_2 cI_0 ?_
  refine ww_istore_n (lv' := [(3, .int (nI 0)), (2, .int (nI 0)), (0, .ref (D 0)), (1, .ref (D 11))]) C dX4_play_3 rfl (by decide) rfl ?_
  refine loop_up (N := T.1.1) (M := fun k => ∀ (M1 : MS) (h1 : AH), (Mst 32 43 M M1) → (MBd M1 32 43 (plR B (M.1 33) T k).2) → (Mx (xG X) h1 D M1) → (FrD h h1 D) → WW X (Rv (fun v z' h' => v = .int (nI (plR B (M.1 33) T T.1.1).1) ∧ z' = z ∧ ∃ M', Msr 32 43 M M' ∧ MBd M' 32 43 (plR B (M.1 33) T T.1.1).2 ∧ M'.1 33 = (M.1 33) + nI 1 ∧ Mx (xG X) h' D M' ∧ FrD h h' D)) z h1 0 0 4 [(3, .int (nI k)), (2, .int (nI ((plR B (M.1 33) T k).1))), (0, .ref (D 0)), (1, .ref (D 11))] []) ?_ ?_ 0 (Nat.zero_le _) M h Mst.rf hb hX FrD.rf
  · intro M1 h1 hm hb1 hX1 hF1
    show WW X (Rv (fun v z' h' => v = .int (nI (plR B (M.1 33) T T.1.1).1) ∧ z' = z ∧ ∃ M', Msr 32 43 M M' ∧ MBd M' 32 43 (plR B (M.1 33) T T.1.1).2 ∧ M'.1 33 = (M.1 33) + nI 1 ∧ Mx (xG X) h' D M' ∧ FrD h h' D)) z h1 0 0 4 [(3, .int (nI T.1.1)), (2, .int (nI ((plR B (M.1 33) T T.1.1).1))), (0, .ref (D 0)), (1, .ref (D 11))] []
    have e1 : M1.1 23 = nI T.1.1 := (hm.1 23 (by decide)).trans hT.1
    have er : M1.1 33 = (M.1 33) := hm.1 33 (by decide)
    have X0 : h1 (D 0) = some (cMd M1.1 D) := hX1.m
    have X7 : h1 (D 7) = some (cTd (M1.1 20) (M1.1 21) (M1.1 22) (M1.1 23) (M1.1 24) (fun i => D (20 + i))) := hX1.1 7 (by decide)
    have X11 : h1 (D 11) = some (cSt (fun i => D (43 + i)) (M1.1 32) (M1.1 33)) := hX1.1 11 (by decide)
    refine ww_iload_n C dX4_play_4 rfl 0 rfl ?_
    refine ww_aload_n C dX4_play_5 rfl 2 rfl rfl ?_
    refine gf_X4_35_X4 C dX4_play_6 (Or.inl X0) rfl ?_
    refine gf_X4_220_X5 C dX4_play_9 (Or.inl X7) rfl ?_
    refine ww_st (st' := [.int (nI T.1.1), .int (nI T.1.1)]) (by rw [e1]) ?_
    refine ww_icmp_ge_t (tgt := 38) C dX4_play_12 (by decide) (nI_le (Nat.le_refl _) (by omega)) ?_
    refine ww_aload_n C dX4_play_38 rfl 3 rfl rfl ?_
    refine ww_dup C dX4_play_39 rfl ?_
    refine gf_X4_343_X6 C dX4_play_40 (Or.inl X11) rfl ?_
    refine ww_st (st' := [.int (M.1 33), .ref (D 11)]) (by rw [er]) ?_
    refine ww_iconst C dX4_play_43 cI_1 ?_
    refine ww_iadd C dX4_play_44 ?_
    refine pf_X4_343_X6 (fs' := [.ref (D 43), .ref (D 44), .ref (D 45), .int (M1.1 32), .int ((M.1 33) + (nI 1))]) C dX4_play_45 X11 rfl rfl (Nat.le_of_ble_eq_true rfl) rfl ?_
    refine ww_gen (fun h1 hE1 => ?_)
    have X0_h1 : h1 (D 0) = some (.inr (3, [.int (M1.1 0), .ref (D 1), .int (M1.1 1), .int (M1.1 2), .ref (D 2), .ref (D 3), .ref (D 4), .ref (D 5), .int (M1.1 3), .int (M1.1 4), .int (M1.1 5), .int (M1.1 6), .int (M1.1 7), .ref (D 6), .ref (D 7), .ref (D 8), .ref (D 9), .ref (D 10), .ref (D 11), .ref (D 12), .ref (D 13), .int (M1.1 8), .int (M1.1 9), .int (M1.1 10)])) := by rw [hE1, up_n (fun q => by cases hX1.2 0 11 (by decide) (by decide) q)]; exact X0
    have X7_h1 : h1 (D 7) = some (.inr (4, [.int (M1.1 20), .int (M1.1 21), .int (M1.1 22), .ref (D 20), .int (M1.1 23), .ref (D 21), .ref (D 22), .ref (D 23), .ref (D 24), .ref (D 25), .ref (D 26), .int (M1.1 24), .ref (D 27), .ref (D 28), .ref (D 29)])) := by rw [hE1, up_n (fun q => by cases hX1.2 7 11 (by decide) (by decide) q)]; exact X7
    have X11_h1 : h1 (D 11) = some (.inr (5, [.ref (D 43), .ref (D 44), .ref (D 45), .int (M1.1 32), .int ((M.1 33) + (nI 1))])) := by rw [hE1]; exact up_s
    refine ww_iload_n C dX4_play_48 rfl 1 rfl ?_
    exact ww_iret C dX4_play_49 ⟨rfl, rfl, (upd M1.1 33 ((M.1 33) + nI 1), M1.2), ⟨fun j h1 h2 => (upd_ne h2).trans (hm.1 j h1), fun i h9 ha hb hc => hm.2 i h9 ha hb hc⟩, hb1.rnd (by decide), rfl, by rw [hE1]; exact Mx.i hX1 (j := 33) (Or.inr (by decide)) rfl, by rw [hE1]; exact FrD.w hF1 (i := 11) (by decide)⟩
  · intro k hi ih M1 h1 hm hb1 hX1 hF1
    show WW X (Rv (fun v z' h' => v = .int (nI (plR B (M.1 33) T T.1.1).1) ∧ z' = z ∧ ∃ M', Msr 32 43 M M' ∧ MBd M' 32 43 (plR B (M.1 33) T T.1.1).2 ∧ M'.1 33 = (M.1 33) + nI 1 ∧ Mx (xG X) h' D M' ∧ FrD h h' D)) z h1 0 0 4 [(3, .int (nI k)), (2, .int (nI ((plR B (M.1 33) T k).1))), (0, .ref (D 0)), (1, .ref (D 11))] []
    obtain ⟨p1, p2, p3, p4⟩ := plR_ok hC (rn := (M.1 33)) hS k (by omega)
    have e1 : M1.1 23 = nI T.1.1 := (hm.1 23 (by decide)).trans hT.1
    have er : M1.1 33 = (M.1 33) := hm.1 33 (by decide)
    have X0 : h1 (D 0) = some (cMd M1.1 D) := hX1.m
    have X7 : h1 (D 7) = some (cTd (M1.1 20) (M1.1 21) (M1.1 22) (M1.1 23) (M1.1 24) (fun i => D (20 + i))) := hX1.1 7 (by decide)
    have X11 : h1 (D 11) = some (cSt (fun i => D (43 + i)) (M1.1 32) (M1.1 33)) := hX1.1 11 (by decide)
    refine ww_iload_n C dX4_play_4 rfl 0 rfl ?_
    refine ww_aload_n C dX4_play_5 rfl 2 rfl rfl ?_
    refine gf_X4_35_X4 C dX4_play_6 (Or.inl X0) rfl ?_
    refine gf_X4_220_X5 C dX4_play_9 (Or.inl X7) rfl ?_
    refine ww_st (st' := [.int (nI T.1.1), .int (nI k)]) (by rw [e1]) ?_
    refine ww_icmp_ge_f (tgt := 38) C dX4_play_12 (by decide) (nI_ge hi (by omega)) ?_
    refine ww_iload_n C dX4_play_15 rfl 1 rfl ?_
    refine ww_aload_n C dX4_play_16 rfl 2 rfl rfl ?_
    refine ww_aload_n C dX4_play_17 rfl 3 rfl rfl ?_
    refine ww_iload_n C dX4_play_18 rfl 0 rfl ?_
    refine cv_X4_379_q (As := [.ref (D 11), .int (nI k)]) (rest := [.int (nI ((plR B (M.1 33) T k).1))]) C dX4_play_19 (ct_X4_carryOut_a (Cx.fl C) (Cx.ok C) hz hX1 hb1 p1 (hT.st hm (by decide) (by decide)) (hS.c p2) hi) (rc_X4 (Cx.ok C) (Or.inl X0)) rfl rfl (Nat.le_of_ble_eq_true rfl) (by decide) (Nat.zero_le _) (Nat.zero_le _) (fun v z9 h9 q => ?_)
    rw [er, coB_c (hS.c p2) hR hi] at q
    obtain ⟨rfl, hq1, M2, hq2, hq3, hX2, hF2⟩ := q; replace hq1 := hq1.symm; subst hq1
    refine ww_tern_eq_b C dX4_play_22 dX4_play_25 dX4_play_26 dX4_play_29 ?_
    refine ww_iaddb C dX4_play_30 ?_
    refine ww_istore_n (lv' := [(2, .int (nI (((plR B (M.1 33) T k).1) + (if (coR (plR B (M.1 33) T k).2 (M.1 33) T k).1 then 1 else 0)))), (3, .int (nI k)), (0, .ref (D 0)), (1, .ref (D 11))]) C dX4_play_31 rfl (by decide) rfl ?_
    refine ww_iinc (lv' := [(3, .int (nI (k + 1))), (2, .int (nI (((plR B (M.1 33) T k).1) + (if (coR (plR B (M.1 33) T k).2 (M.1 33) T k).1 then 1 else 0)))), (0, .ref (D 0)), (1, .ref (D 11))]) C dX4_play_32 1 rfl (inc_n _) (by decide) rfl ?_
    refine ww_goto (tgt := 4) C dX4_play_35 (by decide) ?_
    exact ih M2 h9 (hm.tr hq2) hq3 hX2 (hF1.tr hF2)
end MO16
