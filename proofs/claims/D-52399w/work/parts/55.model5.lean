section MO5
set_option maxRecDepth 100000
/-- two searches that have seen the same on the board find the same -/
def GsE (s s' : GS) : Prop := (∀ i, i < 49 → s.1 i = s'.1 i) ∧ s.2 = s'.2
theorem gst_c {B : GB} {s s' : GS} (h : GsE s s') {y : Option Nat} (hy : ∀ q, y = some q → q < 49) : GsE (gst B s y) (gst B s' y) := by
  obtain ⟨s1, s2⟩ := s
  obtain ⟨t1, t2⟩ := s'
  obtain ⟨h1, h2⟩ := h
  have h2 : s2 = t2 := h2
  subst h2
  cases y with
  | none => rw [gst_f (Or.inl rfl), gst_f (Or.inl rfl)]; exact ⟨h1, rfl⟩
  | some q =>
    have hq := h1 q (hy q rfl)
    unfold gst
    show GsE (if hasT B (some q) && !(s1 q) then _ else _) (if hasT B (some q) && !(t1 q) then _ else _)
    have hq : s1 q = t1 q := hq
    rw [hq]
    split
    · refine ⟨fun i hi => ?_, rfl⟩
      show (if i = q then true else s1 i) = (if i = q then true else t1 i)
      split
      · rfl
      · exact h1 i hi
    · exact ⟨h1, rfl⟩
theorem ged_c {B : GB} (hB : BO B) {k : Nat} {s s' : GS} (hs : GI B s) (hk : k < s.2.2) (h : GsE s s') : ∀ e, e ≤ 6 → GsE (ged B k s e) (ged B k s' e)
  | 0, _ => h
  | e + 1, he => by
    have ih := ged_c hB hs hk h e (by omega)
    obtain ⟨g1, g2, g3⟩ := ged_i hB hs hk e (by omega)
    show GsE (gst B (ged B k s e) _) (gst B (ged B k s' e) _)
    rw [← ih.2]
    exact gst_c ih (fun q hq => Nat.lt_of_lt_of_le (bes_lt hB.1.1 hB.1.2 (by have := g1.1 k (by omega); have := hB.z; omega) (by omega) hq) hB.z)
theorem gbf_c {B : GB} (hB : BO B) {s s' : GS} (hs : GI B s) (hs' : GI B s') (h : GsE s s') : ∀ f k, ∀ i, i < 49 → (gbf B f k s).1 i = (gbf B f k s').1 i := by
  intro f
  induction f generalizing s s' with
  | zero => exact fun k i hi => h.1 i hi
  | succ f ih =>
    intro k i hi
    show (if k < s.2.2 then gbf B f (k + 1) (ged B k s 6) else s).1 i = (if k < s'.2.2 then gbf B f (k + 1) (ged B k s' 6) else s').1 i
    rw [← h.2]
    by_cases hk : k < s.2.2
    · rw [if_pos hk, if_pos hk]
      exact ih (ged_i hB hs hk 6 (Nat.le_refl _)).1 (ged_i hB hs' (by rw [← h.2]; exact hk) 6 (Nat.le_refl _)).1 (ged_c hB hs hk h 6 (Nat.le_refl _)) (k + 1) i hi
    · rw [if_neg hk, if_neg hk]; exact h.1 i hi
theorem g0_c {sn sn' : Nat → Bool} {x : Nat} (h : ∀ i, i < 49 → sn i = sn' i) : GsE (g0 sn x) (g0 sn' x) := by
  refine ⟨fun i hi => ?_, rfl⟩
  show (if i = x then true else sn i) = (if i = x then true else sn' i)
  split
  · rfl
  · exact h i hi
set_option maxHeartbeats 2000000 in
theorem ct_X4_groupsOf {l : Launch} {Γ : Gm} (hl : l.flags = flags0) (hΓ : GOK Γ) {z : ZR} {h : AH} {B : GB} {M : MS} {D : Nat → Nat} (hz : zle (cst Γ) z) (hX : Mx Γ h D M) (hb : MBd M 30 40 B) (hC : BC B) : Ct l Γ yX4_groupsOf cX4_groupsOf 3 (some .int) 4 0 0 [.ref (D 0)] z h (Rv (fun v z' h' => v = .int (nI (grp B (Bz B)).1) ∧ z' = z ∧ ∃ f sn, Mx Γ h' D (M.1, va_up M.2.1 12 f, sn) ∧ FrD h h' D)) := by
  refine Ct.of hl hΓ (by decide +kernel) (Nat.le_of_ble_eq_true rfl) (fun X e1 e2 C => ?_)
  subst e1; subst e2
  have C : Cx X cX4_groupsOf 3 "RingDominoModel" "groupsOf" (some .int) [] 4 := C
  have hB := hC.1
  obtain ⟨⟨⟨c1, c2⟩, ⟨r1, r2⟩⟩, t1, bl1, bu1, bp1, bn1⟩ := id hB
  have hzz := BO.z hB
  have hz0 : 0 < Bz B := Nat.mul_pos (by omega) (by omega)
  have X0 := hX.m
  have hR := Mx.n (z := z) hX hb
  have hP : MrP (xG X) z h (D 0) (D 10) B := ⟨_, D, Or.inl X0, hR⟩
  obtain ⟨o, nn, rn, nu, tu, S, Ht, Hn, hnu, Hs, Ha, Hc, Hu, htu⟩ := id hR
  show WW X (Rv (fun v z' h' => v = .int (nI (grp B (Bz B)).1) ∧ z' = z ∧ ∃ f sn, Mx (xG X) h' D (M.1, va_up M.2.1 12 f, sn) ∧ FrD h h' D)) z h 0 0 0 [(0, .ref (D 0))] []
  refine ww_iconst C dX4_groupsOf_0 cI_0 ?_
  refine ww_istore_n (lv' := [(1, .int (nI 0)), (0, .ref (D 0))]) C dX4_groupsOf_1 rfl (by decide) rfl ?_
  refine ww_h (h' := up h (D 13) (cZ (xG X) 49 (fun i => bI (M.2.2 i)))) (up_id (hX.1 13 (by decide))).symm ?_
  refine loop_up (N := 49) (M := fun j => ∀ (sn : Nat → Bool), (∀ i, i < j → sn i = false) → WW X (Rv (fun v z' h' => v = .int (nI (grp B (Bz B)).1) ∧ z' = z ∧ ∃ f sn, Mx (xG X) h' D (M.1, va_up M.2.1 12 f, sn) ∧ FrD h h' D)) z (up h (D 13) (cZ (xG X) 49 (fun i => bI (sn i)))) 0 0 2 [(1, .int (nI j)), (0, .ref (D 0))] []) ?_ ?_ 0 (Nat.zero_le _) M.2.2 (fun i hi => absurd hi (Nat.not_lt_zero i))
  · intro sn hv
    show WW X (Rv (fun v z' h' => v = .int (nI (grp B (Bz B)).1) ∧ z' = z ∧ ∃ f sn, Mx (xG X) h' D (M.1, va_up M.2.1 12 f, sn) ∧ FrD h h' D)) z (up h (D 13) (cZ (xG X) 49 (fun i => bI (sn i)))) 0 0 2 [(1, .int (nI 49)), (0, .ref (D 0))] []
    have hs0 : (fun i => bI (sn i)) = fun i => bI (if i < 49 then false else sn i) := by funext i; by_cases hi : i < 49; { rw [hv i hi, if_pos hi] }; { rw [if_neg hi] }
    refine ww_iload_n C dX4_groupsOf_2 rfl 0 rfl ?_
    refine ww_bipush C dX4_groupsOf_3 cB_49 ?_
    refine ww_icmp_ge_t (tgt := 21) C dX4_groupsOf_5 (by decide) (nI_le (Nat.le_refl _) (by decide)) ?_
    refine ww_iconst C dX4_groupsOf_21 cI_0 ?_
    refine ww_istore_n (lv' := [(1, .int (nI 0)), (0, .ref (D 0))]) C dX4_groupsOf_22 rfl (by decide) rfl ?_
    refine ww_iconst C dX4_groupsOf_23 cI_0 ?_
    refine ww_istore_n (lv' := [(2, .int (nI 0)), (1, .int (nI 0)), (0, .ref (D 0))]) C dX4_groupsOf_24 rfl (by decide) rfl ?_
    refine ww_h (h' := up (up h (D 12) (cI (xG X) 49 (M.2.1 12))) (D 13) (cZ (xG X) 49 (fun i => bI (sn i)))) (by rw [show up h (D 12) (cI (xG X) 49 (M.2.1 12)) = h from up_id (hX.1 12 (by decide))]) ?_
    refine loop_up (N := (Bz B)) (M := fun x => ∀ (f : Nat → Int32) (s1 : Nat → Bool), (∀ i, i < 49 → s1 i = (grp B x).2 i) → WW X (Rv (fun v z' h' => v = .int (nI (grp B (Bz B)).1) ∧ z' = z ∧ ∃ f sn, Mx (xG X) h' D (M.1, va_up M.2.1 12 f, sn) ∧ FrD h h' D)) z (up (up h (D 12) (cI (xG X) 49 f)) (D 13) (cZ (xG X) 49 (fun i => bI (s1 i)))) 0 0 25 [(2, .int (nI x)), (1, .int (nI ((grp B x).1))), (0, .ref (D 0))] []) ?_ ?_ 0 (Nat.zero_le _) (M.2.1 12) sn hv
    · intro f s1 hw
      show WW X (Rv (fun v z' h' => v = .int (nI (grp B (Bz B)).1) ∧ z' = z ∧ ∃ f sn, Mx (xG X) h' D (M.1, va_up M.2.1 12 f, sn) ∧ FrD h h' D)) z (up (up h (D 12) (cI (xG X) 49 f)) (D 13) (cZ (xG X) 49 (fun i => bI (s1 i)))) 0 0 25 [(2, .int (nI (Bz B))), (1, .int (nI ((grp B (Bz B)).1))), (0, .ref (D 0))] []
      have hX1 : Mx (xG X) (up (up h (D 12) (cI (xG X) 49 f)) (D 13) (cZ (xG X) 49 (fun i => bI (s1 i)))) D (M.1, va_up M.2.1 12 f, s1) := (hX.r (i := 12) (f := f) (by decide)).z
      have hA : Mag M (M.1, va_up M.2.1 12 f, s1) := ⟨fun _ _ => rfl, fun i hi => by show (if i = 12 then _ else _) = _; rw [if_neg (by omega)]⟩
      have hb1 := hA.b hb
      have hR1 := Mx.n (z := z) hX1 hb1
      have X1 := hX1.m
      have hP1 : MrP (xG X) z (up (up h (D 12) (cI (xG X) 49 f)) (D 13) (cZ (xG X) 49 (fun i => bI (s1 i)))) (D 0) (D 10) B := ⟨_, D, Or.inl X1, hR1⟩
      obtain ⟨o1, nn1, rn1, nu1, tu1, S1, Ht1, Hn1, hnu1, Hs1, Ha1, Hc1, Hu1, htu1⟩ := id hR1
      have Hz1 : (up (up h (D 12) (cI (xG X) 49 f)) (D 13) (cZ (xG X) 49 (fun i => bI (s1 i)))) (D 13) = some (cZ (xG X) 49 (fun i => bI (s1 i))) := up_s
      have nqz : D 12 ≠ D 13 := fun q => by cases hX.2 12 13 (by decide) (by decide) q
      have Hq1 : (up (up h (D 12) (cI (xG X) 49 f)) (D 13) (cZ (xG X) 49 (fun i => bI (s1 i)))) (D 12) = some (cI (xG X) 49 f) := by rw [up_n nqz]; exact up_s
      refine ww_iload_n C dX4_groupsOf_25 rfl 0 rfl ?_
      refine ww_aload_n C dX4_groupsOf_26 rfl 2 rfl rfl ?_
      refine cv_X4_307_r (As := []) (rest := [.int (nI (Bz B))]) C dX4_groupsOf_27 (ct_X4_cells (Cx.fl C) (Cx.ok C) hz hP1 hC) (rc_X4 (Cx.ok C) (Or.inl X1)) rfl rfl (Nat.le_of_ble_eq_true rfl) (by decide) (Nat.zero_le _) (Nat.zero_le _) ?_
      refine ww_icmp_ge_t (tgt := 72) C dX4_groupsOf_30 (by decide) (nI_le (Nat.le_refl _) (by omega)) ?_
      refine ww_iload_n C dX4_groupsOf_72 rfl 1 rfl ?_
      exact ww_iret C dX4_groupsOf_73 ⟨rfl, rfl, f, s1, hX1, (FrD.rf.w (by decide)).w (by decide)⟩
    · intro x hi ih f s1 hw
      show WW X (Rv (fun v z' h' => v = .int (nI (grp B (Bz B)).1) ∧ z' = z ∧ ∃ f sn, Mx (xG X) h' D (M.1, va_up M.2.1 12 f, sn) ∧ FrD h h' D)) z (up (up h (D 12) (cI (xG X) 49 f)) (D 13) (cZ (xG X) 49 (fun i => bI (s1 i)))) 0 0 25 [(2, .int (nI x)), (1, .int (nI ((grp B x).1))), (0, .ref (D 0))] []
      have hX1 : Mx (xG X) (up (up h (D 12) (cI (xG X) 49 f)) (D 13) (cZ (xG X) 49 (fun i => bI (s1 i)))) D (M.1, va_up M.2.1 12 f, s1) := (hX.r (i := 12) (f := f) (by decide)).z
      have hA : Mag M (M.1, va_up M.2.1 12 f, s1) := ⟨fun _ _ => rfl, fun i hi => by show (if i = 12 then _ else _) = _; rw [if_neg (by omega)]⟩
      have hb1 := hA.b hb
      have hR1 := Mx.n (z := z) hX1 hb1
      have X1 := hX1.m
      have hP1 : MrP (xG X) z (up (up h (D 12) (cI (xG X) 49 f)) (D 13) (cZ (xG X) 49 (fun i => bI (s1 i)))) (D 0) (D 10) B := ⟨_, D, Or.inl X1, hR1⟩
      obtain ⟨o1, nn1, rn1, nu1, tu1, S1, Ht1, Hn1, hnu1, Hs1, Ha1, Hc1, Hu1, htu1⟩ := id hR1
      have Hz1 : (up (up h (D 12) (cI (xG X) 49 f)) (D 13) (cZ (xG X) 49 (fun i => bI (s1 i)))) (D 13) = some (cZ (xG X) 49 (fun i => bI (s1 i))) := up_s
      have nqz : D 12 ≠ D 13 := fun q => by cases hX.2 12 13 (by decide) (by decide) q
      have Hq1 : (up (up h (D 12) (cI (xG X) 49 f)) (D 13) (cZ (xG X) 49 (fun i => bI (s1 i)))) (D 12) = some (cI (xG X) 49 f) := by rw [up_n nqz]; exact up_s
      refine ww_iload_n C dX4_groupsOf_25 rfl 0 rfl ?_
      refine ww_aload_n C dX4_groupsOf_26 rfl 2 rfl rfl ?_
      refine cv_X4_307_r (As := []) (rest := [.int (nI x)]) C dX4_groupsOf_27 (ct_X4_cells (Cx.fl C) (Cx.ok C) hz hP1 hC) (rc_X4 (Cx.ok C) (Or.inl X1)) rfl rfl (Nat.le_of_ble_eq_true rfl) (by decide) (Nat.zero_le _) (Nat.zero_le _) ?_
      refine ww_icmp_ge_f (tgt := 72) C dX4_groupsOf_30 (by decide) (nI_ge hi (by omega)) ?_
      refine ww_aload_n C dX4_groupsOf_33 rfl 2 rfl rfl ?_
      refine gf_X4_48_X4 C dX4_groupsOf_34 (Or.inl X1) rfl ?_
      refine gf_X4_280_X6 C dX4_groupsOf_37 Hs1 rfl ?_
      refine ww_iload_n C dX4_groupsOf_40 rfl 0 rfl ?_
      refine ww_iald C dX4_groupsOf_41 Ha1 (by omega) (by decide) ?_
      refine ww_iconst C dX4_groupsOf_42 cI_m1 ?_
      refine ww_icmp_eq_o (tgt := 66) C dX4_groupsOf_43 (by decide) (hC.a x) (fun c_43 => ?_) (fun c_43 => ?_)
      · skip
        have hg := grp_f (B := B) (n := x) (Or.inl (by rw [← atO_is, c_43]; rfl))
        refine ww_iinc (lv' := [(2, .int (nI (x + 1))), (1, .int (nI ((grp B x).1))), (0, .ref (D 0))]) C dX4_groupsOf_66 0 rfl (inc_n _) (by decide) rfl ?_
        refine ww_goto (tgt := 25) C dX4_groupsOf_69 (by decide) ?_
        refine ww_lv (lv' := [(2, .int (nI (x + 1))), (1, .int (nI ((grp B (x + 1)).1))), (0, .ref (D 0))]) (by rw [hg]; try rfl) (ih f s1 ?_)
        intro i hi; rw [hg]; exact hw i hi
      · skip
        have hT : hasT B (some x) = true := by rw [← atO_is]; exact Option.isSome_iff_ne_none.mpr c_43
        refine ww_aload_n C dX4_groupsOf_46 rfl 2 rfl rfl ?_
        refine gf_X4_58_X4 C dX4_groupsOf_47 (Or.inl X1) rfl ?_
        refine ww_iload_n C dX4_groupsOf_50 rfl 0 rfl ?_
        refine ww_zald C dX4_groupsOf_51 (Or.inl Hz1) (by omega) (by decide) ?_
        refine ww_if_eq_b (tgt := 58) C dX4_groupsOf_52 (by decide) (fun c_52 => ?_) (fun c_52 => ?_)
        · skip
          have hsx : (grp B x).2 x = false := (hw x (by omega)).symm.trans c_52
          have hg := grp_t hT hsx
          have hsw : gbf B 50 0 (g0 s1 x) = gbf B 50 0 (g0 s1 x) := rfl
          refine ww_aload_n C dX4_groupsOf_58 rfl 2 rfl rfl ?_
          refine ww_iload_n C dX4_groupsOf_59 rfl 0 rfl ?_
          have ov : ∀ f2 g2, up (up (up (up h (D 12) (cI (xG X) 49 f)) (D 13) (cZ (xG X) 49 (fun i => bI (s1 i)))) (D 12) (cI (xG X) 49 f2)) (D 13) (cZ (xG X) 49 g2) = up (up h (D 12) (cI (xG X) 49 f2)) (D 13) (cZ (xG X) 49 g2) := fun f2 g2 => by funext a; simp only [up_at]; by_cases e1 : a = D 12 <;> by_cases e2 : a = D 13 <;> simp [e1, e2, nqz]
          have hx2 : ∀ (f2 : Nat → Int32) (s2 : Nat → Bool), Mx (xG X) (up (up (up (up h (D 12) (cI (xG X) 49 f)) (D 13) (cZ (xG X) 49 (fun i => bI (s1 i)))) (D 12) (cI (xG X) 49 f2)) (D 13) (cZ (xG X) 49 (fun i => bI (s2 i)))) D (M.1, va_up M.2.1 12 f2, s2) := fun f2 s2 => by rw [ov]; exact (hX.r (i := 12) (f := f2) (by decide)).z
          have hr2 : ∀ (f2 : Nat → Int32) (s2 : Nat → Bool), MrR (xG X) z (up (up (up (up h (D 12) (cI (xG X) 49 f)) (D 13) (cZ (xG X) 49 (fun i => bI (s1 i)))) (D 12) (cI (xG X) 49 f2)) (D 13) (cZ (xG X) 49 (fun i => bI (s2 i)))) D (D 10) B := fun f2 s2 => Mx.n (hx2 f2 s2) ((show Mag M (M.1, va_up M.2.1 12 f2, s2) from ⟨fun _ _ => rfl, fun i hi => by show (if i = 12 then _ else _) = _; rw [if_neg (by omega)]⟩).b hb)
          refine cv_X4_382_q (As := [.int (nI x)]) (rest := []) C dX4_groupsOf_60 (ct_X4_reach (Cx.fl C) (Cx.ok C) hz (Or.inl X1) hR1 hC hi Hq1 Hz1 nqz (fun f2 s2 => ⟨_, D, Or.inl (hx2 f2 s2).m, hr2 f2 s2⟩) (fun f2 s2 => Or.inl (hx2 f2 s2).m) hr2 c_52) (rc_X4 (Cx.ok C) (Or.inl X1)) rfl rfl (Nat.le_of_ble_eq_true rfl) (by decide) (Nat.zero_le _) (Nat.zero_le _) (fun z9 h9 q => ?_)
          obtain ⟨hq1, f3, hq2⟩ := q; replace hq1 := hq1.symm; subst hq1; rw [ov] at hq2; subst hq2
          refine ww_iinc (lv' := [(1, .int (nI ((grp B x).1 + 1))), (2, .int (nI x)), (0, .ref (D 0))]) C dX4_groupsOf_63 1 rfl (inc_n _) (by decide) rfl ?_
          refine ww_iinc (lv' := [(2, .int (nI (x + 1))), (1, .int (nI ((grp B x).1 + 1))), (0, .ref (D 0))]) C dX4_groupsOf_66 1 rfl (inc_n _) (by decide) rfl ?_
          refine ww_goto (tgt := 25) C dX4_groupsOf_69 (by decide) ?_
          refine ww_lv (lv' := [(2, .int (nI (x + 1))), (1, .int (nI ((grp B (x + 1)).1))), (0, .ref (D 0))]) (by rw [hg]; try rfl) (ih f3 _ ?_)
          intro i hi2; rw [hg]; exact gbf_c hB (g0_i hi c_52) (g0_i hi hsx) (g0_c hw) 50 0 i hi2
        · skip
          have hg := grp_f (B := B) (n := x) (Or.inr ((hw x (by omega)).symm.trans c_52))
          refine ww_goto (tgt := 66) C dX4_groupsOf_55 (by decide) ?_
          refine ww_iinc (lv' := [(2, .int (nI (x + 1))), (1, .int (nI ((grp B x).1))), (0, .ref (D 0))]) C dX4_groupsOf_66 0 rfl (inc_n _) (by decide) rfl ?_
          refine ww_goto (tgt := 25) C dX4_groupsOf_69 (by decide) ?_
          refine ww_lv (lv' := [(2, .int (nI (x + 1))), (1, .int (nI ((grp B (x + 1)).1))), (0, .ref (D 0))]) (by rw [hg]; try rfl) (ih f s1 ?_)
          intro i hi; rw [hg]; exact hw i hi
  · intro j hi ih sn hv
    show WW X (Rv (fun v z' h' => v = .int (nI (grp B (Bz B)).1) ∧ z' = z ∧ ∃ f sn, Mx (xG X) h' D (M.1, va_up M.2.1 12 f, sn) ∧ FrD h h' D)) z (up h (D 13) (cZ (xG X) 49 (fun i => bI (sn i)))) 0 0 2 [(1, .int (nI j)), (0, .ref (D 0))] []
    have hX1 : Mx (xG X) (up h (D 13) (cZ (xG X) 49 (fun i => bI (sn i)))) D (M.1, M.2.1, sn) := hX.z
    have X1 := hX1.m
    have Hz1 : (up h (D 13) (cZ (xG X) 49 (fun i => bI (sn i)))) (D 13) = some (cZ (xG X) 49 (fun i => bI (sn i))) := up_s
    refine ww_iload_n C dX4_groupsOf_2 rfl 0 rfl ?_
    refine ww_bipush C dX4_groupsOf_3 cB_49 ?_
    refine ww_icmp_ge_f (tgt := 21) C dX4_groupsOf_5 (by decide) (nI_ge hi (by decide)) ?_
    refine ww_aload_n C dX4_groupsOf_8 rfl 1 rfl rfl ?_
    refine gf_X4_58_X4 C dX4_groupsOf_9 (Or.inl X1) rfl ?_
    refine ww_iload_n C dX4_groupsOf_12 rfl 0 rfl ?_
    refine ww_iconst C dX4_groupsOf_13 cI_0 ?_
    refine ww_zast C dX4_groupsOf_14 Hz1 (by omega) (by decide) nar_z0 ?_
    refine ww_gen (fun h1 hE1 => ?_)
    have X1_h1 : h1 (D 0) = some (.inr (3, [.int (M.1 0), .ref (D 1), .int (M.1 1), .int (M.1 2), .ref (D 2), .ref (D 3), .ref (D 4), .ref (D 5), .int (M.1 3), .int (M.1 4), .int (M.1 5), .int (M.1 6), .int (M.1 7), .ref (D 6), .ref (D 7), .ref (D 8), .ref (D 9), .ref (D 10), .ref (D 11), .ref (D 12), .ref (D 13), .int (M.1 8), .int (M.1 9), .int (M.1 10)])) := by rw [hE1, up_n (fun q => by cases hX.2 0 13 (by decide) (by decide) q)]; exact X1
    have Hz1_h1 : h1 (D 13) = some (.inl (gA (xG X) 3, (49, .inl (upd (fun i => bI (sn i)) j (nI 0))))) := by rw [hE1]; exact up_s
    refine ww_iinc (lv' := [(1, .int (nI (j + 1))), (0, .ref (D 0))]) C dX4_groupsOf_15 0 rfl (inc_n _) (by decide) rfl ?_
    refine ww_goto (tgt := 2) C dX4_groupsOf_18 (by decide) ?_
    refine ww_h (h' := up h (D 13) (cZ (xG X) 49 (fun i => bI ((va_up sn j false) i)))) (by rw [hE1, up_up, show upd (fun i => bI (sn i)) j (nI 0) = fun i => bI (va_up sn j false i) from by funext i; unfold upd va_up; split <;> rfl]; rfl) ?_
    exact ih (va_up sn j false) (fun i hi2 => by unfold va_up; by_cases q : i = j; { rw [if_pos q] }; { rw [if_neg q]; exact hv i (by omega) })
set_option maxHeartbeats 2000000 in
theorem ct_X4_groups {l : Launch} {Γ : Gm} (hl : l.flags = flags0) (hΓ : GOK Γ) {z : ZR} {h : AH} {B : GB} {M : MS} {D : Nat → Nat} (hz : zle (cst Γ) z) (hX : Mx Γ h D M) (hb : MBd M 30 40 B) (hC : BC B) : Ct l Γ yX4_groups cX4_groups 1 (some .int) 5 0 0 [.ref (D 0)] z h (Rv (Mq Γ z h D M (nI (grp B (Bz B)).1, 0))) := by
  refine Ct.of hl hΓ (by decide +kernel) (Nat.le_of_ble_eq_true rfl) (fun X e1 e2 C => ?_)
  subst e1; subst e2
  have C : Cx X cX4_groups 1 "RingDominoModel" "groups" (some .int) [] 5 := C
  have hB := hC.1
  obtain ⟨⟨⟨c1, c2⟩, ⟨r1, r2⟩⟩, t1, bl1, bu1, bp1, bn1⟩ := id hB
  have hzz := BO.z hB
  have hz0 : 0 < Bz B := Nat.mul_pos (by omega) (by omega)
  have X0 := hX.m
  have hR := Mx.n (z := z) hX hb
  have hP : MrP (xG X) z h (D 0) (D 10) B := ⟨_, D, Or.inl X0, hR⟩
  obtain ⟨o, nn, rn, nu, tu, S, Ht, Hn, hnu, Hs, Ha, Hc, Hu, htu⟩ := id hR
  show WW X (Rv (Mq (xG X) z h D M (nI (grp B (Bz B)).1, 0))) z h 0 0 0 [(0, .ref (D 0))] []
  refine ww_aload_n C dX4_groups_0 rfl 0 rfl rfl ?_
  refine ww_aload_n C dX4_groups_1 rfl 0 rfl rfl ?_
  refine cv_X4_385_q (As := []) (rest := [.ref (D 0)]) C dX4_groups_2 (ct_X4_groupsOf (Cx.fl C) (Cx.ok C) hz hX hb hC) (rc_X4 (Cx.ok C) (Or.inl X0)) rfl rfl (Nat.le_of_ble_eq_true rfl) (by decide) (Nat.zero_le _) (Nat.zero_le _) (fun v z8 h8 q => ?_)
  obtain ⟨rfl, hq1, f, sn, hX9, hF⟩ := q; replace hq1 := hq1.symm; subst hq1
  have X9 := hX9.m
  have hA : Mag M (M.1, va_up M.2.1 12 f, sn) := ⟨fun _ _ => rfl, fun i hi => by show (if i = 12 then _ else _) = _; rw [if_neg (by omega)]⟩
  refine cv_X4_268_q (As := [.int (nI (grp B (Bz B)).1)]) (rest := []) C dX4_groups_5 (ct_X4_ok (Cx.fl C) (Cx.ok C) X9) (rc_X4 (Cx.ok C) (Or.inl X9)) rfl rfl (Nat.le_of_ble_eq_true rfl) (by decide) (Nat.zero_le _) (Nat.zero_le _) (fun v z9 h9 q => ?_)
  obtain ⟨rfl, hq3, hq4⟩ := q; replace hq3 := hq3.symm; subst hq3
  exact ww_iret C dX4_groups_8 ⟨rfl, rfl, (upd M.1 0 (nI 0), (va_up M.2.1 12 f, sn)), (hA).thr, rfl, by rw [hq4]; exact hX9.thr _, by rw [hq4]; exact (hF).w (by decide)⟩
set_option maxHeartbeats 2000000 in
theorem ct_X4_bestTile {l : Launch} {Γ : Gm} (hl : l.flags = flags0) (hΓ : GOK Γ) {z : ZR} {h : AH} {B : GB} {M : MS} {D : Nat → Nat} (hz : zle (cst Γ) z) (hX : Mx Γ h D M) (hb : MBd M 30 40 B) (hC : BC B) : Ct l Γ yX4_bestTile cX4_bestTile 1 (some .int) 8 0 0 [.ref (D 0)] z h (Rv (Mq Γ z h D M (oI ((btN B (Bt B)).map Prod.fst), 0))) := by
  refine Ct.of hl hΓ (by decide +kernel) (Nat.le_of_ble_eq_true rfl) (fun X e1 e2 C => ?_)
  subst e1; subst e2
  have C : Cx X cX4_bestTile 1 "RingDominoModel" "bestTile" (some .int) [] 8 := C
  have hB := hC.1
  obtain ⟨⟨⟨c1, c2⟩, ⟨r1, r2⟩⟩, t1, bl1, bu1, bp1, bn1⟩ := id hB
  have hzz := BO.z hB
  have hz0 : 0 < Bz B := Nat.mul_pos (by omega) (by omega)
  have X0 := hX.m
  have hR := Mx.n (z := z) hX hb
  have hP : MrP (xG X) z h (D 0) (D 10) B := ⟨_, D, Or.inl X0, hR⟩
  obtain ⟨o, nn, rn, nu, tu, S, Ht, Hn, hnu, Hs, Ha, Hc, Hu, htu⟩ := id hR
  show WW X (Rv (Mq (xG X) z h D M (oI ((btN B (Bt B)).map Prod.fst), 0))) z h 0 0 0 [(0, .ref (D 0))] []
  refine ww_aload_n C dX4_bestTile_0 rfl 0 rfl rfl ?_
  refine ww_aload_n C dX4_bestTile_1 rfl 0 rfl rfl ?_
  refine cv_X4_421_q (As := []) (rest := [.ref (D 0)]) C dX4_bestTile_2 (ct_X4_best (Cx.fl C) (Cx.ok C) hz X0 hR hC) (rc_X4 (Cx.ok C) (Or.inl X0)) rfl rfl (Nat.le_of_ble_eq_true rfl) (by decide) (Nat.zero_le _) (Nat.zero_le _) (fun v z8 h8 q => ?_)
  obtain ⟨rfl, hq1, I1, hI1, hq2⟩ := q; replace hq1 := hq1.symm; subst hq1
  have X9 : h8 (D 0) = some (cMd I1 D) := by rw [hq2]; exact up_s
  have hI2 : cMd (upd (fun j => if j < 11 then I1 j else M.1 j) 0 (nI 0)) D = cMd (upd I1 0 (nI 0)) D := cMd_c (fun j hj => by unfold upd; split; { rfl }; { exact if_pos hj })
  refine cv_X4_268_q (As := [.int (oI ((btN B (Bt B)).map Prod.fst))]) (rest := []) C dX4_bestTile_5 (ct_X4_ok (Cx.fl C) (Cx.ok C) X9) (rc_X4 (Cx.ok C) (Or.inl X9)) rfl rfl (Nat.le_of_ble_eq_true rfl) (by decide) (Nat.zero_le _) (Nat.zero_le _) (fun v z9 h9 q => ?_)
  obtain ⟨rfl, hq3, hq4⟩ := q; replace hq3 := hq3.symm; subst hq3
  exact ww_iret C dX4_bestTile_8 (Mq.ofI hX rfl (I1 := fun j => if j < 11 then I1 j else M.1 j) (fun j hj => by by_cases q : j < 11; { rw [if_pos q]; exact hI1 j (by omega) }; { rw [if_neg q] }) (by rw [hq4, hq2, up_up]; exact (congrArg (up h (D 0)) hI2).symm))
set_option maxHeartbeats 2000000 in
theorem ct_X4_numberAt_2 {l : Launch} {Γ : Gm} (hl : l.flags = flags0) (hΓ : GOK Γ) {z : ZR} {h : AH} {B : GB} {M : MS} {D : Nat → Nat} {x y : Int32} (hz : zle (cst Γ) z) (hX : Mx Γ h D M) (hb : MBd M 30 40 B) (hC : BC B) : Ct l Γ yX4_numberAt_2 cX4_numberAt_2 3 (some .int) 4 0 0 [.ref (D 0), .int x, .int y] z h (Rv (Mq Γ z h D M (aNum B x y))) := by
  refine Ct.of hl hΓ (by decide +kernel) (Nat.le_of_ble_eq_true rfl) (fun X e1 e2 C => ?_)
  subst e1; subst e2
  have C : Cx X cX4_numberAt_2 3 "RingDominoModel" "numberAt" (some .int) [] 4 := C
  have hB := hC.1
  obtain ⟨⟨⟨c1, c2⟩, ⟨r1, r2⟩⟩, t1, bl1, bu1, bp1, bn1⟩ := id hB
  have hzz := BO.z hB
  have hz0 : 0 < Bz B := Nat.mul_pos (by omega) (by omega)
  have X0 := hX.m
  have hR := Mx.n (z := z) hX hb
  have hP : MrP (xG X) z h (D 0) (D 10) B := ⟨_, D, Or.inl X0, hR⟩
  obtain ⟨o, nn, rn, nu, tu, S, Ht, Hn, hnu, Hs, Ha, Hc, Hu, htu⟩ := id hR
  show WW X (Rv (Mq (xG X) z h D M (aNum B x y))) z h 0 0 0 [(0, .ref (D 0)), (1, .int x), (2, .int y)] []
  refine ww_aload_n C dX4_numberAt_2_0 rfl 0 rfl rfl ?_
  refine ww_iconst C dX4_numberAt_2_1 cI_0 ?_
  refine pf_X4_65_X4 (fs' := [.int (nI 0), .ref (D 1), .int (M.1 1), .int (M.1 2), .ref (D 2), .ref (D 3), .ref (D 4), .ref (D 5), .int (M.1 3), .int (M.1 4), .int (M.1 5), .int (M.1 6), .int (M.1 7), .ref (D 6), .ref (D 7), .ref (D 8), .ref (D 9), .ref (D 10), .ref (D 11), .ref (D 12), .ref (D 13), .int (M.1 8), .int (M.1 9), .int (M.1 10)]) C dX4_numberAt_2_2 X0 rfl rfl (Nat.le_of_ble_eq_true rfl) rfl ?_
  refine ww_gen (fun h1 hE1 => ?_)
  have X0_h1 : h1 (D 0) = some (.inr (3, [.int (nI 0), .ref (D 1), .int (M.1 1), .int (M.1 2), .ref (D 2), .ref (D 3), .ref (D 4), .ref (D 5), .int (M.1 3), .int (M.1 4), .int (M.1 5), .int (M.1 6), .int (M.1 7), .ref (D 6), .ref (D 7), .ref (D 8), .ref (D 9), .ref (D 10), .ref (D 11), .ref (D 12), .ref (D 13), .int (M.1 8), .int (M.1 9), .int (M.1 10)])) := by rw [hE1]; exact up_s
  have hX1 : Mx (xG X) h1 D (upd M.1 0 (nI 0), M.2) := by rw [hE1]; exact hX.thr _
  have hb1 : MBd (upd M.1 0 (nI 0), M.2) 30 40 B := hb.thr
  have hR1 := Mx.n (z := z) hX1 hb1
  have hP1 : MrP (xG X) z h1 (D 0) (D 10) B := ⟨_, D, Or.inl hX1.m, hR1⟩
  obtain ⟨o1, nn1, rn1, nu1, tu1, S1, Ht1, Hn1, hnu1, Hs1, Ha1, Hc1, Hu1, htu1⟩ := id hR1
  have hE0 : h1 = up h (D 0) (cMd (upd M.1 0 (nI 0)) D) := hE1
  have X1 := hX1.m
  refine ww_aload_n C dX4_numberAt_2_5 rfl 0 rfl rfl ?_
  refine ww_iload_n C dX4_numberAt_2_6 rfl 1 rfl ?_
  refine cv_X4_388_r (As := [.int x]) (rest := []) C dX4_numberAt_2_7 (ct_X4_isCell (Cx.fl C) (Cx.ok C) hz hP1 hC) (rc_X4 (Cx.ok C) (Or.inl X1)) rfl rfl (Nat.le_of_ble_eq_true rfl) (by decide) (Nat.zero_le _) (Nat.zero_le _) ?_
  refine ww_if_eq_b (tgt := 20) C dX4_numberAt_2_10 (by decide) (fun c_10 => ?_) (fun c_10 => ?_)
  · skip
    have hix := ixB_f c_10
    refine ww_aload_n C dX4_numberAt_2_20 rfl 0 rfl rfl ?_
    refine ww_iconst C dX4_numberAt_2_21 cI_1 ?_
    refine cv_X4_254_q (As := [.int (nI 1)]) (rest := []) C dX4_numberAt_2_22 (ct_X4_no (Cx.fl C) (Cx.ok C) X1) (rc_X4 (Cx.ok C) (Or.inl X1)) rfl rfl (Nat.le_of_ble_eq_true rfl) (by decide) (Nat.zero_le _) (Nat.zero_le _) (fun v z9 h9 q => ?_)
    obtain ⟨rfl, hq1, hq2⟩ := q; replace hq1 := hq1.symm; subst hq1
    exact ww_iret C dX4_numberAt_2_25 (Mq.of hX (by unfold aNum; rw [hix]; try rfl) (by rw [hq2, hE0, up_up, upd_upd]; unfold aNum; rw [hix]; try rfl))
  · skip
    obtain ⟨c, hc, hxc, hix⟩ := ixB_t (by omega) c_10
    subst hxc
    refine ww_iload_n C dX4_numberAt_2_13 rfl 2 rfl ?_
    refine cs_X4_394_r (As := [.int y]) (rest := []) C dX4_numberAt_2_14 (ct_X4_isEdge (Cx.fl C) (Cx.ok C)) rfl rfl (Nat.le_of_ble_eq_true rfl) (by decide) (Nat.zero_le _) (Nat.zero_le _) ?_
    refine ww_if_ne_b (tgt := 26) C dX4_numberAt_2_17 (by decide) (fun c_17 => ?_) (fun c_17 => ?_)
    · skip
      obtain ⟨e, he, hye, hiy⟩ := ixB_t (by decide) c_17
      subst hye
      refine ww_aload_n C dX4_numberAt_2_26 rfl 0 rfl rfl ?_
      refine gf_X4_48_X4 C dX4_numberAt_2_27 (Or.inl X1) rfl ?_
      refine gf_X4_280_X6 C dX4_numberAt_2_30 Hs1 rfl ?_
      refine ww_iload_n C dX4_numberAt_2_33 rfl 1 rfl ?_
      refine ww_iald C dX4_numberAt_2_34 Ha1 (by omega) (by decide) ?_
      refine ww_iconst C dX4_numberAt_2_35 cI_m1 ?_
      refine ww_icmp_ne_o (tgt := 47) C dX4_numberAt_2_36 (by decide) (hC.a c) (fun c_36 => ?_) (fun c_36 => ?_)
      · skip
        have hT : hasT B (some c) = true := by rw [← atO_is]; exact Option.isSome_iff_ne_none.mpr c_36
        have hp : 0 < Bl B c := by simpa [hasT] using hT
        refine ww_aload_n C dX4_numberAt_2_47 rfl 0 rfl rfl ?_
        refine ww_aload_n C dX4_numberAt_2_48 rfl 0 rfl rfl ?_
        refine gf_X4_48_X4 C dX4_numberAt_2_49 (Or.inl X1) rfl ?_
        refine ww_iload_n C dX4_numberAt_2_52 rfl 1 rfl ?_
        refine ww_iload_n C dX4_numberAt_2_53 rfl 2 rfl ?_
        refine cv_X4_318_r (As := [.ref (D 10), .int (nI c), .int (nI e)]) (rest := []) C dX4_numberAt_2_54 (ct_X4_numberAt (Cx.fl C) (Cx.ok C) hz hP1 hC (by omega) he hp) (rc_X4 (Cx.ok C) (Or.inl X1)) rfl rfl (Nat.le_of_ble_eq_true rfl) (by decide) (Nat.zero_le _) (Nat.zero_le _) ?_
        exact ww_iret C dX4_numberAt_2_57 (Mq.of hX (by unfold aNum; rw [hix]; simp only [hiy, hT]; try rfl) (by rw [hE0]; unfold aNum; rw [hix]; simp only [hiy, hT]; try rfl))
      · skip
        have hT : hasT B (some c) = false := by rw [← atO_is, c_36]; rfl
        refine ww_aload_n C dX4_numberAt_2_39 rfl 0 rfl rfl ?_
        refine ww_iconst C dX4_numberAt_2_40 cI_2 ?_
        refine cv_X4_254_q (As := [.int (nI 2)]) (rest := []) C dX4_numberAt_2_41 (ct_X4_no (Cx.fl C) (Cx.ok C) X1) (rc_X4 (Cx.ok C) (Or.inl X1)) rfl rfl (Nat.le_of_ble_eq_true rfl) (by decide) (Nat.zero_le _) (Nat.zero_le _) (fun v z9 h9 q => ?_)
        obtain ⟨rfl, hq1, hq2⟩ := q; replace hq1 := hq1.symm; subst hq1
        refine ww_goto (tgt := 57) C dX4_numberAt_2_44 (by decide) ?_
        exact ww_iret C dX4_numberAt_2_57 (Mq.of hX (by unfold aNum; rw [hix]; simp only [hiy, hT]; try rfl) (by rw [hq2, hE0, up_up, upd_upd]; unfold aNum; rw [hix]; simp only [hiy, hT]; try rfl))
    · skip
      have hiy := ixB_f c_17
      refine ww_aload_n C dX4_numberAt_2_20 rfl 0 rfl rfl ?_
      refine ww_iconst C dX4_numberAt_2_21 cI_1 ?_
      refine cv_X4_254_q (As := [.int (nI 1)]) (rest := []) C dX4_numberAt_2_22 (ct_X4_no (Cx.fl C) (Cx.ok C) X1) (rc_X4 (Cx.ok C) (Or.inl X1)) rfl rfl (Nat.le_of_ble_eq_true rfl) (by decide) (Nat.zero_le _) (Nat.zero_le _) (fun v z9 h9 q => ?_)
      obtain ⟨rfl, hq1, hq2⟩ := q; replace hq1 := hq1.symm; subst hq1
      exact ww_iret C dX4_numberAt_2_25 (Mq.of hX (by unfold aNum; rw [hix]; simp only [hiy]; try rfl) (by rw [hq2, hE0, up_up, upd_upd]; unfold aNum; rw [hix]; simp only [hiy]; try rfl))
end MO5
