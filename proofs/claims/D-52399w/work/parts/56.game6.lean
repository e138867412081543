section GA6
set_option maxRecDepth 100000
set_option maxHeartbeats 2000000 in
theorem ct_X3_groups {l : Launch} {Γ : Gm} (hl : l.flags = flags0) (hΓ : GOK Γ) {z : ZR} {h : AH} {g : Nat} {A : Nat → Nat} {B : GB} {rn dn : Int32} (hG : GmP Γ z h g A B rn dn) (hB : BO B) : Ct l Γ yX3_groups cX3_groups 9 (some .int) 4 2 (2 * Bz B) [.ref g] z h (RdP z h (some (.int (nI (grp B (Bz B)).1)))) := by
  refine Ct.of hl hΓ (by decide +kernel) (Nat.le_of_ble_eq_true rfl) (fun X e1 e2 C => ?_)
  subst e1; subst e2
  have C : Cx X cX3_groups 9 "RingDomino$Game" "groups" (some .int) [] 4 := C
  have hzz := BO.z hB
  have hbl := BO.l hB
  have hcc : (3 ≤ Bc B ∧ Bc B ≤ 7) ∧ (3 ≤ Br B ∧ Br B ≤ 7) := hB.1
  obtain ⟨Hg, -⟩ := id hG
  have hz0 : 0 < Bz B := Nat.mul_pos (by omega) (by omega)
  show WW X (RdP z h (some (.int (nI (grp B (Bz B)).1)))) z h 2 (2 * Bz B) 0 [(0, .ref g)] []
  refine ww_aload_n C dX3_groups_0 rfl 0 rfl rfl ?_
  refine cv_X3_62_r (As := []) (rest := []) C dX3_groups_1 (ct_X3_cells (Cx.fl C) (Cx.ok C) hG hB.1) (rc_X3 (Cx.ok C) Hg) rfl rfl (Nat.le_of_ble_eq_true rfl) (by decide) (Nat.zero_le _) (Nat.zero_le _) ?_
  refine ww_newa (t := 3) (n := (Bz B)) (a0 := (Bz B, .inl (fun _ => 0))) C dX3_groups_4 (by decide) rfl q2082 (fun cA => vp_cell_el cA _) (by omega) (by decide) (by omega) (fun a1 a1_n a1_z a1_g => ?_)
  refine ww_gen (fun h1 hE1 => ?_)
  have N1_h1 : h1 a1 = some (.inl (gA (xG X) 3, (Bz B, .inl (fun _ => 0)))) := by rw [hE1]; exact up_s
  have hle1 : hle h h1 := by rw [hE1]; exact up_hle a1_n
  have hG1 := hG.mono zle.rf hle1
  refine ww_astore_n (lv' := [(1, .ref a1), (0, .ref g)]) C dX3_groups_6 rfl (by decide) rfl rfl ?_
  refine ww_aload_n C dX3_groups_7 rfl 1 rfl rfl ?_
  refine cv_X3_62_r (As := []) (rest := []) C dX3_groups_8 (ct_X3_cells (Cx.fl C) (Cx.ok C) hG1 hB.1) (rc_X3 (Cx.ok C) hG1.1) rfl rfl (Nat.le_of_ble_eq_true rfl) (by decide) (Nat.zero_le _) (Nat.zero_le _) ?_
  refine ww_newa (t := 0) (n := (Bz B)) (a0 := (Bz B, .inl (fun _ => 0))) C dX3_groups_11 (by decide) rfl q267 (fun cA => vp_cell_el cA _) (by omega) (by decide) (by omega) (fun a2 a2_n a2_z a2_g => ?_)
  refine ww_gen (fun h2 hE2 => ?_)
  have N1_h2 : h2 a1 = some (.inl (gA (xG X) 3, (Bz B, .inl (fun _ => 0)))) := by rw [hE2, up_n (ne_nw N1_h1 a2_n)]; exact N1_h1
  have N2_h2 : h2 a2 = some (.inl (gA (xG X) 0, (Bz B, .inl (fun _ => 0)))) := by rw [hE2]; exact up_s
  have nqz : a2 ≠ a1 := fun q => by rw [hE1, q, up_s] at a2_n; cases a2_n
  have a2_h : h a2 = none := by rw [hE1, up_n nqz] at a2_n; exact a2_n
  have hgo : ∀ (f : Nat → Int32) (s : Nat → Bool), GmP (xG X) z (up (up h a2 (cI (xG X) (Bz B) f)) a1 (cZ (xG X) (Bz B) (fun i => bI (s i)))) g A B rn dn := fun f s => hG.mono zle.rf (hle.tr (up_hle a2_h) (up_hle (by rw [up_n (Ne.symm nqz)]; exact a1_n)))
  refine ww_astore_n (lv' := [(2, .ref a2), (1, .ref a1), (0, .ref g)]) C dX3_groups_13 rfl (by decide) rfl rfl ?_
  refine ww_iconst C dX3_groups_14 cI_0 ?_
  refine ww_istore_n (lv' := [(3, .int (nI 0)), (2, .ref a2), (1, .ref a1), (0, .ref g)]) C dX3_groups_15 rfl (by decide) rfl ?_
  refine ww_iconst C dX3_groups_16 cI_0 ?_
  refine ww_istore (lv' := [(4, .int (nI 0)), (3, .int (nI 0)), (2, .ref a2), (1, .ref a1), (0, .ref g)]) C dX3_groups_17 (by decide) rfl ?_
  refine ww_h (h' := up (up h a2 (cI (xG X) (Bz B) (fun _ => 0))) a1 (cZ (xG X) (Bz B) (fun i => bI ((fun _ => false) i)))) (by rw [hE2, hE1]; exact up_cm (Ne.symm nqz)) ?_
  refine ww_sub [0, 1, 4, 3, 2] rfl ?_
  refine loop_up (N := (Bz B)) (M := fun x => ∀ (f0 : Nat → Int32) (s1 : Nat → Bool), (s1 = (grp B x).2) → WW X (RdP z h (some (.int (nI (grp B (Bz B)).1)))) z (up (up h a2 (cI (xG X) (Bz B) f0)) a1 (cZ (xG X) (Bz B) (fun i => bI (s1 i)))) 0 (((2 * Bz B) - (Bz B)) - (Bz B)) 19 [(4, .int (nI x)), (3, .int (nI ((grp B x).1))), (0, .ref g), (1, .ref a1), (2, .ref a2)] []) ?_ ?_ 0 (Nat.zero_le _) _ _ rfl
  · intro f0 s1 hw
    show WW X (RdP z h (some (.int (nI (grp B (Bz B)).1)))) z (up (up h a2 (cI (xG X) (Bz B) f0)) a1 (cZ (xG X) (Bz B) (fun i => bI (s1 i)))) 0 (((2 * Bz B) - (Bz B)) - (Bz B)) 19 [(4, .int (nI (Bz B))), (3, .int (nI ((grp B (Bz B)).1))), (0, .ref g), (1, .ref a1), (2, .ref a2)] []
    have hG2 : GmP (xG X) z (up (up h a2 (cI (xG X) (Bz B) f0)) a1 (cZ (xG X) (Bz B) (fun i => bI (s1 i)))) g A B rn dn := hgo f0 s1
    have Hz : (up (up h a2 (cI (xG X) (Bz B) f0)) a1 (cZ (xG X) (Bz B) (fun i => bI (s1 i)))) a1 = some (cZ (xG X) (Bz B) (fun i => bI (s1 i))) := up_s
    have Hq : (up (up h a2 (cI (xG X) (Bz B) f0)) a1 (cZ (xG X) (Bz B) (fun i => bI (s1 i)))) a2 = some (cI (xG X) (Bz B) f0) := by rw [up_n nqz]; exact up_s
    refine ww_iload C dX3_groups_19 0 rfl ?_
    refine ww_aload_n C dX3_groups_21 rfl 2 rfl rfl ?_
    refine cv_X3_62_r (As := []) (rest := [.int (nI (Bz B))]) C dX3_groups_22 (ct_X3_cells (Cx.fl C) (Cx.ok C) hG2 hB.1) (rc_X3 (Cx.ok C) hG2.1) rfl rfl (Nat.le_of_ble_eq_true rfl) (by decide) (Nat.zero_le _) (Nat.zero_le _) ?_
    refine ww_icmp_ge_t (tgt := 146) C dX3_groups_25 (by decide) (nI_le (Nat.le_refl _) (by omega)) ?_
    refine ww_iload_n C dX3_groups_146 rfl 1 rfl ?_
    refine ww_hs (h' := h) (hle.tr (up_hle a2_h) (up_hle (by rw [up_n (Ne.symm nqz)]; exact a1_n))) ?_
    exact ww_iret C dX3_groups_147 (RdP.i (by rfl))
  · intro x hi ih f0 s1 hw
    show WW X (RdP z h (some (.int (nI (grp B (Bz B)).1)))) z (up (up h a2 (cI (xG X) (Bz B) f0)) a1 (cZ (xG X) (Bz B) (fun i => bI (s1 i)))) 0 (((2 * Bz B) - (Bz B)) - (Bz B)) 19 [(4, .int (nI x)), (3, .int (nI ((grp B x).1))), (0, .ref g), (1, .ref a1), (2, .ref a2)] []
    have hG2 : GmP (xG X) z (up (up h a2 (cI (xG X) (Bz B) f0)) a1 (cZ (xG X) (Bz B) (fun i => bI (s1 i)))) g A B rn dn := hgo f0 s1
    have Hz : (up (up h a2 (cI (xG X) (Bz B) f0)) a1 (cZ (xG X) (Bz B) (fun i => bI (s1 i)))) a1 = some (cZ (xG X) (Bz B) (fun i => bI (s1 i))) := up_s
    have Hq : (up (up h a2 (cI (xG X) (Bz B) f0)) a1 (cZ (xG X) (Bz B) (fun i => bI (s1 i)))) a2 = some (cI (xG X) (Bz B) f0) := by rw [up_n nqz]; exact up_s
    refine ww_iload C dX3_groups_19 0 rfl ?_
    refine ww_aload_n C dX3_groups_21 rfl 2 rfl rfl ?_
    refine cv_X3_62_r (As := []) (rest := [.int (nI x)]) C dX3_groups_22 (ct_X3_cells (Cx.fl C) (Cx.ok C) hG2 hB.1) (rc_X3 (Cx.ok C) hG2.1) rfl rfl (Nat.le_of_ble_eq_true rfl) (by decide) (Nat.zero_le _) (Nat.zero_le _) ?_
    refine ww_icmp_ge_f (tgt := 146) C dX3_groups_25 (by decide) (nI_ge hi (by omega)) ?_
    refine ww_aload_n C dX3_groups_28 rfl 2 rfl rfl ?_
    refine ww_iload C dX3_groups_29 0 rfl ?_
    refine cv_X3_64_r (As := [.int (nI x)]) (rest := []) C dX3_groups_31 (ct_X3_hasTile (Cx.fl C) (Cx.ok C) hG2 hB.1 (o := some x) (fun y q => by cases q; omega) hbl) (rc_X3 (Cx.ok C) hG2.1) rfl rfl (Nat.le_of_ble_eq_true rfl) (by decide) (Nat.zero_le _) (Nat.zero_le _) ?_
    refine ww_if_eq_b (tgt := 140) C dX3_groups_34 (by decide) (fun c_34 => ?_) (fun c_34 => ?_)
    · skip
      have hg := grp_f (B := B) (n := x) (Or.inl c_34)
      refine ww_iinc (lv' := [(4, .int (nI (x + 1))), (3, .int (nI ((grp B x).1))), (0, .ref g), (1, .ref a1), (2, .ref a2)]) C dX3_groups_140 0 rfl (inc_n _) (by decide) rfl ?_
      refine ww_goto (tgt := 19) C dX3_groups_143 (by decide) ?_
      refine ww_lv (lv' := [(4, .int (nI (x + 1))), (3, .int (nI ((grp B (x + 1)).1))), (0, .ref g), (1, .ref a1), (2, .ref a2)]) (by rw [hg]; try rfl) (ih f0 s1 ?_)
      rw [hg]; exact hw
    · skip
      refine ww_aload_n C dX3_groups_37 rfl 3 rfl rfl ?_
      refine ww_iload C dX3_groups_38 0 rfl ?_
      refine ww_zald C dX3_groups_40 (Or.inl Hz) (by omega) (by omega) ?_
      refine ww_if_eq_b (tgt := 47) C dX3_groups_41 (by decide) (fun c_41 => ?_) (fun c_41 => ?_)
      · skip
        have hsx : (grp B x).2 x = false := by rw [← hw]; exact c_41
        have hg := grp_t c_34 hsx
        refine ww_iinc (lv' := [(3, .int (nI ((grp B x).1 + 1))), (4, .int (nI x)), (0, .ref g), (1, .ref a1), (2, .ref a2)]) C dX3_groups_47 1 rfl (inc_n _) (by decide) rfl ?_
        refine ww_aload_n C dX3_groups_50 rfl 3 rfl rfl ?_
        refine ww_iload C dX3_groups_51 1 rfl ?_
        refine ww_iconst C dX3_groups_53 cI_1 ?_
        refine ww_zast C dX3_groups_54 Hz (by omega) (by omega) nar_z1 ?_
        refine ww_gen (fun h3 hE3 => ?_)
        have Hq_h3 : h3 a2 = some (.inl (gA (xG X) 0, (Bz B, .inl f0))) := by rw [hE3, up_n nqz]; exact Hq
        have Hz_h3 : h3 a1 = some (.inl (gA (xG X) 3, (Bz B, .inl (upd (fun i => bI (s1 i)) x (nI 1))))) := by rw [hE3]; exact up_s
        refine ww_aload_n C dX3_groups_55 rfl 4 rfl rfl ?_
        refine ww_iconst C dX3_groups_56 cI_0 ?_
        refine ww_iload C dX3_groups_57 1 rfl ?_
        refine ww_iast C dX3_groups_59 Hq_h3 (by omega) (by omega) ?_
        refine ww_gen (fun h4 hE4 => ?_)
        have Hz_h4 : h4 a1 = some (.inl (gA (xG X) 3, (Bz B, .inl (upd (fun i => bI (s1 i)) x (nI 1))))) := by rw [hE4, up_n (Ne.symm nqz)]; exact Hz_h3
        have Hq_h4 : h4 a2 = some (.inl (gA (xG X) 0, (Bz B, .inl (upd f0 0 (nI x))))) := by rw [hE4]; exact up_s
        refine ww_iconst C dX3_groups_60 cI_1 ?_
        refine ww_istore (lv' := [(5, .int (nI 1)), (3, .int (nI ((grp B x).1 + 1))), (4, .int (nI x)), (0, .ref g), (1, .ref a1), (2, .ref a2)]) C dX3_groups_61 (by decide) rfl ?_
        refine ww_iconst C dX3_groups_63 cI_0 ?_
        refine ww_istore (lv' := [(6, .int (nI 0)), (5, .int (nI 1)), (3, .int (nI ((grp B x).1 + 1))), (4, .int (nI x)), (0, .ref g), (1, .ref a1), (2, .ref a2)]) C dX3_groups_64 (by decide) rfl ?_
        refine ww_h (h' := up (up h a2 (cI (xG X) (Bz B) (upd f0 0 (nI x)))) a1 (cZ (xG X) (Bz B) (fun i => bI ((g0 s1 x).1 i)))) (by rw [hE4, hE3, upd_bI]; funext a; simp only [up_at]; by_cases e1 : a = a2 <;> by_cases e2 : a = a1 <;> simp [e1, e2, nqz, Ne.symm nqz, cI, cZ, g0]) ?_
        have ih0 := ih
        refine ww_sub [0, 1, 4, 5, 6, 2, 3] rfl ?_
        refine loop_up (N := 50) (M := fun k => ∀ (S : GS) (f : Nat → Int32), (GI B S) → (k ≤ S.2.2) → (lnP S f) → (gbf B 50 0 (g0 s1 x) = gbf B (50 - k) k S) → WW X (RdP z h (some (.int (nI (grp B (Bz B)).1)))) z (up (up h a2 (cI (xG X) (Bz B) f)) a1 (cZ (xG X) (Bz B) (fun i => bI (S.1 i)))) 0 (((2 * Bz B) - (Bz B)) - (Bz B)) 66 [(6, .int (nI k)), (5, .int (nI S.2.2)), (0, .ref g), (1, .ref a1), (2, .ref a2), (3, .int (nI ((grp B x).1 + 1))), (4, .int (nI x))] []) ?_ ?_ 0 (Nat.zero_le _) (g0 s1 x) (upd f0 0 (nI x)) (g0_i hi c_41) (Nat.zero_le _) (fun i hi => by have : i = 0 := (by have : i < 1 := hi; omega); subst this; rfl) rfl
        · intro S f hv1 hv2 hv3 hv4
          show WW X (RdP z h (some (.int (nI (grp B (Bz B)).1)))) z (up (up h a2 (cI (xG X) (Bz B) f)) a1 (cZ (xG X) (Bz B) (fun i => bI (S.1 i)))) 0 (((2 * Bz B) - (Bz B)) - (Bz B)) 66 [(6, .int (nI 50)), (5, .int (nI S.2.2)), (0, .ref g), (1, .ref a1), (2, .ref a2), (3, .int (nI ((grp B x).1 + 1))), (4, .int (nI x))] []
          have := GI.le hv1; omega
        · intro k hi ih S f hv1 hv2 hv3 hv4
          show WW X (RdP z h (some (.int (nI (grp B (Bz B)).1)))) z (up (up h a2 (cI (xG X) (Bz B) f)) a1 (cZ (xG X) (Bz B) (fun i => bI (S.1 i)))) 0 (((2 * Bz B) - (Bz B)) - (Bz B)) 66 [(6, .int (nI k)), (5, .int (nI S.2.2)), (0, .ref g), (1, .ref a1), (2, .ref a2), (3, .int (nI ((grp B x).1 + 1))), (4, .int (nI x))] []
          have Hz : (up (up h a2 (cI (xG X) (Bz B) f)) a1 (cZ (xG X) (Bz B) (fun i => bI (S.1 i)))) a1 = some (cZ (xG X) (Bz B) (fun i => bI (S.1 i))) := up_s
          have Hq : (up (up h a2 (cI (xG X) (Bz B) f)) a1 (cZ (xG X) (Bz B) (fun i => bI (S.1 i)))) a2 = some (cI (xG X) (Bz B) f) := by rw [up_n nqz]; exact up_s
          have hG3 : GmP (xG X) z (up (up h a2 (cI (xG X) (Bz B) f)) a1 (cZ (xG X) (Bz B) (fun i => bI (S.1 i)))) g A B rn dn := hgo _ _
          have hsl := GI.le hv1
          refine ww_iload C dX3_groups_66 0 rfl ?_
          refine ww_iload C dX3_groups_68 1 rfl ?_
          refine ww_icmp_ge_n (tgt := 140) C dX3_groups_70 (by decide) (by omega) (by omega) (fun c_70 => ?_) (fun c_70 => ?_)
          · skip
            rw [gbf_f hi (by omega)] at hv4
            refine ww_iinc (lv' := [(4, .int (nI (x + 1))), (6, .int (nI k)), (5, .int (nI S.2.2)), (0, .ref g), (1, .ref a1), (2, .ref a2), (3, .int (nI ((grp B x).1 + 1)))]) C dX3_groups_140 6 rfl (inc_n _) (by decide) rfl ?_
            refine ww_goto (tgt := 19) C dX3_groups_143 (by decide) ?_
            refine ww_sub [0, 6, 3, 4, 5] rfl ?_
            refine ww_lv (lv' := [(4, .int (nI (x + 1))), (3, .int (nI ((grp B (x + 1)).1))), (0, .ref g), (1, .ref a1), (2, .ref a2)]) (by rw [hg]; try rfl) (ih0 f S.1 ?_)
            rw [hg, ← hw, ← hv4]
          · skip
            rw [gbf_t hi c_70] at hv4
            refine ww_iconst C dX3_groups_73 cI_0 ?_
            refine ww_istore (lv' := [(7, .int (nI 0)), (6, .int (nI k)), (5, .int (nI S.2.2)), (0, .ref g), (1, .ref a1), (2, .ref a2), (3, .int (nI ((grp B x).1 + 1))), (4, .int (nI x))]) C dX3_groups_74 (by decide) rfl ?_
            refine loop_up (N := 6) (M := fun j => ∀ (f1 : Nat → Int32), (lnP (ged B k S j) f1) → WW X (RdP z h (some (.int (nI (grp B (Bz B)).1)))) z (up (up h a2 (cI (xG X) (Bz B) f1)) a1 (cZ (xG X) (Bz B) (fun i => bI ((ged B k S j).1 i)))) 0 (((2 * Bz B) - (Bz B)) - (Bz B)) 76 [(7, .int (nI j)), (6, .int (nI k)), (5, .int (nI ((ged B k S j).2.2))), (0, .ref g), (1, .ref a1), (2, .ref a2), (3, .int (nI ((grp B x).1 + 1))), (4, .int (nI x))] []) ?_ ?_ 0 (Nat.zero_le _) f hv3
            · intro f1 hw
              show WW X (RdP z h (some (.int (nI (grp B (Bz B)).1)))) z (up (up h a2 (cI (xG X) (Bz B) f1)) a1 (cZ (xG X) (Bz B) (fun i => bI ((ged B k S 6).1 i)))) 0 (((2 * Bz B) - (Bz B)) - (Bz B)) 76 [(7, .int (nI 6)), (6, .int (nI k)), (5, .int (nI ((ged B k S 6).2.2))), (0, .ref g), (1, .ref a1), (2, .ref a2), (3, .int (nI ((grp B x).1 + 1))), (4, .int (nI x))] []
              obtain ⟨g1, g2, g3⟩ := ged_i hB hv1 c_70 6 (Nat.le_refl _)
              refine ww_iload C dX3_groups_76 0 rfl ?_
              refine ww_bipush C dX3_groups_78 cB_6 ?_
              refine ww_icmp_ge_t (tgt := 134) C dX3_groups_80 (by decide) (nI_le (Nat.le_refl _) (by decide)) ?_
              refine ww_iinc (lv' := [(6, .int (nI (k + 1))), (7, .int (nI 6)), (5, .int (nI ((ged B k S 6).2.2))), (0, .ref g), (1, .ref a1), (2, .ref a2), (3, .int (nI ((grp B x).1 + 1))), (4, .int (nI x))]) C dX3_groups_134 1 rfl (inc_n _) (by decide) rfl ?_
              refine ww_goto (tgt := 66) C dX3_groups_137 (by decide) ?_
              refine ww_sub [0, 2, 3, 4, 5, 6, 7] rfl ?_
              exact ih (ged B k S 6) f1 g1 (by omega) hw hv4
            · intro j hj ih2 f1 hw
              show WW X (RdP z h (some (.int (nI (grp B (Bz B)).1)))) z (up (up h a2 (cI (xG X) (Bz B) f1)) a1 (cZ (xG X) (Bz B) (fun i => bI ((ged B k S j).1 i)))) 0 (((2 * Bz B) - (Bz B)) - (Bz B)) 76 [(7, .int (nI j)), (6, .int (nI k)), (5, .int (nI ((ged B k S j).2.2))), (0, .ref g), (1, .ref a1), (2, .ref a2), (3, .int (nI ((grp B x).1 + 1))), (4, .int (nI x))] []
              obtain ⟨g1, g2, g3⟩ := ged_i hB hv1 c_70 j (by omega)
              have gl := GI.le g1
              have glk := g1.1 k (by omega)
              have hfk := hw k (by omega)
              have hgs : ged B k S (j + 1) = gst B (ged B k S j) (bes (Bc B) (Br B) ((ged B k S j).2.1 k) j) := rfl
              have hbe : ∀ y, bes (Bc B) (Br B) ((ged B k S j).2.1 k) j = some y → y < Bz B := fun y q => bes_lt hB.1.1 hB.1.2 (by omega) hj q
              have Hz : (up (up h a2 (cI (xG X) (Bz B) f1)) a1 (cZ (xG X) (Bz B) (fun i => bI ((ged B k S j).1 i)))) a1 = some (cZ (xG X) (Bz B) (fun i => bI ((ged B k S j).1 i))) := up_s
              have Hq : (up (up h a2 (cI (xG X) (Bz B) f1)) a1 (cZ (xG X) (Bz B) (fun i => bI ((ged B k S j).1 i)))) a2 = some (cI (xG X) (Bz B) f1) := by rw [up_n nqz]; exact up_s
              have hG3 : GmP (xG X) z (up (up h a2 (cI (xG X) (Bz B) f1)) a1 (cZ (xG X) (Bz B) (fun i => bI ((ged B k S j).1 i)))) g A B rn dn := hgo _ _
              refine ww_iload C dX3_groups_76 0 rfl ?_
              refine ww_bipush C dX3_groups_78 cB_6 ?_
              refine ww_icmp_ge_f (tgt := 134) C dX3_groups_80 (by decide) (nI_ge hj (by decide)) ?_
              refine ww_aload_n C dX3_groups_83 rfl 3 rfl rfl ?_
              refine ww_aload_n C dX3_groups_84 rfl 5 rfl rfl ?_
              refine ww_iload C dX3_groups_85 1 rfl ?_
              refine ww_iald C dX3_groups_87 (Or.inl Hq) (by omega) (by omega) ?_
              refine ww_st (st' := [.int (nI ((ged B k S j).2.1 k)), .ref g]) (by rw [hfk]) ?_
              refine ww_iload C dX3_groups_88 0 rfl ?_
              refine cv_X3_68_r (As := [.int (nI ((ged B k S j).2.1 k)), .int (nI j)]) (rest := []) C dX3_groups_90 (ct_X3_beside (Cx.fl C) (Cx.ok C) hG3 hB.1 (by omega) hj) (rc_X3 (Cx.ok C) hG3.1) rfl rfl (Nat.le_of_ble_eq_true rfl) (by decide) (Nat.zero_le _) (Nat.zero_le _) ?_
              refine ww_istore (lv' := [(8, .int (oI (bes (Bc B) (Br B) ((ged B k S j).2.1 k) j))), (7, .int (nI j)), (6, .int (nI k)), (5, .int (nI ((ged B k S j).2.2))), (0, .ref g), (1, .ref a1), (2, .ref a2), (3, .int (nI ((grp B x).1 + 1))), (4, .int (nI x))]) C dX3_groups_93 (by decide) rfl ?_
              refine ww_aload_n C dX3_groups_95 rfl 4 rfl rfl ?_
              refine ww_iload C dX3_groups_96 0 rfl ?_
              refine cv_X3_64_r (As := [.int (oI (bes (Bc B) (Br B) ((ged B k S j).2.1 k) j))]) (rest := []) C dX3_groups_98 (ct_X3_hasTile (Cx.fl C) (Cx.ok C) hG3 hB.1 (fun y q => by have := hbe y q; omega) hbl) (rc_X3 (Cx.ok C) hG3.1) rfl rfl (Nat.le_of_ble_eq_true rfl) (by decide) (Nat.zero_le _) (Nat.zero_le _) ?_
              refine ww_if_eq_b (tgt := 128) C dX3_groups_101 (by decide) (fun c_101 => ?_) (fun c_101 => ?_)
              · skip
                have he : ged B k S (j + 1) = ged B k S j := hgs.trans (gst_f (Or.inl c_101))
                refine ww_iinc (lv' := [(7, .int (nI (j + 1))), (8, .int (oI (bes (Bc B) (Br B) ((ged B k S j).2.1 k) j))), (6, .int (nI k)), (5, .int (nI ((ged B k S j).2.2))), (0, .ref g), (1, .ref a1), (2, .ref a2), (3, .int (nI ((grp B x).1 + 1))), (4, .int (nI x))]) C dX3_groups_128 1 rfl (inc_n _) (by decide) rfl ?_
                refine ww_goto (tgt := 76) C dX3_groups_131 (by decide) ?_
                refine ww_sub [0, 2, 3, 4, 5, 6, 7, 8] rfl ?_
                refine ww_lv (lv' := [(7, .int (nI (j + 1))), (6, .int (nI k)), (5, .int (nI ((ged B k S (j + 1)).2.2))), (0, .ref g), (1, .ref a1), (2, .ref a2), (3, .int (nI ((grp B x).1 + 1))), (4, .int (nI x))]) (by rw [he]; try rfl) ?_
                refine ww_h (h' := up (up h a2 (cI (xG X) (Bz B) f1)) a1 (cZ (xG X) (Bz B) (fun i => bI ((ged B k S (j + 1)).1 i)))) (by rw [he]) ?_
                exact ih2 f1 (by rw [he]; exact hw)
              · skip
                obtain ⟨y, hy⟩ : ∃ y, bes (Bc B) (Br B) ((ged B k S j).2.1 k) j = some y := by
                  cases q : bes (Bc B) (Br B) ((ged B k S j).2.1 k) j with
                  | none => rw [q] at c_101; cases c_101
                  | some y => exact ⟨y, rfl⟩
                have hyB0 := hbe y hy
                have hT : hasT B (some y) = true := by rw [hy] at c_101; exact c_101
                refine ww_lv (lv' := [(8, .int (nI y)), (7, .int (nI j)), (6, .int (nI k)), (5, .int (nI ((ged B k S j).2.2))), (0, .ref g), (1, .ref a1), (2, .ref a2), (3, .int (nI ((grp B x).1 + 1))), (4, .int (nI x))]) (by rw [hy]; rfl) ?_
                refine ww_aload_n C dX3_groups_104 rfl 5 rfl rfl ?_
                refine ww_iload C dX3_groups_105 0 rfl ?_
                refine ww_zald C dX3_groups_107 (Or.inl Hz) (by omega) (by omega) ?_
                refine ww_if_eq_b (tgt := 114) C dX3_groups_108 (by decide) (fun c_108 => ?_) (fun c_108 => ?_)
                · skip
                  have hS : (ged B k S j).1 y = false := c_108
                  have hlt0 := cnt_lt hS hyB0
                  have hgi0 := g1.2
                  have hyB := hbe y hy
                  have he : ged B k S (j + 1) = (va_up (ged B k S j).1 y true, va_up (ged B k S j).2.1 (ged B k S j).2.2 y, (ged B k S j).2.2 + 1) := hgs.trans (by rw [hy]; exact gst_t hT hS)
                  have hlt := cnt_lt hS hyB
                  have hgi := g1.2
                  refine ww_aload_n C dX3_groups_114 rfl 5 rfl rfl ?_
                  refine ww_iload C dX3_groups_115 0 rfl ?_
                  refine ww_iconst C dX3_groups_117 cI_1 ?_
                  refine ww_zast C dX3_groups_118 Hz (by omega) (by omega) nar_z1 ?_
                  refine ww_gen (fun h5 hE5 => ?_)
                  have Hq_h5 : h5 a2 = some (.inl (gA (xG X) 0, ((Bz B), .inl f1))) := by rw [hE5, up_n nqz]; exact Hq
                  have Hz_h5 : h5 a1 = some (.inl (gA (xG X) 3, ((Bz B), .inl (upd (fun i => bI ((ged B k S j).1 i)) y (nI 1))))) := by rw [hE5]; exact up_s
                  refine ww_aload_n C dX3_groups_119 rfl 6 rfl rfl ?_
                  refine ww_iload C dX3_groups_120 3 rfl ?_
                  refine ww_iload C dX3_groups_122 0 rfl ?_
                  refine ww_iast C dX3_groups_124 Hq_h5 (by omega) (by omega) ?_
                  refine ww_gen (fun h6 hE6 => ?_)
                  have Hz_h6 : h6 a1 = some (.inl (gA (xG X) 3, ((Bz B), .inl (upd (fun i => bI ((ged B k S j).1 i)) y (nI 1))))) := by rw [hE6, up_n (Ne.symm nqz)]; exact Hz_h5
                  have Hq_h6 : h6 a2 = some (.inl (gA (xG X) 0, ((Bz B), .inl (upd f1 ((ged B k S j).2.2) (nI y))))) := by rw [hE6]; exact up_s
                  refine ww_iinc (lv' := [(5, .int (nI ((ged B k S j).2.2 + 1))), (8, .int (nI y)), (7, .int (nI j)), (6, .int (nI k)), (0, .ref g), (1, .ref a1), (2, .ref a2), (3, .int (nI ((grp B x).1 + 1))), (4, .int (nI x))]) C dX3_groups_125 3 rfl (inc_n _) (by decide) rfl ?_
                  refine ww_iinc (lv' := [(7, .int (nI (j + 1))), (5, .int (nI ((ged B k S j).2.2 + 1))), (8, .int (nI y)), (6, .int (nI k)), (0, .ref g), (1, .ref a1), (2, .ref a2), (3, .int (nI ((grp B x).1 + 1))), (4, .int (nI x))]) C dX3_groups_128 2 rfl (inc_n _) (by decide) rfl ?_
                  refine ww_goto (tgt := 76) C dX3_groups_131 (by decide) ?_
                  refine ww_sub [0, 3, 1, 4, 5, 6, 7, 8] rfl ?_
                  refine ww_lv (lv' := [(7, .int (nI (j + 1))), (6, .int (nI k)), (5, .int (nI ((ged B k S (j + 1)).2.2))), (0, .ref g), (1, .ref a1), (2, .ref a2), (3, .int (nI ((grp B x).1 + 1))), (4, .int (nI x))]) (by rw [he]; try rfl) ?_
                  refine ww_h (h' := up (up h a2 (cI (xG X) (Bz B) (upd f1 (ged B k S j).2.2 (nI y)))) a1 (cZ (xG X) (Bz B) (fun i => bI ((ged B k S (j + 1)).1 i)))) (by rw [hE6, hE5, he, ← upd_bI]; funext a; simp only [up_at]; by_cases e1 : a = a2 <;> by_cases e2 : a = a1 <;> simp [e1, e2, nqz, Ne.symm nqz, cI, cZ]) ?_
                  exact ih2 (upd f1 (ged B k S j).2.2 (nI y)) (by rw [he]; exact lnP_st hw)
                · skip
                  have he : ged B k S (j + 1) = ged B k S j := hgs.trans (gst_f (by rw [hy]; exact Or.inr c_108))
                  refine ww_goto (tgt := 128) C dX3_groups_111 (by decide) ?_
                  refine ww_iinc (lv' := [(7, .int (nI (j + 1))), (8, .int (nI y)), (6, .int (nI k)), (5, .int (nI ((ged B k S j).2.2))), (0, .ref g), (1, .ref a1), (2, .ref a2), (3, .int (nI ((grp B x).1 + 1))), (4, .int (nI x))]) C dX3_groups_128 1 rfl (inc_n _) (by decide) rfl ?_
                  refine ww_goto (tgt := 76) C dX3_groups_131 (by decide) ?_
                  refine ww_sub [0, 2, 3, 4, 5, 6, 7, 8] rfl ?_
                  refine ww_lv (lv' := [(7, .int (nI (j + 1))), (6, .int (nI k)), (5, .int (nI ((ged B k S (j + 1)).2.2))), (0, .ref g), (1, .ref a1), (2, .ref a2), (3, .int (nI ((grp B x).1 + 1))), (4, .int (nI x))]) (by rw [he]; try rfl) ?_
                  refine ww_h (h' := up (up h a2 (cI (xG X) (Bz B) f1)) a1 (cZ (xG X) (Bz B) (fun i => bI ((ged B k S (j + 1)).1 i)))) (by rw [he]) ?_
                  exact ih2 f1 (by rw [he]; exact hw)
      · skip
        have hg := grp_f (B := B) (n := x) (Or.inr (by rw [← hw]; exact c_41))
        refine ww_goto (tgt := 140) C dX3_groups_44 (by decide) ?_
        refine ww_iinc (lv' := [(4, .int (nI (x + 1))), (3, .int (nI ((grp B x).1))), (0, .ref g), (1, .ref a1), (2, .ref a2)]) C dX3_groups_140 0 rfl (inc_n _) (by decide) rfl ?_
        refine ww_goto (tgt := 19) C dX3_groups_143 (by decide) ?_
        refine ww_lv (lv' := [(4, .int (nI (x + 1))), (3, .int (nI ((grp B (x + 1)).1))), (0, .ref g), (1, .ref a1), (2, .ref a2)]) (by rw [hg]; try rfl) (ih f0 s1 ?_)
        rw [hg]; exact hw
end GA6
