section GR1
set_option maxRecDepth 100000
set_option maxHeartbeats 2000000 in
theorem ct_X4_reach {l : Launch} {Γ : Gm} (hl : l.flags = flags0) (hΓ : GOK Γ) {z : ZR} {h : AH} {m : Nat} {B : GB} {I : Nat → Int32} {D : Nat → Nat} {x : Nat} {sn : Nat → Bool} {f : Nat → Int32} (hz : zle (cst Γ) z) (Hm : rd z h m (cMd I D)) (hR : MrR Γ z h D (D 10) B) (hC : BC B) (hx : x < Bz B) (Hq : h (D 12) = some (cI Γ 49 f)) (Hz : h (D 13) = some (cZ Γ 49 (fun i => bI (sn i)))) (nqz : D 12 ≠ D 13) (hR2 : ∀ (f : Nat → Int32) (g : Nat → Bool), MrP Γ z (up (up h (D 12) (cI Γ 49 f)) (D 13) (cZ Γ 49 (fun i => bI (g i)))) m (D 10) B) (hm2 : ∀ (f : Nat → Int32) (g : Nat → Bool), rd z (up (up h (D 12) (cI Γ 49 f)) (D 13) (cZ Γ 49 (fun i => bI (g i)))) m (cMd I D)) (hs2 : ∀ (f : Nat → Int32) (g : Nat → Bool), MrR Γ z (up (up h (D 12) (cI Γ 49 f)) (D 13) (cZ Γ 49 (fun i => bI (g i)))) D (D 10) B) (hsn : sn x = false) : Ct l Γ yX4_reach cX4_reach 6 none 3 0 0 [.ref m, .int (nI x)] z h (Rn (fun z' h' => z' = z ∧ ∃ f', h' = up (up h (D 12) (cI Γ 49 f')) (D 13) (cZ Γ 49 (fun i => bI ((gbf B 50 0 (g0 sn x)).1 i))))) := by
  refine Ct.of hl hΓ (by decide +kernel) (Nat.le_of_ble_eq_true rfl) (fun X e1 e2 C => ?_)
  subst e1; subst e2
  have C : Cx X cX4_reach 6 "RingDominoModel" "reach" none [] 3 := C
  have hB := hC.1
  have hzz := BO.z hB
  have hcc : (3 ≤ Bc B ∧ Bc B ≤ 7) ∧ (3 ≤ Br B ∧ Br B ≤ 7) := hB.1
  show WW X (Rn (fun z' h' => z' = z ∧ ∃ f', h' = up (up h (D 12) (cI (xG X) 49 f')) (D 13) (cZ (xG X) 49 (fun i => bI ((gbf B 50 0 (g0 sn x)).1 i))))) z h 0 0 0 [(0, .ref m), (1, .int (nI x))] []
  have Hm1 : ∀ f, rd z (up h (D 12) (cI (xG X) 49 f)) m (cMd I D) := fun f => by
    have := hm2 f sn
    rw [show up (up h (D 12) (cI (xG X) 49 f)) (D 13) (cZ (xG X) 49 (fun i => bI (sn i))) = up h (D 12) (cI (xG X) 49 f) from up_id (by rw [up_n (Ne.symm nqz)]; exact Hz)] at this
    exact this
  refine ww_iconst C dX4_reach_0 cI_1 ?_
  refine ww_istore_n (lv' := [(2, .int (nI 1)), (0, .ref m), (1, .int (nI x))]) C dX4_reach_1 rfl (by decide) rfl ?_
  refine ww_aload_n C dX4_reach_2 rfl 1 rfl rfl ?_
  refine gf_X4_55_X4 C dX4_reach_3 Hm rfl ?_
  refine ww_iconst C dX4_reach_6 cI_0 ?_
  refine ww_iload_n C dX4_reach_7 rfl 2 rfl ?_
  refine ww_iast C dX4_reach_8 Hq (by decide) (by decide) ?_
  refine ww_gen (fun h1 hE1 => ?_)
  have Hz_h1 : h1 (D 13) = some (.inl (gA (xG X) 3, (49, .inl (fun i => bI (sn i))))) := by rw [hE1, up_n (Ne.symm nqz)]; exact Hz
  have Hq_h1 : h1 (D 12) = some (.inl (gA (xG X) 0, (49, .inl (upd f 0 (nI x))))) := by rw [hE1]; exact up_s
  have Hm2 : rd z h1 m (cMd I D) := by rw [hE1]; exact Hm1 _
  refine ww_aload_n C dX4_reach_9 rfl 1 rfl rfl ?_
  refine gf_X4_58_X4 C dX4_reach_10 Hm2 rfl ?_
  refine ww_iload_n C dX4_reach_13 rfl 2 rfl ?_
  refine ww_iconst C dX4_reach_14 cI_1 ?_
  refine ww_zast C dX4_reach_15 Hz_h1 (by omega) (by decide) nar_z1 ?_
  refine ww_gen (fun h2 hE2 => ?_)
  have Hq_h2 : h2 (D 12) = some (.inl (gA (xG X) 0, (49, .inl (upd f 0 (nI x))))) := by rw [hE2, up_n nqz]; exact Hq_h1
  have Hz_h2 : h2 (D 13) = some (.inl (gA (xG X) 3, (49, .inl (upd (fun i => bI (sn i)) x (nI 1))))) := by rw [hE2]; exact up_s
  refine ww_iconst C dX4_reach_16 cI_0 ?_
  refine ww_istore_n (lv' := [(3, .int (nI 0)), (2, .int (nI 1)), (0, .ref m), (1, .int (nI x))]) C dX4_reach_17 rfl (by decide) rfl ?_
  refine ww_h (h' := up (up h (D 12) (cI (xG X) 49 (upd f 0 (nI x)))) (D 13) (cZ (xG X) 49 (fun i => bI ((g0 sn x).1 i)))) (by rw [hE2, hE1, upd_bI]; rfl) ?_
  refine loop_up (N := 50) (M := fun k => ∀ (S : GS) (f : Nat → Int32), (GI B S) → (k ≤ S.2.2) → (lnP S f) → (gbf B 50 0 (g0 sn x) = gbf B (50 - k) k S) → WW X (Rn (fun z' h' => z' = z ∧ ∃ f', h' = up (up h (D 12) (cI (xG X) 49 f')) (D 13) (cZ (xG X) 49 (fun i => bI ((gbf B 50 0 (g0 sn x)).1 i))))) z (up (up h (D 12) (cI (xG X) 49 f)) (D 13) (cZ (xG X) 49 (fun i => bI (S.1 i)))) 0 0 18 [(3, .int (nI k)), (2, .int (nI S.2.2)), (0, .ref m), (1, .int (nI x))] []) ?_ ?_ 0 (Nat.zero_le _) (g0 sn x) (upd f 0 (nI x)) (g0_i hx hsn) (Nat.zero_le _) (fun i hi => by have : i = 0 := (by have : i < 1 := hi; omega); subst this; rfl) rfl
  · intro S f hv1 hv2 hv3 hv4
    show WW X (Rn (fun z' h' => z' = z ∧ ∃ f', h' = up (up h (D 12) (cI (xG X) 49 f')) (D 13) (cZ (xG X) 49 (fun i => bI ((gbf B 50 0 (g0 sn x)).1 i))))) z (up (up h (D 12) (cI (xG X) 49 f)) (D 13) (cZ (xG X) 49 (fun i => bI (S.1 i)))) 0 0 18 [(3, .int (nI 50)), (2, .int (nI S.2.2)), (0, .ref m), (1, .int (nI x))] []
    have := GI.le hv1; omega
  · intro k hi ih S f hv1 hv2 hv3 hv4
    show WW X (Rn (fun z' h' => z' = z ∧ ∃ f', h' = up (up h (D 12) (cI (xG X) 49 f')) (D 13) (cZ (xG X) 49 (fun i => bI ((gbf B 50 0 (g0 sn x)).1 i))))) z (up (up h (D 12) (cI (xG X) 49 f)) (D 13) (cZ (xG X) 49 (fun i => bI (S.1 i)))) 0 0 18 [(3, .int (nI k)), (2, .int (nI S.2.2)), (0, .ref m), (1, .int (nI x))] []
    have Hz : (up (up h (D 12) (cI (xG X) 49 f)) (D 13) (cZ (xG X) 49 (fun i => bI (S.1 i)))) (D 13) = some (cZ (xG X) 49 (fun i => bI (S.1 i))) := up_s
    have Hq : (up (up h (D 12) (cI (xG X) 49 f)) (D 13) (cZ (xG X) 49 (fun i => bI (S.1 i)))) (D 12) = some (cI (xG X) 49 f) := by rw [up_n nqz]; exact up_s
    have hP : MrP (xG X) z (up (up h (D 12) (cI (xG X) 49 f)) (D 13) (cZ (xG X) 49 (fun i => bI (S.1 i)))) m (D 10) B := hR2 _ _
    have Hm9 : rd z (up (up h (D 12) (cI (xG X) 49 f)) (D 13) (cZ (xG X) 49 (fun i => bI (S.1 i)))) m (cMd I D) := hm2 _ _
    obtain ⟨o, nn, rn, nu, tu, A, Ht, Hn, hnu, Hs, Ha, -⟩ := (hs2 _ _ : MrR (xG X) z (up (up h (D 12) (cI (xG X) 49 f)) (D 13) (cZ (xG X) 49 (fun i => bI (S.1 i)))) D (D 10) B)
    have hsl := GI.le hv1
    refine ww_iload_n C dX4_reach_18 rfl 0 rfl ?_
    refine ww_iload_n C dX4_reach_19 rfl 1 rfl ?_
    refine ww_icmp_ge_n (tgt := 111) C dX4_reach_20 (by decide) (by omega) (by omega) (fun c_20 => ?_) (fun c_20 => ?_)
    · skip
      rw [gbf_f hi (by omega)] at hv4
      exact ww_vret C dX4_reach_111 ⟨rfl, f, by rw [hv4]⟩
    · skip
      rw [gbf_t hi c_20] at hv4
      refine ww_iconst C dX4_reach_23 cI_0 ?_
      refine ww_istore (lv' := [(4, .int (nI 0)), (3, .int (nI k)), (2, .int (nI S.2.2)), (0, .ref m), (1, .int (nI x))]) C dX4_reach_24 (by decide) rfl ?_
      refine loop_up (N := 6) (M := fun j => ∀ (f1 : Nat → Int32), (lnP (ged B k S j) f1) → WW X (Rn (fun z' h' => z' = z ∧ ∃ f', h' = up (up h (D 12) (cI (xG X) 49 f')) (D 13) (cZ (xG X) 49 (fun i => bI ((gbf B 50 0 (g0 sn x)).1 i))))) z (up (up h (D 12) (cI (xG X) 49 f1)) (D 13) (cZ (xG X) 49 (fun i => bI ((ged B k S j).1 i)))) 0 0 26 [(4, .int (nI j)), (3, .int (nI k)), (2, .int (nI ((ged B k S j).2.2))), (0, .ref m), (1, .int (nI x))] []) ?_ ?_ 0 (Nat.zero_le _) f hv3
      · intro f1 hw
        show WW X (Rn (fun z' h' => z' = z ∧ ∃ f', h' = up (up h (D 12) (cI (xG X) 49 f')) (D 13) (cZ (xG X) 49 (fun i => bI ((gbf B 50 0 (g0 sn x)).1 i))))) z (up (up h (D 12) (cI (xG X) 49 f1)) (D 13) (cZ (xG X) 49 (fun i => bI ((ged B k S 6).1 i)))) 0 0 26 [(4, .int (nI 6)), (3, .int (nI k)), (2, .int (nI ((ged B k S 6).2.2))), (0, .ref m), (1, .int (nI x))] []
        obtain ⟨g1, g2, g3⟩ := ged_i hB hv1 c_20 6 (Nat.le_refl _)
        refine ww_iload C dX4_reach_26 0 rfl ?_
        refine ww_bipush C dX4_reach_28 cB_6 ?_
        refine ww_icmp_ge_t (tgt := 105) C dX4_reach_30 (by decide) (nI_le (Nat.le_refl _) (by decide)) ?_
        refine ww_iinc (lv' := [(3, .int (nI (k + 1))), (4, .int (nI 6)), (2, .int (nI ((ged B k S 6).2.2))), (0, .ref m), (1, .int (nI x))]) C dX4_reach_105 1 rfl (inc_n _) (by decide) rfl ?_
        refine ww_goto (tgt := 18) C dX4_reach_108 (by decide) ?_
        refine ww_sub [0, 2, 3, 4] rfl ?_
        exact ih (ged B k S 6) f1 g1 (by omega) hw hv4
      · intro j hj ih2 f1 hw
        show WW X (Rn (fun z' h' => z' = z ∧ ∃ f', h' = up (up h (D 12) (cI (xG X) 49 f')) (D 13) (cZ (xG X) 49 (fun i => bI ((gbf B 50 0 (g0 sn x)).1 i))))) z (up (up h (D 12) (cI (xG X) 49 f1)) (D 13) (cZ (xG X) 49 (fun i => bI ((ged B k S j).1 i)))) 0 0 26 [(4, .int (nI j)), (3, .int (nI k)), (2, .int (nI ((ged B k S j).2.2))), (0, .ref m), (1, .int (nI x))] []
        obtain ⟨g1, g2, g3⟩ := ged_i hB hv1 c_20 j (by omega)
        have gl := GI.le g1
        have glk := g1.1 k (by omega)
        have hfk := hw k (by omega)
        have hgs : ged B k S (j + 1) = gst B (ged B k S j) (bes (Bc B) (Br B) ((ged B k S j).2.1 k) j) := rfl
        have hbe : ∀ y, bes (Bc B) (Br B) ((ged B k S j).2.1 k) j = some y → y < Bz B := fun y q => bes_lt hB.1.1 hB.1.2 (by omega) hj q
        have Hz : (up (up h (D 12) (cI (xG X) 49 f1)) (D 13) (cZ (xG X) 49 (fun i => bI ((ged B k S j).1 i)))) (D 13) = some (cZ (xG X) 49 (fun i => bI ((ged B k S j).1 i))) := up_s
        have Hq : (up (up h (D 12) (cI (xG X) 49 f1)) (D 13) (cZ (xG X) 49 (fun i => bI ((ged B k S j).1 i)))) (D 12) = some (cI (xG X) 49 f1) := by rw [up_n nqz]; exact up_s
        have hP : MrP (xG X) z (up (up h (D 12) (cI (xG X) 49 f1)) (D 13) (cZ (xG X) 49 (fun i => bI ((ged B k S j).1 i)))) m (D 10) B := hR2 _ _
        have Hm9 : rd z (up (up h (D 12) (cI (xG X) 49 f1)) (D 13) (cZ (xG X) 49 (fun i => bI ((ged B k S j).1 i)))) m (cMd I D) := hm2 _ _
        obtain ⟨o, nn, rn, nu, tu, A, Ht, Hn, hnu, Hs, Ha, -⟩ := (hs2 _ _ : MrR (xG X) z (up (up h (D 12) (cI (xG X) 49 f1)) (D 13) (cZ (xG X) 49 (fun i => bI ((ged B k S j).1 i)))) D (D 10) B)
        refine ww_iload C dX4_reach_26 0 rfl ?_
        refine ww_bipush C dX4_reach_28 cB_6 ?_
        refine ww_icmp_ge_f (tgt := 105) C dX4_reach_30 (by decide) (nI_ge hj (by decide)) ?_
        refine ww_aload_n C dX4_reach_33 rfl 3 rfl rfl ?_
        refine ww_aload_n C dX4_reach_34 rfl 3 rfl rfl ?_
        refine gf_X4_55_X4 C dX4_reach_35 Hm9 rfl ?_
        refine ww_iload_n C dX4_reach_38 rfl 1 rfl ?_
        refine ww_iald C dX4_reach_39 (Or.inl Hq) (by omega) (by decide) ?_
        refine ww_st (st' := [.int (nI ((ged B k S j).2.1 k)), .ref m]) (by rw [hfk]) ?_
        refine ww_iload C dX4_reach_40 0 rfl ?_
        refine cv_X4_277_r (As := [.int (nI ((ged B k S j).2.1 k)), .int (nI j)]) (rest := []) C dX4_reach_42 (ct_X4_beside (Cx.fl C) (Cx.ok C) hz hP hC (by omega) hj) (rc_X4 (Cx.ok C) Hm9) rfl rfl (Nat.le_of_ble_eq_true rfl) (by decide) (Nat.zero_le _) (Nat.zero_le _) ?_
        refine ww_istore (lv' := [(5, .int (oI (bes (Bc B) (Br B) ((ged B k S j).2.1 k) j))), (4, .int (nI j)), (3, .int (nI k)), (2, .int (nI ((ged B k S j).2.2))), (0, .ref m), (1, .int (nI x))]) C dX4_reach_45 (by decide) rfl ?_
        refine ww_iload C dX4_reach_47 0 rfl ?_
        refine ww_iconst C dX4_reach_49 cI_m1 ?_
        refine ww_icmp_eq_o (tgt := 99) C dX4_reach_50 (by decide) (fun y q => by have := hbe y q; omega) (fun c_50 => ?_) (fun c_50 => ?_)
        · skip
          have he : ged B k S (j + 1) = ged B k S j := hgs.trans (gst_f (by rw [c_50]; exact Or.inl rfl))
          refine ww_iinc (lv' := [(4, .int (nI (j + 1))), (5, .int (oI (bes (Bc B) (Br B) ((ged B k S j).2.1 k) j))), (3, .int (nI k)), (2, .int (nI ((ged B k S j).2.2))), (0, .ref m), (1, .int (nI x))]) C dX4_reach_99 1 rfl (inc_n _) (by decide) rfl ?_
          refine ww_goto (tgt := 26) C dX4_reach_102 (by decide) ?_
          refine ww_sub [0, 2, 3, 4, 5] rfl ?_
          refine ww_lv (lv' := [(4, .int (nI (j + 1))), (3, .int (nI k)), (2, .int (nI ((ged B k S (j + 1)).2.2))), (0, .ref m), (1, .int (nI x))]) (by rw [he]; try rfl) ?_
          refine ww_h (h' := up (up h (D 12) (cI (xG X) 49 f1)) (D 13) (cZ (xG X) 49 (fun i => bI ((ged B k S (j + 1)).1 i)))) (by rw [he]) ?_
          exact ih2 f1 (by rw [he]; exact hw)
        · skip
          obtain ⟨y, hy⟩ := Option.ne_none_iff_exists'.mp c_50
          have hyB0 := hbe y hy
          refine ww_lv (lv' := [(5, .int (nI y)), (4, .int (nI j)), (3, .int (nI k)), (2, .int (nI ((ged B k S j).2.2))), (0, .ref m), (1, .int (nI x))]) (by rw [hy]; rfl) ?_
          refine ww_aload_n C dX4_reach_53 rfl 4 rfl rfl ?_
          refine gf_X4_48_X4 C dX4_reach_54 Hm9 rfl ?_
          refine gf_X4_280_X6 C dX4_reach_57 Hs rfl ?_
          refine ww_iload C dX4_reach_60 0 rfl ?_
          refine ww_iald C dX4_reach_62 Ha (by omega) (by decide) ?_
          refine ww_iconst C dX4_reach_63 cI_m1 ?_
          refine ww_icmp_eq_o (tgt := 99) C dX4_reach_64 (by decide) (hC.a y) (fun c_64 => ?_) (fun c_64 => ?_)
          · skip
            have he : ged B k S (j + 1) = ged B k S j := hgs.trans (gst_f (by rw [hy, ← atO_is, c_64]; exact Or.inl rfl))
            refine ww_iinc (lv' := [(4, .int (nI (j + 1))), (5, .int (nI y)), (3, .int (nI k)), (2, .int (nI ((ged B k S j).2.2))), (0, .ref m), (1, .int (nI x))]) C dX4_reach_99 1 rfl (inc_n _) (by decide) rfl ?_
            refine ww_goto (tgt := 26) C dX4_reach_102 (by decide) ?_
            refine ww_sub [0, 2, 3, 4, 5] rfl ?_
            refine ww_lv (lv' := [(4, .int (nI (j + 1))), (3, .int (nI k)), (2, .int (nI ((ged B k S (j + 1)).2.2))), (0, .ref m), (1, .int (nI x))]) (by rw [he]; try rfl) ?_
            refine ww_h (h' := up (up h (D 12) (cI (xG X) 49 f1)) (D 13) (cZ (xG X) 49 (fun i => bI ((ged B k S (j + 1)).1 i)))) (by rw [he]) ?_
            exact ih2 f1 (by rw [he]; exact hw)
          · skip
            have hT : hasT B (some y) = true := by rw [← atO_is]; exact Option.isSome_iff_ne_none.mpr c_64
            refine ww_aload_n C dX4_reach_67 rfl 4 rfl rfl ?_
            refine gf_X4_58_X4 C dX4_reach_68 Hm9 rfl ?_
            refine ww_iload C dX4_reach_71 0 rfl ?_
            refine ww_zald C dX4_reach_73 (Or.inl Hz) (by omega) (by decide) ?_
            refine ww_if_eq_b (tgt := 80) C dX4_reach_74 (by decide) (fun c_74 => ?_) (fun c_74 => ?_)
            · skip
              have hS : (ged B k S j).1 y = false := c_74
              have hlt0 := cnt_lt hS hyB0
              have hgi0 := g1.2
              refine ww_aload_n C dX4_reach_80 rfl 4 rfl rfl ?_
              refine gf_X4_58_X4 C dX4_reach_81 Hm9 rfl ?_
              refine ww_iload C dX4_reach_84 0 rfl ?_
              refine ww_iconst C dX4_reach_86 cI_1 ?_
              refine ww_zast C dX4_reach_87 Hz (by omega) (by decide) nar_z1 ?_
              refine ww_gen (fun h3 hE3 => ?_)
              have Hq_h3 : h3 (D 12) = some (.inl (gA (xG X) 0, (49, .inl f1))) := by rw [hE3, up_n nqz]; exact Hq
              have Hz_h3 : h3 (D 13) = some (.inl (gA (xG X) 3, (49, .inl (upd (fun i => bI ((ged B k S j).1 i)) y (nI 1))))) := by rw [hE3]; exact up_s
              have Hm10 : rd z h3 m (cMd I D) := by rw [hE3, upd_bI]; exact (by have := hm2 f1 (va_up (ged B k S j).1 y true); rw [up_up]; exact this)
              have hyB := hbe y hy
              have he : ged B k S (j + 1) = (va_up (ged B k S j).1 y true, va_up (ged B k S j).2.1 (ged B k S j).2.2 y, (ged B k S j).2.2 + 1) := hgs.trans (by rw [hy]; exact gst_t hT hS)
              have hlt := cnt_lt hS hyB
              have hgi := g1.2
              refine ww_aload_n C dX4_reach_88 rfl 4 rfl rfl ?_
              refine gf_X4_55_X4 C dX4_reach_89 Hm10 rfl ?_
              refine ww_iload_n C dX4_reach_92 rfl 3 rfl ?_
              refine ww_iload C dX4_reach_93 0 rfl ?_
              refine ww_iast C dX4_reach_95 Hq_h3 (by omega) (by decide) ?_
              refine ww_gen (fun h4 hE4 => ?_)
              have Hz_h4 : h4 (D 13) = some (.inl (gA (xG X) 3, (49, .inl (upd (fun i => bI ((ged B k S j).1 i)) y (nI 1))))) := by rw [hE4, up_n (Ne.symm nqz)]; exact Hz_h3
              have Hq_h4 : h4 (D 12) = some (.inl (gA (xG X) 0, (49, .inl (upd f1 ((ged B k S j).2.2) (nI y))))) := by rw [hE4]; exact up_s
              refine ww_iinc (lv' := [(2, .int (nI ((ged B k S j).2.2 + 1))), (5, .int (nI y)), (4, .int (nI j)), (3, .int (nI k)), (0, .ref m), (1, .int (nI x))]) C dX4_reach_96 3 rfl (inc_n _) (by decide) rfl ?_
              refine ww_iinc (lv' := [(4, .int (nI (j + 1))), (2, .int (nI ((ged B k S j).2.2 + 1))), (5, .int (nI y)), (3, .int (nI k)), (0, .ref m), (1, .int (nI x))]) C dX4_reach_99 2 rfl (inc_n _) (by decide) rfl ?_
              refine ww_goto (tgt := 26) C dX4_reach_102 (by decide) ?_
              refine ww_sub [0, 3, 1, 4, 5] rfl ?_
              refine ww_lv (lv' := [(4, .int (nI (j + 1))), (3, .int (nI k)), (2, .int (nI ((ged B k S (j + 1)).2.2))), (0, .ref m), (1, .int (nI x))]) (by rw [he]; try rfl) ?_
              refine ww_h (h' := up (up h (D 12) (cI (xG X) 49 (upd f1 (ged B k S j).2.2 (nI y)))) (D 13) (cZ (xG X) 49 (fun i => bI ((ged B k S (j + 1)).1 i)))) (by rw [hE4, hE3, he, ← upd_bI]; funext a; simp only [up_at]; by_cases e1 : a = D 12 <;> by_cases e2 : a = D 13 <;> simp [e1, e2, nqz, Ne.symm nqz, cI, cZ]) ?_
              exact ih2 (upd f1 (ged B k S j).2.2 (nI y)) (by rw [he]; exact lnP_st hw)
            · skip
              have he : ged B k S (j + 1) = ged B k S j := hgs.trans (gst_f (by rw [hy]; exact Or.inr c_74))
              refine ww_goto (tgt := 99) C dX4_reach_77 (by decide) ?_
              refine ww_iinc (lv' := [(4, .int (nI (j + 1))), (5, .int (nI y)), (3, .int (nI k)), (2, .int (nI ((ged B k S j).2.2))), (0, .ref m), (1, .int (nI x))]) C dX4_reach_99 1 rfl (inc_n _) (by decide) rfl ?_
              refine ww_goto (tgt := 26) C dX4_reach_102 (by decide) ?_
              refine ww_sub [0, 2, 3, 4, 5] rfl ?_
              refine ww_lv (lv' := [(4, .int (nI (j + 1))), (3, .int (nI k)), (2, .int (nI ((ged B k S (j + 1)).2.2))), (0, .ref m), (1, .int (nI x))]) (by rw [he]; try rfl) ?_
              refine ww_h (h' := up (up h (D 12) (cI (xG X) 49 f1)) (D 13) (cZ (xG X) 49 (fun i => bI ((ged B k S (j + 1)).1 i)))) (by rw [he]) ?_
              exact ih2 f1 (by rw [he]; exact hw)
end GR1
