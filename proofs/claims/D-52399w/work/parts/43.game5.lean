section GA5
set_option maxRecDepth 100000
set_option maxHeartbeats 2000000 in
theorem ct_X3_bestWay {l : Launch} {Γ : Gm} (hl : l.flags = flags0) (hΓ : GOK Γ) {z : ZR} {h : AH} {g : Nat} {A : Nat → Nat} {B : GB} {G : GG} {rn dn : Int32} {k : Nat} (hz : zle (cst Γ) z) (hM : GmM Γ z h g A B G rn dn) (hB : BO B) (hU : ∀ k, k < Bt B → Bp B k = none → Bu B k = 0) (hk : k < Bt B) : Ct l Γ yX3_bestWay cX3_bestWay 7 (some (.object "java/util/Optional")) 8 (2 * bwC B k (6 * Bz B)) (3 * bwC B k (6 * Bz B)) [.ref g, .int (nI k)] z h (Rv (fun v z' h' => ∃ o, v = .ref o ∧ h' = h ∧ zle z z' ∧ OpW z' o ((bwN B k (6 * Bz B)).map Prod.fst))) := by
  refine Ct.of hl hΓ (by decide +kernel) (Nat.le_of_ble_eq_true rfl) (fun X e1 e2 C => ?_)
  subst e1; subst e2
  have C : Cx X cX3_bestWay 7 "RingDomino$Game" "bestWay" (some (.object "java/util/Optional")) [] 8 := C
  obtain ⟨Hg, Hl, L1, Ht, L0, L2, L3, Hd⟩ := id hM
  obtain ⟨⟨⟨c1, c2⟩, ⟨r1, r2⟩⟩, t1, bl1, bu1, bp1, bn1⟩ := id hB
  have hzz := BO.z hB
  have hbl := BO.l hB
  have hG := GmM.p hz hM
  show WW X (Rv (fun v z' h' => ∃ o, v = .ref o ∧ h' = h ∧ zle z z' ∧ OpW z' o ((bwN B k (6 * Bz B)).map Prod.fst))) z h (2 * bwC B k (6 * Bz B)) (3 * bwC B k (6 * Bz B)) 0 [(0, .ref g), (1, .int (nI k))] []
  refine cs_X3_103_r (As := []) (rest := []) C dX3_bestWay_0 (ct_J31_empty (Cx.fl C) (Cx.ok C)) rfl rfl (Nat.le_of_ble_eq_true rfl) (by decide) (Nat.zero_le _) (Nat.zero_le _) ?_
  refine ww_astore_n (lv' := [(2, .ref (gE (xG X) 19)), (0, .ref g), (1, .int (nI k))]) C dX3_bestWay_3 rfl (by decide) rfl rfl ?_
  refine ww_iconst C dX3_bestWay_4 cI_m1 ?_
  refine ww_istore_n (lv' := [(3, .int (-1)), (2, .ref (gE (xG X) 19)), (0, .ref g), (1, .int (nI k))]) C dX3_bestWay_5 rfl (by decide) rfl ?_
  refine ww_iconst C dX3_bestWay_6 cI_0 ?_
  refine ww_istore (lv' := [(4, .int (nI 0)), (3, .int (-1)), (2, .ref (gE (xG X) 19)), (0, .ref g), (1, .int (nI k))]) C dX3_bestWay_7 (by decide) rfl ?_
  refine ww_lv (lv' := [(4, .int (nI 0)), (3, .int (oI ((bwN B k (6 * 0)).map Prod.snd))), (2, .ref (gE (xG X) 19)), (0, .ref g), (1, .int (nI k))]) (by rfl) ?_
  refine ww_le (kc' := 2 * (bwC B k (6 * Bz B) - bwC B k (6 * 0))) (ns' := 3 * (bwC B k (6 * Bz B) - bwC B k (6 * 0))) (by omega) (by omega) ?_
  refine loop_up (N := (Bz B)) (M := fun x => ∀ (z1 : ZR) (o1 : Nat), (zle z z1) → (OpW z1 o1 ((bwN B k (6 * x)).map Prod.fst)) → WW X (Rv (fun v z' h' => ∃ o, v = .ref o ∧ h' = h ∧ zle z z' ∧ OpW z' o ((bwN B k (6 * Bz B)).map Prod.fst))) z1 h (2 * (bwC B k (6 * Bz B) - bwC B k (6 * x))) (3 * (bwC B k (6 * Bz B) - bwC B k (6 * x))) 9 [(4, .int (nI x)), (3, .int (oI ((bwN B k (6 * x)).map Prod.snd))), (2, .ref o1), (0, .ref g), (1, .int (nI k))] []) ?_ ?_ 0 (Nat.zero_le _) z _ zle.rf (cst_op hz)
  · intro z1 o1 hv1 hv2
    show WW X (Rv (fun v z' h' => ∃ o, v = .ref o ∧ h' = h ∧ zle z z' ∧ OpW z' o ((bwN B k (6 * Bz B)).map Prod.fst))) z1 h (2 * (bwC B k (6 * Bz B) - bwC B k (6 * (Bz B)))) (3 * (bwC B k (6 * Bz B) - bwC B k (6 * (Bz B)))) 9 [(4, .int (nI (Bz B))), (3, .int (oI ((bwN B k (6 * (Bz B))).map Prod.snd))), (2, .ref o1), (0, .ref g), (1, .int (nI k))] []
    have hz1 := hz.tr hv1
    have hM1 := hM.zm hv1
    have hG1 := GmM.p hz1 hM1
    refine ww_iload C dX3_bestWay_9 0 rfl ?_
    refine ww_aload_n C dX3_bestWay_11 rfl 3 rfl rfl ?_
    refine cv_X3_62_r (As := []) (rest := [.int (nI (Bz B))]) C dX3_bestWay_12 (ct_X3_cells (Cx.fl C) (Cx.ok C) hG1 hB.1) (rc_X3 (Cx.ok C) (Or.inl Hg)) rfl rfl (Nat.le_of_ble_eq_true rfl) (by decide) (Nat.zero_le _) (Nat.zero_le _) ?_
    refine ww_icmp_ge_t (tgt := 94) C dX3_bestWay_15 (by decide) (nI_le (Nat.le_refl _) (by omega)) ?_
    refine ww_aload_n C dX3_bestWay_94 rfl 2 rfl rfl ?_
    exact ww_aret C (Or.inl ⟨_, rfl⟩) dX3_bestWay_95 rfl ⟨_, rfl, rfl, hv1, hv2⟩
  · intro x hi ih z1 o1 hv1 hv2
    show WW X (Rv (fun v z' h' => ∃ o, v = .ref o ∧ h' = h ∧ zle z z' ∧ OpW z' o ((bwN B k (6 * Bz B)).map Prod.fst))) z1 h (2 * (bwC B k (6 * Bz B) - bwC B k (6 * x))) (3 * (bwC B k (6 * Bz B) - bwC B k (6 * x))) 9 [(4, .int (nI x)), (3, .int (oI ((bwN B k (6 * x)).map Prod.snd))), (2, .ref o1), (0, .ref g), (1, .int (nI k))] []
    have hz1 := hz.tr hv1
    have hM1 := hM.zm hv1
    have hG1 := GmM.p hz1 hM1
    refine ww_iload C dX3_bestWay_9 0 rfl ?_
    refine ww_aload_n C dX3_bestWay_11 rfl 3 rfl rfl ?_
    refine cv_X3_62_r (As := []) (rest := [.int (nI x)]) C dX3_bestWay_12 (ct_X3_cells (Cx.fl C) (Cx.ok C) hG1 hB.1) (rc_X3 (Cx.ok C) (Or.inl Hg)) rfl rfl (Nat.le_of_ble_eq_true rfl) (by decide) (Nat.zero_le _) (Nat.zero_le _) ?_
    refine ww_icmp_ge_f (tgt := 94) C dX3_bestWay_15 (by decide) (nI_ge hi (by omega)) ?_
    refine ww_iconst C dX3_bestWay_18 cI_0 ?_
    refine ww_istore (lv' := [(5, .int (nI 0)), (4, .int (nI x)), (3, .int (oI ((bwN B k (6 * x)).map Prod.snd))), (2, .ref o1), (0, .ref g), (1, .int (nI k))]) C dX3_bestWay_19 (by decide) rfl ?_
    refine loop_up (N := 6) (M := fun j => ∀ (z2 : ZR) (o2 : Nat), (zle z z2) → (OpW z2 o2 ((bwN B k (6 * x + j)).map Prod.fst)) → WW X (Rv (fun v z' h' => ∃ o, v = .ref o ∧ h' = h ∧ zle z z' ∧ OpW z' o ((bwN B k (6 * Bz B)).map Prod.fst))) z2 h (2 * (bwC B k (6 * Bz B) - bwC B k (6 * x + j))) (3 * (bwC B k (6 * Bz B) - bwC B k (6 * x + j))) 21 [(5, .int (nI j)), (4, .int (nI x)), (3, .int (oI ((bwN B k (6 * x + j)).map Prod.snd))), (2, .ref o2), (0, .ref g), (1, .int (nI k))] []) ?_ ?_ 0 (Nat.zero_le _) z1 o1 hv1 hv2
    · intro z2 o2 hw1 hw2
      show WW X (Rv (fun v z' h' => ∃ o, v = .ref o ∧ h' = h ∧ zle z z' ∧ OpW z' o ((bwN B k (6 * Bz B)).map Prod.fst))) z2 h (2 * (bwC B k (6 * Bz B) - bwC B k (6 * x + 6))) (3 * (bwC B k (6 * Bz B) - bwC B k (6 * x + 6))) 21 [(5, .int (nI 6)), (4, .int (nI x)), (3, .int (oI ((bwN B k (6 * x + 6)).map Prod.snd))), (2, .ref o2), (0, .ref g), (1, .int (nI k))] []
      refine ww_iload C dX3_bestWay_21 0 rfl ?_
      refine ww_bipush C dX3_bestWay_23 cB_6 ?_
      refine ww_icmp_ge_t (tgt := 88) C dX3_bestWay_25 (by decide) (nI_le (Nat.le_refl _) (by decide)) ?_
      refine ww_iinc (lv' := [(4, .int (nI (x + 1))), (5, .int (nI 6)), (3, .int (oI ((bwN B k (6 * x + 6)).map Prod.snd))), (2, .ref o2), (0, .ref g), (1, .int (nI k))]) C dX3_bestWay_88 1 rfl (inc_n _) (by decide) rfl ?_
      refine ww_goto (tgt := 9) C dX3_bestWay_91 (by decide) ?_
      refine ww_sub [0, 2, 3, 4, 5] rfl ?_
      exact ih z2 o2 hw1 hw2
    · intro j hj ih2 z2 o2 hw1 hw2
      show WW X (Rv (fun v z' h' => ∃ o, v = .ref o ∧ h' = h ∧ zle z z' ∧ OpW z' o ((bwN B k (6 * Bz B)).map Prod.fst))) z2 h (2 * (bwC B k (6 * Bz B) - bwC B k (6 * x + j))) (3 * (bwC B k (6 * Bz B) - bwC B k (6 * x + j))) 21 [(5, .int (nI j)), (4, .int (nI x)), (3, .int (oI ((bwN B k (6 * x + j)).map Prod.snd))), (2, .ref o2), (0, .ref g), (1, .int (nI k))] []
      have hz2 := hz.tr hw1
      have hM2 := hM.zm hw1
      have hG2 := GmM.p hz2 hM2
      have hmo : ∀ y, (bwN B k (6 * x + j)).map Prod.snd = some y → y < 2 ^ 31 := fun y q => by
        cases hb : bwN B k (6 * x + j) with
        | none => rw [hb] at q; cases q
        | some r =>
          rw [hb] at q; cases q
          obtain ⟨w1, w2, w3⟩ := bwN_w hb
          have := pwN_le hB hk (w := r.1) (by omega)
          rw [w3]; omega
      refine ww_iload C dX3_bestWay_21 0 rfl ?_
      refine ww_bipush C dX3_bestWay_23 cB_6 ?_
      refine ww_icmp_ge_f (tgt := 88) C dX3_bestWay_25 (by decide) (nI_ge hj (by decide)) ?_
      refine ww_aload_n C dX3_bestWay_28 rfl 4 rfl rfl ?_
      refine ww_iload_n C dX3_bestWay_29 rfl 5 rfl ?_
      refine ww_iload C dX3_bestWay_30 1 rfl ?_
      refine ww_iload C dX3_bestWay_32 0 rfl ?_
      refine cv_X3_88_r (As := [.int (nI k), .int (nI x), .int (nI j)]) (rest := []) C dX3_bestWay_34 (ct_X3_fits (Cx.fl C) (Cx.ok C) hz2 hG2 hB hk (by omega) hj) (rc_X3 (Cx.ok C) (Or.inl Hg)) rfl rfl (Nat.le_of_ble_eq_true rfl) (by decide) (Nat.zero_le _) (Nat.zero_le _) ?_
      refine ww_if_eq_b (tgt := 52) C dX3_bestWay_37 (by decide) (fun c_37 => ?_) (fun c_37 => ?_)
      · skip
        have hp : fwP B k (6 * x + j) = false := by rw [fwP_e hj]; exact c_37
        have hc : oLt ((bwN B k (6 * x + j)).map Prod.snd) (mdN B k (6 * x + j)) = false := by rw [mdN_none hp]; rfl
        refine ww_iconst C dX3_bestWay_52 cI_m1 ?_
        refine ww_istore (lv' := [(6, .int (-1)), (5, .int (nI j)), (4, .int (nI x)), (3, .int (oI ((bwN B k (6 * x + j)).map Prod.snd))), (2, .ref o2), (0, .ref g), (1, .int (nI k))]) C dX3_bestWay_53 (by decide) rfl ?_
        refine ww_iload C dX3_bestWay_55 0 rfl ?_
        refine ww_iload_n C dX3_bestWay_57 rfl 3 rfl ?_
        refine ww_icmp_gt_f (tgt := 64) C dX3_bestWay_58 (by decide) (fun q => absurd ((oI_lt (b := none) hmo (fun y q => by cases q)).mp q) (by rw [oLt_none]; decide)) ?_
        refine ww_goto (tgt := 82) C dX3_bestWay_61 (by decide) ?_
        refine ww_iinc (lv' := [(5, .int (nI (j + 1))), (6, .int (-1)), (4, .int (nI x)), (3, .int (oI ((bwN B k (6 * x + j)).map Prod.snd))), (2, .ref o2), (0, .ref g), (1, .int (nI k))]) C dX3_bestWay_82 1 rfl (inc_n _) (by decide) rfl ?_
        refine ww_goto (tgt := 21) C dX3_bestWay_85 (by decide) ?_
        refine ww_le (kc' := 2 * (bwC B k (6 * Bz B) - bwC B k (6 * x + (j + 1)))) (ns' := 3 * (bwC B k (6 * Bz B) - bwC B k (6 * x + (j + 1)))) (by rw [← Nat.add_assoc, (bwN_f hc).2]; exact Nat.le_refl _) (by rw [← Nat.add_assoc, (bwN_f hc).2]; exact Nat.le_refl _) ?_
        refine ww_sub [0, 2, 3, 4, 5, 6] rfl ?_
        refine ww_lv (lv' := [(5, .int (nI (j + 1))), (4, .int (nI x)), (3, .int (oI ((bwN B k (6 * x + (j + 1))).map Prod.snd))), (2, .ref o2), (0, .ref g), (1, .int (nI k))]) (by rw [← Nat.add_assoc, (bwN_f hc).1]; rfl) (ih2 z2 o2 hw1 ?_)
        rw [← Nat.add_assoc, (bwN_f hc).1]; exact hw2
      · skip
        obtain ⟨hl0, hp0⟩ := ftN_d c_37
        have hp : fwP B k (6 * x + j) = true := by rw [fwP_e hj]; exact c_37
        have hpe := pwN_e (B := B) (k := k) (x := x) hj
        have hple := pwN_le hB hk (w := 6 * x + j) (by omega)
        refine ww_aload_n C dX3_bestWay_40 rfl 4 rfl rfl ?_
        refine ww_iload_n C dX3_bestWay_41 rfl 5 rfl ?_
        refine ww_iload C dX3_bestWay_42 1 rfl ?_
        refine ww_iload C dX3_bestWay_44 0 rfl ?_
        refine cv_X3_186_r (As := [.int (nI k), .int (nI x), .int (nI j)]) (rest := []) C dX3_bestWay_46 (ct_X3_pointsWith (Cx.fl C) (Cx.ok C) hz2 hM2 hB hk (by omega) hj hl0 hp0 (hU k hk hp0)) (rc_X3 (Cx.ok C) (Or.inl Hg)) rfl rfl (Nat.le_of_ble_eq_true rfl) (by decide) (Nat.zero_le _) (Nat.zero_le _) ?_
        refine ww_st (st' := [.int (oI (mdN B k (6 * x + j)))]) (by rw [mdN_some hp, hpe]; rfl) ?_
        have hmd : ∀ y, mdN B k (6 * x + j) = some y → y < 2 ^ 31 := fun y q => by rw [mdN_some hp] at q; cases q; omega
        refine ww_goto (tgt := 53) C dX3_bestWay_49 (by decide) ?_
        refine ww_istore (lv' := [(6, .int (oI (mdN B k (6 * x + j)))), (5, .int (nI j)), (4, .int (nI x)), (3, .int (oI ((bwN B k (6 * x + j)).map Prod.snd))), (2, .ref o2), (0, .ref g), (1, .int (nI k))]) C dX3_bestWay_53 (by decide) rfl ?_
        refine ww_iload C dX3_bestWay_55 0 rfl ?_
        refine ww_iload_n C dX3_bestWay_57 rfl 3 rfl ?_
        refine ww_icmp_gt (tgt := 64) C dX3_bestWay_58 (by decide) (fun c_58 => ?_) (fun c_58 => ?_)
        · skip
          have hc := (oI_lt hmo hmd).mp c_58
          have hmn := bwC_mono B k (a := 6 * x + j + 1) (b := 6 * Bz B) (by omega)
          rw [(bwN_t hc).2] at hmn
          refine nw_X3_92 C dX3_bestWay_64 (by omega) (by omega) (fun y y_n y_z y_g => ?_)
          refine ww_gen (fun h1 hE1 => ?_)
          have Hg_h1 : h1 g = some (.inr (2, [.int (nI (Bc B)), .int (nI (Br B)), .ref (A 0), .ref (A 2), .int rn, .int dn, .ref (A 4), .ref (A 5), .ref (A 7)])) := by rw [hE1, up_n (ne_nw Hg y_n)]; exact Hg
          have Hl_h1 : h1 (A 4) = some (.inl (gA (xG X) 0, (49, .inl (fun x => nI (Bl B x))))) := by rw [hE1, up_n (ne_nw Hl y_n)]; exact Hl
          have N1_h1 : h1 y = some (.inr (22, [.int (nI 0), .int (nI 0)])) := by rw [hE1]; exact up_s
          refine ww_dup C dX3_bestWay_67 rfl ?_
          refine ww_iload C dX3_bestWay_68 2 rfl ?_
          refine ww_iload C dX3_bestWay_70 1 rfl ?_
          refine ci_X3_94_q (As := [.int (nI x), .int (nI j)]) (rest := [.ref y]) C dX3_bestWay_72 (ct_X25_init (Cx.fl C) (Cx.ok C) N1_h1) rfl rfl (Nat.le_of_ble_eq_true rfl) (by decide) (Nat.zero_le _) (Nat.zero_le _) (fun z2 h2 q2 => ?_)
          obtain ⟨hq, hE2⟩ := q2; replace hq := hq.symm; subst hq
          have Hg_h3 : h2 g = some (.inr (2, [.int (nI (Bc B)), .int (nI (Br B)), .ref (A 0), .ref (A 2), .int rn, .int dn, .ref (A 4), .ref (A 5), .ref (A 7)])) := by rw [hE2, up_n (ne_ob Hg_h1 N1_h1 (by simp))]; exact Hg_h1
          have Hl_h3 : h2 (A 4) = some (.inl (gA (xG X) 0, (49, .inl (fun x => nI (Bl B x))))) := by rw [hE2, up_n (ne_ob Hl_h1 N1_h1 (by simp))]; exact Hl_h1
          have N1_h3 : h2 y = some (.inr (22, [.int (nI x), .int (nI j)])) := by rw [hE2]; exact up_s
          refine ww_frzN y_n (by rw [hE2, hE1, up_up]) ?_
          refine cs_X3_97_q (As := [.ref y]) (rest := []) C dX3_bestWay_75 (ct_J31_of (Cx.fl C) (Cx.ok C)) rfl rfl (Nat.le_of_ble_eq_true rfl) (by decide) (by omega) (by omega) (fun v z3 h3 q => ?_)
          obtain ⟨o, rfl, hq1, hq2, hq3⟩ := q; subst hq1
          refine ww_astore_n (lv' := [(2, .ref o), (6, .int (oI (mdN B k (6 * x + j)))), (5, .int (nI j)), (4, .int (nI x)), (3, .int (oI ((bwN B k (6 * x + j)).map Prod.snd))), (0, .ref g), (1, .int (nI k))]) C dX3_bestWay_78 rfl (by decide) rfl rfl ?_
          refine ww_iload C dX3_bestWay_79 1 rfl ?_
          refine ww_istore_n (lv' := [(3, .int (oI (mdN B k (6 * x + j)))), (2, .ref o), (6, .int (oI (mdN B k (6 * x + j)))), (5, .int (nI j)), (4, .int (nI x)), (0, .ref g), (1, .int (nI k))]) C dX3_bestWay_81 rfl (by decide) rfl ?_
          refine ww_iinc (lv' := [(5, .int (nI (j + 1))), (3, .int (oI (mdN B k (6 * x + j)))), (2, .ref o), (6, .int (oI (mdN B k (6 * x + j)))), (4, .int (nI x)), (0, .ref g), (1, .int (nI k))]) C dX3_bestWay_82 3 rfl (inc_n _) (by decide) rfl ?_
          refine ww_goto (tgt := 21) C dX3_bestWay_85 (by decide) ?_
          refine ww_le (kc' := 2 * (bwC B k (6 * Bz B) - bwC B k (6 * x + (j + 1)))) (ns' := 3 * (bwC B k (6 * Bz B) - bwC B k (6 * x + (j + 1)))) (by rw [← Nat.add_assoc, (bwN_t hc).2]; omega) (by rw [← Nat.add_assoc, (bwN_t hc).2]; omega) ?_
          refine ww_sub [0, 4, 1, 2, 5, 6] rfl ?_
          refine ww_lv (lv' := [(5, .int (nI (j + 1))), (4, .int (nI x)), (3, .int (oI ((bwN B k (6 * x + (j + 1))).map Prod.snd))), (2, .ref o), (0, .ref g), (1, .int (nI k))]) (by rw [← Nat.add_assoc, (bwN_t hc).1, mdN_some hp]; rfl) (ih2 z3 o (hw1.tr (zad_le.tr hq2)) ?_)
          rw [← Nat.add_assoc, (bwN_t hc).1]
          exact ⟨y, hq3, by rw [show (6 * x + j) / 6 = x by omega, show (6 * x + j) % 6 = j by omega]; exact hq2 _ _ zad_s⟩
        · skip
          have hc : oLt ((bwN B k (6 * x + j)).map Prod.snd) (mdN B k (6 * x + j)) = false := by
            cases hb : oLt ((bwN B k (6 * x + j)).map Prod.snd) (mdN B k (6 * x + j)) with
            | false => rfl
            | true => exact absurd ((oI_lt hmo hmd).mpr hb) c_58
          refine ww_goto (tgt := 82) C dX3_bestWay_61 (by decide) ?_
          refine ww_iinc (lv' := [(5, .int (nI (j + 1))), (6, .int (oI (mdN B k (6 * x + j)))), (4, .int (nI x)), (3, .int (oI ((bwN B k (6 * x + j)).map Prod.snd))), (2, .ref o2), (0, .ref g), (1, .int (nI k))]) C dX3_bestWay_82 1 rfl (inc_n _) (by decide) rfl ?_
          refine ww_goto (tgt := 21) C dX3_bestWay_85 (by decide) ?_
          refine ww_le (kc' := 2 * (bwC B k (6 * Bz B) - bwC B k (6 * x + (j + 1)))) (ns' := 3 * (bwC B k (6 * Bz B) - bwC B k (6 * x + (j + 1)))) (by rw [← Nat.add_assoc, (bwN_f hc).2]; exact Nat.le_refl _) (by rw [← Nat.add_assoc, (bwN_f hc).2]; exact Nat.le_refl _) ?_
          refine ww_sub [0, 2, 3, 4, 5, 6] rfl ?_
          refine ww_lv (lv' := [(5, .int (nI (j + 1))), (4, .int (nI x)), (3, .int (oI ((bwN B k (6 * x + (j + 1))).map Prod.snd))), (2, .ref o2), (0, .ref g), (1, .int (nI k))]) (by rw [← Nat.add_assoc, (bwN_f hc).1]; rfl) (ih2 z2 o2 hw1 ?_)
          rw [← Nat.add_assoc, (bwN_f hc).1]; exact hw2
set_option maxHeartbeats 2000000 in
theorem ct_X3_bestTile {l : Launch} {Γ : Gm} (hl : l.flags = flags0) (hΓ : GOK Γ) {z : ZR} {h : AH} {g : Nat} {A : Nat → Nat} {B : GB} {G : GG} {rn dn : Int32} (hz : zle (cst Γ) z) (hM : GmM Γ z h g A B G rn dn) (hB : BO B) (hU : ∀ k, k < Bt B → Bp B k = none → Bu B k = 0) : Ct l Γ yX3_bestTile cX3_bestTile 5 (some .int) 9 (2 * btC B (Bt B)) (3 * btC B (Bt B)) [.ref g] z h (RdP z h (some (.int (oI ((btN B (Bt B)).map Prod.fst))))) := by
  refine Ct.of hl hΓ (by decide +kernel) (Nat.le_of_ble_eq_true rfl) (fun X e1 e2 C => ?_)
  subst e1; subst e2
  have C : Cx X cX3_bestTile 5 "RingDomino$Game" "bestTile" (some .int) [] 9 := C
  obtain ⟨Hg, Hl, L1, Ht, L0, L2, L3, Hd⟩ := id hM
  obtain ⟨⟨⟨c1, c2⟩, ⟨r1, r2⟩⟩, t1, bl1, bu1, bp1, bn1⟩ := id hB
  have hzz := BO.z hB
  have hbl := BO.l hB
  have hG := GmM.p hz hM
  show WW X (RdP z h (some (.int (oI ((btN B (Bt B)).map Prod.fst))))) z h (2 * btC B (Bt B)) (3 * btC B (Bt B)) 0 [(0, .ref g)] []
  refine ww_z0 (fun hz0 => ?_)
  refine ww_iconst C dX3_bestTile_0 cI_m1 ?_
  refine ww_istore_n (lv' := [(1, .int (-1)), (0, .ref g)]) C dX3_bestTile_1 rfl (by decide) rfl ?_
  refine ww_iconst C dX3_bestTile_2 cI_m1 ?_
  refine ww_istore_n (lv' := [(2, .int (-1)), (1, .int (-1)), (0, .ref g)]) C dX3_bestTile_3 rfl (by decide) rfl ?_
  refine ww_iconst C dX3_bestTile_4 cI_0 ?_
  refine ww_istore_n (lv' := [(3, .int (nI 0)), (2, .int (-1)), (1, .int (-1)), (0, .ref g)]) C dX3_bestTile_5 rfl (by decide) rfl ?_
  refine ww_lv (lv' := [(3, .int (nI 0)), (2, .int (oI ((btN B 0).map Prod.snd))), (1, .int (oI ((btN B 0).map Prod.fst))), (0, .ref g)]) (by rfl) ?_
  refine ww_le (kc' := 2 * (btC B (Bt B) - btC B 0)) (ns' := 3 * (btC B (Bt B) - btC B 0)) (by omega) (by omega) ?_
  refine loop_up (N := (Bt B)) (M := fun k => ∀ (z1 : ZR), (zle z z1) → WW X (RdP z h (some (.int (oI ((btN B (Bt B)).map Prod.fst))))) z1 h (2 * (btC B (Bt B) - btC B k)) (3 * (btC B (Bt B) - btC B k)) 6 [(3, .int (nI k)), (2, .int (oI ((btN B k).map Prod.snd))), (1, .int (oI ((btN B k).map Prod.fst))), (0, .ref g)] []) ?_ ?_ 0 (Nat.zero_le _) z zle.rf
  · intro z1 hv1
    show WW X (RdP z h (some (.int (oI ((btN B (Bt B)).map Prod.fst))))) z1 h (2 * (btC B (Bt B) - btC B (Bt B))) (3 * (btC B (Bt B) - btC B (Bt B))) 6 [(3, .int (nI (Bt B))), (2, .int (oI ((btN B (Bt B)).map Prod.snd))), (1, .int (oI ((btN B (Bt B)).map Prod.fst))), (0, .ref g)] []
    have hz1 := hz.tr hv1
    have hM1 := hM.zm hv1
    have hG1 := GmM.p hz1 hM1
    have hT1 := hM1.2.2.1.p hz1
    refine ww_iload_n C dX3_bestTile_6 rfl 0 rfl ?_
    refine ww_aload_n C dX3_bestTile_7 rfl 3 rfl rfl ?_
    refine gf_X3_21_X3 C dX3_bestTile_8 (Or.inl Hg) rfl ?_
    refine cv_X3_189_r (As := []) (rest := [.int (nI (Bt B))]) C dX3_bestTile_11 (ct_J2_size (Cx.fl C) (Cx.ok C) hT1) (ALp.rc (Cx.ok C) hT1) rfl rfl (Nat.le_of_ble_eq_true rfl) (by decide) (Nat.zero_le _) (Nat.zero_le _) ?_
    refine ww_icmp_ge_t (tgt := 102) C dX3_bestTile_14 (by decide) (nI_le (Nat.le_refl _) (by omega)) ?_
    refine ww_iload_n C dX3_bestTile_102 rfl 2 rfl ?_
    refine ww_zs hz0 hv1 ?_
    exact ww_iret C dX3_bestTile_103 (RdP.i (by rfl))
  · intro k hi ih z1 hv1
    show WW X (RdP z h (some (.int (oI ((btN B (Bt B)).map Prod.fst))))) z1 h (2 * (btC B (Bt B) - btC B k)) (3 * (btC B (Bt B) - btC B k)) 6 [(3, .int (nI k)), (2, .int (oI ((btN B k).map Prod.snd))), (1, .int (oI ((btN B k).map Prod.fst))), (0, .ref g)] []
    have hz1 := hz.tr hv1
    have hM1 := hM.zm hv1
    have hG1 := GmM.p hz1 hM1
    have hT1 := hM1.2.2.1.p hz1
    refine ww_iload_n C dX3_bestTile_6 rfl 0 rfl ?_
    refine ww_aload_n C dX3_bestTile_7 rfl 3 rfl rfl ?_
    refine gf_X3_21_X3 C dX3_bestTile_8 (Or.inl Hg) rfl ?_
    refine cv_X3_189_r (As := []) (rest := [.int (nI k)]) C dX3_bestTile_11 (ct_J2_size (Cx.fl C) (Cx.ok C) hT1) (ALp.rc (Cx.ok C) hT1) rfl rfl (Nat.le_of_ble_eq_true rfl) (by decide) (Nat.zero_le _) (Nat.zero_le _) ?_
    refine ww_icmp_ge_f (tgt := 102) C dX3_bestTile_14 (by decide) (nI_ge hi (by omega)) ?_
    refine ww_aload_n C dX3_bestTile_17 rfl 3 rfl rfl ?_
    refine ww_iload_n C dX3_bestTile_18 rfl 0 rfl ?_
    have hmn := btC_mono B (a := k + 1) (b := Bt B) hi
    have hst : btC B (k + 1) = btC B k + bwC B k (6 * Bz B) := rfl
    have hmo : ∀ y, (btN B k).map Prod.snd = some y → y < 2 ^ 31 := fun y q => by
      cases hb : btN B k with
      | none => rw [hb] at q; cases q
      | some r =>
        rw [hb] at q; cases q
        obtain ⟨w1, w2, w3⟩ := btN_lt hb
        obtain ⟨w4, w5, w6⟩ := bwN_w w3
        have := pwN_le hB (k := r.1) (w := w2) (by omega) w4
        omega
    refine cv_X3_192_q (As := [.int (nI k)]) (rest := []) C dX3_bestTile_19 (ct_X3_bestWay (Cx.fl C) (Cx.ok C) hz1 hM1 hB hU hi) (rc_X3 (Cx.ok C) (Or.inl Hg)) rfl rfl (Nat.le_of_ble_eq_true rfl) (by decide) (by omega) (by omega) (fun v z2 h2 q => ?_)
    obtain ⟨o, rfl, hq1, hq2, hq3⟩ := q; subst hq1
    refine ww_le (kc' := 2 * (btC B (Bt B) - btC B (k + 1))) (ns' := 3 * (btC B (Bt B) - btC B (k + 1))) (by omega) (by omega) ?_
    have hv2 := hv1.tr hq2
    have hz2 := hz.tr hv2
    have hM2 := hM.zm hv2
    have hG2 := GmM.p hz2 hM2
    refine ww_astore (lv' := [(4, .ref o), (3, .int (nI k)), (2, .int (oI ((btN B k).map Prod.snd))), (1, .int (oI ((btN B k).map Prod.fst))), (0, .ref g)]) C dX3_bestTile_22 (by decide) rfl rfl ?_
    refine ww_aload C dX3_bestTile_24 0 rfl rfl ?_
    cases hb : bwN B k (6 * Bz B) with
    | none =>
      have hc : oLt ((btN B k).map Prod.snd) ((bwN B k (6 * Bz B)).map Prod.snd) = false := by rw [hb]; rfl
      rw [hb] at hq3
      have Ho : rd z2 h2 o (.inr (30, [va_rf none])) := Or.inr hq3
      refine cv_X3_196_r (As := []) (rest := []) C dX3_bestTile_26 (ct_J31_isPresent (Cx.fl C) (Cx.ok C) Ho) (rc_J31 (Cx.ok C) Ho) rfl rfl (Nat.le_of_ble_eq_true rfl) (by decide) (Nat.zero_le _) (Nat.zero_le _) ?_
      refine ww_if_eq_t (tgt := 96) C dX3_bestTile_29 (by decide) rfl ?_
      refine ww_iinc (lv' := [(3, .int (nI (k + 1))), (4, .ref o), (2, .int (oI ((btN B k).map Prod.snd))), (1, .int (oI ((btN B k).map Prod.fst))), (0, .ref g)]) C dX3_bestTile_96 1 rfl (inc_n _) (by decide) rfl ?_
      refine ww_goto (tgt := 6) C dX3_bestTile_99 (by decide) ?_
      refine ww_sub [0, 2, 3, 4] rfl ?_
      exact ww_lv (lv' := [(3, .int (nI (k + 1))), (2, .int (oI ((btN B (k + 1)).map Prod.snd))), (1, .int (oI ((btN B (k + 1)).map Prod.fst))), (0, .ref g)]) (by rw [btN_f hc]; rfl) (ih z2 hv2)
    | some wp =>
      obtain ⟨wy, p⟩ := wp
      obtain ⟨w4, w5, w6⟩ := bwN_w hb
      have hple := pwN_le hB (k := k) (w := wy) hi w4
      have hf : ftN B k (wy / 6) (wy % 6) = true := w5
      obtain ⟨hl0, hp0⟩ := ftN_d hf
      rw [hb] at hq3; obtain ⟨y, hq3, hq4⟩ := hq3
      have Ho : rd z2 h2 o (.inr (30, [va_rf (some y)])) := Or.inr hq3
      refine cv_X3_196_r (As := []) (rest := []) C dX3_bestTile_26 (ct_J31_isPresent (Cx.fl C) (Cx.ok C) Ho) (rc_J31 (Cx.ok C) Ho) rfl rfl (Nat.le_of_ble_eq_true rfl) (by decide) (Nat.zero_le _) (Nat.zero_le _) ?_
      refine ww_if_eq_f (tgt := 96) C dX3_bestTile_29 (by decide) (fun q => by cases q) ?_
      refine ww_aload_n C dX3_bestTile_32 rfl 4 rfl rfl ?_
      refine ww_iload_n C dX3_bestTile_33 rfl 1 rfl ?_
      refine ww_aload C dX3_bestTile_34 0 rfl rfl ?_
      refine cv_X3_199_r (As := []) (rest := [.int (nI k), .ref g]) C dX3_bestTile_36 (ct_J31_get (Cx.fl C) (Cx.ok C) Ho) (rc_J31 (Cx.ok C) Ho) rfl rfl (Nat.le_of_ble_eq_true rfl) (by decide) (Nat.zero_le _) (Nat.zero_le _) ?_
      refine ww_castS (ci := 22) C q2335 rfl dX3_bestTile_39 (rc_X25 (Cx.ok C) (Or.inr hq4)) ?_
      refine gf_X3_118_X25 C dX3_bestTile_42 (Or.inr hq4) rfl ?_
      refine ww_aload C dX3_bestTile_45 0 rfl rfl ?_
      refine cv_X3_199_r (As := []) (rest := [.int (nI (wy / 6)), .int (nI k), .ref g]) C dX3_bestTile_47 (ct_J31_get (Cx.fl C) (Cx.ok C) Ho) (rc_J31 (Cx.ok C) Ho) rfl rfl (Nat.le_of_ble_eq_true rfl) (by decide) (Nat.zero_le _) (Nat.zero_le _) ?_
      refine ww_castS (ci := 22) C q2335 rfl dX3_bestTile_50 (rc_X25 (Cx.ok C) (Or.inr hq4)) ?_
      refine gf_X3_121_X25 C dX3_bestTile_53 (Or.inr hq4) rfl ?_
      refine cv_X3_186_r (As := [.int (nI k), .int (nI (wy / 6)), .int (nI (wy % 6))]) (rest := []) C dX3_bestTile_56 (ct_X3_pointsWith (Cx.fl C) (Cx.ok C) hz2 hM2 hB hi (by omega) (by omega) hl0 hp0 (hU k hi hp0)) (rc_X3 (Cx.ok C) (Or.inl Hg)) rfl rfl (Nat.le_of_ble_eq_true rfl) (by decide) (Nat.zero_le _) (Nat.zero_le _) ?_
      refine ww_st (st' := [.int (oI (some p))]) (by rw [w6]; rfl) ?_
      refine ww_iload_n C dX3_bestTile_59 rfl 2 rfl ?_
      have hmd : ∀ y, some p = some y → y < 2 ^ 31 := fun y q => by cases q; omega
      refine ww_icmp_gt (tgt := 66) C dX3_bestTile_60 (by decide) (fun c_60 => ?_) (fun c_60 => ?_)
      · skip
        have hc := (oI_lt hmo hmd).mp c_60
        refine ww_iload_n C dX3_bestTile_66 rfl 1 rfl ?_
        refine ww_istore_n (lv' := [(1, .int (nI k)), (4, .ref o), (3, .int (nI k)), (2, .int (oI ((btN B k).map Prod.snd))), (0, .ref g)]) C dX3_bestTile_67 rfl (by decide) rfl ?_
        refine ww_aload_n C dX3_bestTile_68 rfl 4 rfl rfl ?_
        refine ww_iload_n C dX3_bestTile_69 rfl 2 rfl ?_
        refine ww_aload C dX3_bestTile_70 1 rfl rfl ?_
        refine cv_X3_199_r (As := []) (rest := [.int (nI k), .ref g]) C dX3_bestTile_72 (ct_J31_get (Cx.fl C) (Cx.ok C) Ho) (rc_J31 (Cx.ok C) Ho) rfl rfl (Nat.le_of_ble_eq_true rfl) (by decide) (Nat.zero_le _) (Nat.zero_le _) ?_
        refine ww_castS (ci := 22) C q2335 rfl dX3_bestTile_75 (rc_X25 (Cx.ok C) (Or.inr hq4)) ?_
        refine gf_X3_118_X25 C dX3_bestTile_78 (Or.inr hq4) rfl ?_
        refine ww_aload C dX3_bestTile_81 1 rfl rfl ?_
        refine cv_X3_199_r (As := []) (rest := [.int (nI (wy / 6)), .int (nI k), .ref g]) C dX3_bestTile_83 (ct_J31_get (Cx.fl C) (Cx.ok C) Ho) (rc_J31 (Cx.ok C) Ho) rfl rfl (Nat.le_of_ble_eq_true rfl) (by decide) (Nat.zero_le _) (Nat.zero_le _) ?_
        refine ww_castS (ci := 22) C q2335 rfl dX3_bestTile_86 (rc_X25 (Cx.ok C) (Or.inr hq4)) ?_
        refine gf_X3_121_X25 C dX3_bestTile_89 (Or.inr hq4) rfl ?_
        refine cv_X3_186_r (As := [.int (nI k), .int (nI (wy / 6)), .int (nI (wy % 6))]) (rest := []) C dX3_bestTile_92 (ct_X3_pointsWith (Cx.fl C) (Cx.ok C) hz2 hM2 hB hi (by omega) (by omega) hl0 hp0 (hU k hi hp0)) (rc_X3 (Cx.ok C) (Or.inl Hg)) rfl rfl (Nat.le_of_ble_eq_true rfl) (by decide) (Nat.zero_le _) (Nat.zero_le _) ?_
        refine ww_st (st' := [.int (oI (some p))]) (by rw [w6]; rfl) ?_
        refine ww_istore_n (lv' := [(2, .int (oI (some p))), (1, .int (nI k)), (4, .ref o), (3, .int (nI k)), (0, .ref g)]) C dX3_bestTile_95 rfl (by decide) rfl ?_
        refine ww_iinc (lv' := [(3, .int (nI (k + 1))), (2, .int (oI (some p))), (1, .int (nI k)), (4, .ref o), (0, .ref g)]) C dX3_bestTile_96 3 rfl (inc_n _) (by decide) rfl ?_
        refine ww_goto (tgt := 6) C dX3_bestTile_99 (by decide) ?_
        refine ww_sub [0, 1, 2, 4] rfl ?_
        exact ww_lv (lv' := [(3, .int (nI (k + 1))), (2, .int (oI ((btN B (k + 1)).map Prod.snd))), (1, .int (oI ((btN B (k + 1)).map Prod.fst))), (0, .ref g)]) (by rw [btN_t hb hc]; rfl) (ih z2 hv2)
      · skip
        have hc : oLt ((btN B k).map Prod.snd) ((bwN B k (6 * Bz B)).map Prod.snd) = false := by
          rw [hb]; show oLt _ (some p) = false
          cases hb : oLt ((btN B k).map Prod.snd) (some p) with
          | false => rfl
          | true => exact absurd ((oI_lt hmo hmd).mpr hb) c_60
        refine ww_goto (tgt := 96) C dX3_bestTile_63 (by decide) ?_
        refine ww_iinc (lv' := [(3, .int (nI (k + 1))), (4, .ref o), (2, .int (oI ((btN B k).map Prod.snd))), (1, .int (oI ((btN B k).map Prod.fst))), (0, .ref g)]) C dX3_bestTile_96 1 rfl (inc_n _) (by decide) rfl ?_
        refine ww_goto (tgt := 6) C dX3_bestTile_99 (by decide) ?_
        refine ww_sub [0, 2, 3, 4] rfl ?_
        exact ww_lv (lv' := [(3, .int (nI (k + 1))), (2, .int (oI ((btN B (k + 1)).map Prod.snd))), (1, .int (oI ((btN B (k + 1)).map Prod.fst))), (0, .ref g)]) (by rw [btN_f hc]; rfl) (ih z2 hv2)
end GA5
