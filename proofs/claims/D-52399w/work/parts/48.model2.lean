section MO2
set_option maxRecDepth 100000
set_option maxHeartbeats 2000000 in
theorem ct_X4_hasBest {l : Launch} {Γ : Gm} (hl : l.flags = flags0) (hΓ : GOK Γ) {z : ZR} {h : AH} {m s : Nat} {B : GB} {I : Nat → Int32} {D : Nat → Nat} {k : Nat} (hz : zle (cst Γ) z) (Hm : h m = some (cMd I D)) (hR : MrR Γ z h D s B) (hC : BC B) (hk : k < Bt B) : Ct l Γ yX4_hasBest cX4_hasBest 6 (some .boolean) 6 0 0 [.ref m, .ref s, .int (nI k)] z h (Rv (fun v z' h' => v = .int (bI (bwN B k (6 * Bz B)).isSome) ∧ z' = z ∧ h' = up h m (cMd (bgI I B k (6 * Bz B)) D))) := by
  refine Ct.of hl hΓ (by decide +kernel) (Nat.le_of_ble_eq_true rfl) (fun X e1 e2 C => ?_)
  subst e1; subst e2
  have C : Cx X cX4_hasBest 6 "RingDominoModel" "hasBest" (some .boolean) [] 6 := C
  have hB := hC.1
  have hzz := BO.z hB
  have hcc : (3 ≤ Bc B ∧ Bc B ≤ 7) ∧ (3 ≤ Br B ∧ Br B ≤ 7) := hB.1
  have t1 : Bt B ≤ 16 := hB.2.1
  show WW X (Rv (fun v z' h' => v = .int (bI (bwN B k (6 * Bz B)).isSome) ∧ z' = z ∧ h' = up h m (cMd (bgI I B k (6 * Bz B)) D))) z h 0 0 0 [(0, .ref m), (1, .ref s), (2, .int (nI k))] []
  refine ww_aload_n C dX4_hasBest_0 rfl 0 rfl rfl ?_
  refine ww_iconst C dX4_hasBest_1 cI_m1 ?_
  refine pf_X4_331_X4 (fs' := [.int (I 0), .ref (D 1), .int (I 1), .int (I 2), .ref (D 2), .ref (D 3), .ref (D 4), .ref (D 5), .int (I 3), .int (I 4), .int (I 5), .int (I 6), .int (I 7), .ref (D 6), .ref (D 7), .ref (D 8), .ref (D 9), .ref (D 10), .ref (D 11), .ref (D 12), .ref (D 13), .int (-1), .int (I 9), .int (I 10)]) C dX4_hasBest_2 Hm rfl rfl (Nat.le_of_ble_eq_true rfl) rfl ?_
  refine ww_gen (fun h1 hE1 => ?_)
  have Hm_h1 : h1 m = some (.inr (3, [.int (I 0), .ref (D 1), .int (I 1), .int (I 2), .ref (D 2), .ref (D 3), .ref (D 4), .ref (D 5), .int (I 3), .int (I 4), .int (I 5), .int (I 6), .int (I 7), .ref (D 6), .ref (D 7), .ref (D 8), .ref (D 9), .ref (D 10), .ref (D 11), .ref (D 12), .ref (D 13), .int (-1), .int (I 9), .int (I 10)])) := by rw [hE1]; exact up_s
  refine ww_iconst C dX4_hasBest_5 cI_0 ?_
  refine ww_istore_n (lv' := [(3, .int (nI 0)), (0, .ref m), (1, .ref s), (2, .int (nI k))]) C dX4_hasBest_6 rfl (by decide) rfl ?_
  refine ww_h (h' := up h m (cMd (bgI I B k (6 * 0)) D)) (by rw [hE1]; rfl) ?_
  refine loop_up (N := (Bz B)) (M := fun x => WW X (Rv (fun v z' h' => v = .int (bI (bwN B k (6 * Bz B)).isSome) ∧ z' = z ∧ h' = up h m (cMd (bgI I B k (6 * Bz B)) D))) z (up h m (cMd (bgI I B k (6 * x)) D)) 0 0 7 [(3, .int (nI x)), (0, .ref m), (1, .ref s), (2, .int (nI k))] []) ?_ ?_ 0 (Nat.zero_le _) 
  · skip
    show WW X (Rv (fun v z' h' => v = .int (bI (bwN B k (6 * Bz B)).isSome) ∧ z' = z ∧ h' = up h m (cMd (bgI I B k (6 * Bz B)) D))) z (up h m (cMd (bgI I B k (6 * (Bz B))) D)) 0 0 7 [(3, .int (nI (Bz B))), (0, .ref m), (1, .ref s), (2, .int (nI k))] []
    have Hq : (up h m (cMd (bgI I B k (6 * Bz B)) D)) m = some (cMd (bgI I B k (6 * Bz B)) D) := up_s
    have hP : MrP (xG X) z (up h m (cMd (bgI I B k (6 * Bz B)) D)) m s B := ⟨_, D, Or.inl Hq, hR.up Hm⟩
    refine ww_iload_n C dX4_hasBest_7 rfl 0 rfl ?_
    refine ww_aload_n C dX4_hasBest_8 rfl 1 rfl rfl ?_
    refine cv_X4_307_r (As := []) (rest := [.int (nI (Bz B))]) C dX4_hasBest_9 (ct_X4_cells (Cx.fl C) (Cx.ok C) hz hP hC) (rc_X4 (Cx.ok C) (Or.inl Hq)) rfl rfl (Nat.le_of_ble_eq_true rfl) (by decide) (Nat.zero_le _) (Nat.zero_le _) ?_
    refine ww_icmp_ge_t (tgt := 92) C dX4_hasBest_12 (by decide) (nI_le (Nat.le_refl _) (by omega)) ?_
    refine ww_aload_n C dX4_hasBest_92 rfl 1 rfl rfl ?_
    refine gf_X4_331_X4 C dX4_hasBest_93 (Or.inl Hq) rfl ?_
    refine ww_iconst C dX4_hasBest_96 cI_m1 ?_
    refine ww_st (st' := [.int (-1), .int (oI (bgN B k (6 * Bz B)))]) (by rw [bgI_8]) ?_
    refine ww_tern_icmp_eq_o C dX4_hasBest_97 dX4_hasBest_100 dX4_hasBest_101 dX4_hasBest_104 (bgN_le hC hk (Nat.le_refl _)) ?_
    exact ww_zret C dX4_hasBest_105 (nar_bI _) ⟨by rw [bgI_is], rfl, rfl⟩
  · intro x hi ih  
    show WW X (Rv (fun v z' h' => v = .int (bI (bwN B k (6 * Bz B)).isSome) ∧ z' = z ∧ h' = up h m (cMd (bgI I B k (6 * Bz B)) D))) z (up h m (cMd (bgI I B k (6 * x)) D)) 0 0 7 [(3, .int (nI x)), (0, .ref m), (1, .ref s), (2, .int (nI k))] []
    have Hq : (up h m (cMd (bgI I B k (6 * x)) D)) m = some (cMd (bgI I B k (6 * x)) D) := up_s
    have hP : MrP (xG X) z (up h m (cMd (bgI I B k (6 * x)) D)) m s B := ⟨_, D, Or.inl Hq, hR.up Hm⟩
    refine ww_iload_n C dX4_hasBest_7 rfl 0 rfl ?_
    refine ww_aload_n C dX4_hasBest_8 rfl 1 rfl rfl ?_
    refine cv_X4_307_r (As := []) (rest := [.int (nI x)]) C dX4_hasBest_9 (ct_X4_cells (Cx.fl C) (Cx.ok C) hz hP hC) (rc_X4 (Cx.ok C) (Or.inl Hq)) rfl rfl (Nat.le_of_ble_eq_true rfl) (by decide) (Nat.zero_le _) (Nat.zero_le _) ?_
    refine ww_icmp_ge_f (tgt := 92) C dX4_hasBest_12 (by decide) (nI_ge hi (by omega)) ?_
    refine ww_iconst C dX4_hasBest_15 cI_0 ?_
    refine ww_istore (lv' := [(4, .int (nI 0)), (3, .int (nI x)), (0, .ref m), (1, .ref s), (2, .int (nI k))]) C dX4_hasBest_16 (by decide) rfl ?_
    refine loop_up (N := 6) (M := fun j => WW X (Rv (fun v z' h' => v = .int (bI (bwN B k (6 * Bz B)).isSome) ∧ z' = z ∧ h' = up h m (cMd (bgI I B k (6 * Bz B)) D))) z (up h m (cMd (bgI I B k (6 * x + j)) D)) 0 0 18 [(4, .int (nI j)), (3, .int (nI x)), (0, .ref m), (1, .ref s), (2, .int (nI k))] []) ?_ ?_ 0 (Nat.zero_le _) 
    · skip
      show WW X (Rv (fun v z' h' => v = .int (bI (bwN B k (6 * Bz B)).isSome) ∧ z' = z ∧ h' = up h m (cMd (bgI I B k (6 * Bz B)) D))) z (up h m (cMd (bgI I B k (6 * x + 6)) D)) 0 0 18 [(4, .int (nI 6)), (3, .int (nI x)), (0, .ref m), (1, .ref s), (2, .int (nI k))] []
      refine ww_iload C dX4_hasBest_18 0 rfl ?_
      refine ww_bipush C dX4_hasBest_20 cB_6 ?_
      refine ww_icmp_ge_t (tgt := 86) C dX4_hasBest_22 (by decide) (nI_le (Nat.le_refl _) (by decide)) ?_
      refine ww_iinc (lv' := [(3, .int (nI (x + 1))), (4, .int (nI 6)), (0, .ref m), (1, .ref s), (2, .int (nI k))]) C dX4_hasBest_86 1 rfl (inc_n _) (by decide) rfl ?_
      refine ww_goto (tgt := 7) C dX4_hasBest_89 (by decide) ?_
      refine ww_sub [0, 2, 3, 4] rfl ?_
      exact ih
    · intro j hj ih2  
      show WW X (Rv (fun v z' h' => v = .int (bI (bwN B k (6 * Bz B)).isSome) ∧ z' = z ∧ h' = up h m (cMd (bgI I B k (6 * Bz B)) D))) z (up h m (cMd (bgI I B k (6 * x + j)) D)) 0 0 18 [(4, .int (nI j)), (3, .int (nI x)), (0, .ref m), (1, .ref s), (2, .int (nI k))] []
      have Hq : (up h m (cMd (bgI I B k (6 * x + j)) D)) m = some (cMd (bgI I B k (6 * x + j)) D) := up_s
      have hP : MrP (xG X) z (up h m (cMd (bgI I B k (6 * x + j)) D)) m s B := ⟨_, D, Or.inl Hq, hR.up Hm⟩
      refine ww_iload C dX4_hasBest_18 0 rfl ?_
      refine ww_bipush C dX4_hasBest_20 cB_6 ?_
      refine ww_icmp_ge_f (tgt := 86) C dX4_hasBest_22 (by decide) (nI_ge hj (by decide)) ?_
      refine ww_aload_n C dX4_hasBest_25 rfl 2 rfl rfl ?_
      refine ww_aload_n C dX4_hasBest_26 rfl 3 rfl rfl ?_
      refine ww_iload_n C dX4_hasBest_27 rfl 4 rfl ?_
      refine ww_iload_n C dX4_hasBest_28 rfl 1 rfl ?_
      refine ww_iload C dX4_hasBest_29 0 rfl ?_
      refine cv_X4_310_r (As := [.ref s, .int (nI k), .int (nI x), .int (nI j)]) (rest := []) C dX4_hasBest_31 (ct_X4_fits_2 (Cx.fl C) (Cx.ok C) hz hP hC hk (by omega) hj) (rc_X4 (Cx.ok C) (Or.inl Hq)) rfl rfl (Nat.le_of_ble_eq_true rfl) (by decide) (Nat.zero_le _) (Nat.zero_le _) ?_
      have hgl := gnN_le hB hk x j
      refine ww_if_ne_b (tgt := 40) C dX4_hasBest_34 (by decide) (fun c_34 => ?_) (fun c_34 => ?_)
      · skip
        have hp : fwP B k (6 * x + j) = true := by rw [fwP_e hj]; exact c_34
        have hbg := bg_lt hC hk (w := 6 * x + j) (by omega) hp
        rw [show (6 * x + j) / 6 = x by omega, show (6 * x + j) % 6 = j by omega] at hbg
        refine ww_aload_n C dX4_hasBest_40 rfl 2 rfl rfl ?_
        refine ww_aload_n C dX4_hasBest_41 rfl 3 rfl rfl ?_
        refine ww_iload_n C dX4_hasBest_42 rfl 4 rfl ?_
        refine ww_iload_n C dX4_hasBest_43 rfl 1 rfl ?_
        refine ww_iload C dX4_hasBest_44 0 rfl ?_
        refine cv_X4_334_r (As := [.ref s, .int (nI k), .int (nI x), .int (nI j)]) (rest := []) C dX4_hasBest_46 (ct_X4_gain (Cx.fl C) (Cx.ok C) hz hP hC hk (by omega) hj) (rc_X4 (Cx.ok C) (Or.inl Hq)) rfl rfl (Nat.le_of_ble_eq_true rfl) (by decide) (Nat.zero_le _) (Nat.zero_le _) ?_
        refine ww_istore (lv' := [(5, .int (nI (gnN B k x j))), (4, .int (nI j)), (3, .int (nI x)), (0, .ref m), (1, .ref s), (2, .int (nI k))]) C dX4_hasBest_49 (by decide) rfl ?_
        refine ww_iload C dX4_hasBest_51 0 rfl ?_
        refine ww_aload_n C dX4_hasBest_53 rfl 3 rfl rfl ?_
        refine gf_X4_331_X4 C dX4_hasBest_54 (Or.inl Hq) rfl ?_
        refine ww_st (st' := [.int (oI (bgN B k (6 * x + j))), .int (nI (gnN B k x j))]) (by rw [bgI_8]) ?_
        have hmo := bgN_le hC hk (n := 6 * x + j) (by omega)
        have hmd : ∀ y, some (gnN B k x j) = some y → y < 2 ^ 31 := fun y q => by cases q; omega
        refine ww_icmp_gt (tgt := 63) C dX4_hasBest_57 (by decide) (fun c_57 => ?_) (fun c_57 => ?_)
        · skip
          have hc := (oI_lt (b := some (gnN B k x j)) hmo hmd).mp c_57
          rw [hbg] at hc
          have hbt := (bwN_t hc).1
          have hpw : pwN B k (6 * x + j) - poN B = gnN B k x j := by have := bw_p hC hk (by omega) hbt; rw [show (6 * x + j) / 6 = x by omega, show (6 * x + j) % 6 = j by omega] at this; omega
          have hI := bgI_t (I := I) hbt
          rw [hpw, show (6 * x + j) / 6 = x by omega, show (6 * x + j) % 6 = j by omega] at hI
          refine ww_aload_n C dX4_hasBest_63 rfl 3 rfl rfl ?_
          refine ww_iload C dX4_hasBest_64 0 rfl ?_
          refine pf_X4_331_X4 (fs' := [.int (bgI I B k (6 * x + j) 0), .ref (D 1), .int (bgI I B k (6 * x + j) 1), .int (bgI I B k (6 * x + j) 2), .ref (D 2), .ref (D 3), .ref (D 4), .ref (D 5), .int (bgI I B k (6 * x + j) 3), .int (bgI I B k (6 * x + j) 4), .int (bgI I B k (6 * x + j) 5), .int (bgI I B k (6 * x + j) 6), .int (bgI I B k (6 * x + j) 7), .ref (D 6), .ref (D 7), .ref (D 8), .ref (D 9), .ref (D 10), .ref (D 11), .ref (D 12), .ref (D 13), .int (nI (gnN B k x j)), .int (bgI I B k (6 * x + j) 9), .int (bgI I B k (6 * x + j) 10)]) C dX4_hasBest_66 Hq rfl rfl (Nat.le_of_ble_eq_true rfl) rfl ?_
          refine ww_gen (fun h2 hE2 => ?_)
          have Hq_h2 : h2 m = some (.inr (3, [.int (bgI I B k (6 * x + j) 0), .ref (D 1), .int (bgI I B k (6 * x + j) 1), .int (bgI I B k (6 * x + j) 2), .ref (D 2), .ref (D 3), .ref (D 4), .ref (D 5), .int (bgI I B k (6 * x + j) 3), .int (bgI I B k (6 * x + j) 4), .int (bgI I B k (6 * x + j) 5), .int (bgI I B k (6 * x + j) 6), .int (bgI I B k (6 * x + j) 7), .ref (D 6), .ref (D 7), .ref (D 8), .ref (D 9), .ref (D 10), .ref (D 11), .ref (D 12), .ref (D 13), .int (nI (gnN B k x j)), .int (bgI I B k (6 * x + j) 9), .int (bgI I B k (6 * x + j) 10)])) := by rw [hE2]; exact up_s
          refine ww_aload_n C dX4_hasBest_69 rfl 3 rfl rfl ?_
          refine ww_iload_n C dX4_hasBest_70 rfl 2 rfl ?_
          refine pf_X4_337_X4 (fs' := [.int (bgI I B k (6 * x + j) 0), .ref (D 1), .int (bgI I B k (6 * x + j) 1), .int (bgI I B k (6 * x + j) 2), .ref (D 2), .ref (D 3), .ref (D 4), .ref (D 5), .int (bgI I B k (6 * x + j) 3), .int (bgI I B k (6 * x + j) 4), .int (bgI I B k (6 * x + j) 5), .int (bgI I B k (6 * x + j) 6), .int (bgI I B k (6 * x + j) 7), .ref (D 6), .ref (D 7), .ref (D 8), .ref (D 9), .ref (D 10), .ref (D 11), .ref (D 12), .ref (D 13), .int (nI (gnN B k x j)), .int (nI x), .int (bgI I B k (6 * x + j) 10)]) C dX4_hasBest_71 Hq_h2 rfl rfl (Nat.le_of_ble_eq_true rfl) rfl ?_
          refine ww_gen (fun h3 hE3 => ?_)
          have Hq_h3 : h3 m = some (.inr (3, [.int (bgI I B k (6 * x + j) 0), .ref (D 1), .int (bgI I B k (6 * x + j) 1), .int (bgI I B k (6 * x + j) 2), .ref (D 2), .ref (D 3), .ref (D 4), .ref (D 5), .int (bgI I B k (6 * x + j) 3), .int (bgI I B k (6 * x + j) 4), .int (bgI I B k (6 * x + j) 5), .int (bgI I B k (6 * x + j) 6), .int (bgI I B k (6 * x + j) 7), .ref (D 6), .ref (D 7), .ref (D 8), .ref (D 9), .ref (D 10), .ref (D 11), .ref (D 12), .ref (D 13), .int (nI (gnN B k x j)), .int (nI x), .int (bgI I B k (6 * x + j) 10)])) := by rw [hE3]; exact up_s
          refine ww_aload_n C dX4_hasBest_74 rfl 3 rfl rfl ?_
          refine ww_iload C dX4_hasBest_75 1 rfl ?_
          refine pf_X4_340_X4 (fs' := [.int (bgI I B k (6 * x + j) 0), .ref (D 1), .int (bgI I B k (6 * x + j) 1), .int (bgI I B k (6 * x + j) 2), .ref (D 2), .ref (D 3), .ref (D 4), .ref (D 5), .int (bgI I B k (6 * x + j) 3), .int (bgI I B k (6 * x + j) 4), .int (bgI I B k (6 * x + j) 5), .int (bgI I B k (6 * x + j) 6), .int (bgI I B k (6 * x + j) 7), .ref (D 6), .ref (D 7), .ref (D 8), .ref (D 9), .ref (D 10), .ref (D 11), .ref (D 12), .ref (D 13), .int (nI (gnN B k x j)), .int (nI x), .int (nI j)]) C dX4_hasBest_77 Hq_h3 rfl rfl (Nat.le_of_ble_eq_true rfl) rfl ?_
          refine ww_gen (fun h4 hE4 => ?_)
          have Hq_h4 : h4 m = some (.inr (3, [.int (bgI I B k (6 * x + j) 0), .ref (D 1), .int (bgI I B k (6 * x + j) 1), .int (bgI I B k (6 * x + j) 2), .ref (D 2), .ref (D 3), .ref (D 4), .ref (D 5), .int (bgI I B k (6 * x + j) 3), .int (bgI I B k (6 * x + j) 4), .int (bgI I B k (6 * x + j) 5), .int (bgI I B k (6 * x + j) 6), .int (bgI I B k (6 * x + j) 7), .ref (D 6), .ref (D 7), .ref (D 8), .ref (D 9), .ref (D 10), .ref (D 11), .ref (D 12), .ref (D 13), .int (nI (gnN B k x j)), .int (nI x), .int (nI j)])) := by rw [hE4]; exact up_s
          refine ww_iinc (lv' := [(4, .int (nI (j + 1))), (5, .int (nI (gnN B k x j))), (3, .int (nI x)), (0, .ref m), (1, .ref s), (2, .int (nI k))]) C dX4_hasBest_80 1 rfl (inc_n _) (by decide) rfl ?_
          refine ww_goto (tgt := 18) C dX4_hasBest_83 (by decide) ?_
          refine ww_h (h' := up h m (cMd (bgI I B k (6 * x + (j + 1))) D)) (by rw [hE4, hE3, hE2, up_up, up_up, up_up, ← Nat.add_assoc, ← hI]; rfl) ?_
          refine ww_sub [0, 2, 3, 4, 5] rfl ?_
          exact ih2
        · skip
          have hc : oLt ((bwN B k (6 * x + j)).map Prod.snd) (mdN B k (6 * x + j)) = false := by
            rw [← hbg]; cases hb : oLt (bgN B k (6 * x + j)) (some (gnN B k x j)) with
            | false => rfl
            | true => exact absurd ((oI_lt hmo hmd).mpr hb) c_57
          refine ww_goto (tgt := 80) C dX4_hasBest_60 (by decide) ?_
          refine ww_iinc (lv' := [(4, .int (nI (j + 1))), (5, .int (nI (gnN B k x j))), (3, .int (nI x)), (0, .ref m), (1, .ref s), (2, .int (nI k))]) C dX4_hasBest_80 1 rfl (inc_n _) (by decide) rfl ?_
          refine ww_goto (tgt := 18) C dX4_hasBest_83 (by decide) ?_
          refine ww_h (h' := up h m (cMd (bgI I B k (6 * x + (j + 1))) D)) (by rw [← Nat.add_assoc, bgI_f (bwN_f hc).1]) ?_
          refine ww_sub [0, 2, 3, 4, 5] rfl ?_
          exact ih2
      · skip
        have hp : fwP B k (6 * x + j) = false := by rw [fwP_e hj]; exact c_34
        have hc : oLt ((bwN B k (6 * x + j)).map Prod.snd) (mdN B k (6 * x + j)) = false := by rw [mdN_none hp]; rfl
        refine ww_goto (tgt := 80) C dX4_hasBest_37 (by decide) ?_
        refine ww_iinc (lv' := [(4, .int (nI (j + 1))), (3, .int (nI x)), (0, .ref m), (1, .ref s), (2, .int (nI k))]) C dX4_hasBest_80 0 rfl (inc_n _) (by decide) rfl ?_
        refine ww_goto (tgt := 18) C dX4_hasBest_83 (by decide) ?_
        refine ww_h (h' := up h m (cMd (bgI I B k (6 * x + (j + 1))) D)) (by rw [← Nat.add_assoc, bgI_f (bwN_f hc).1]) ?_
        exact ih2
set_option maxHeartbeats 2000000 in
theorem ct_X4_best {l : Launch} {Γ : Gm} (hl : l.flags = flags0) (hΓ : GOK Γ) {z : ZR} {h : AH} {m : Nat} {B : GB} {I : Nat → Int32} {D : Nat → Nat} (hz : zle (cst Γ) z) (Hm : h m = some (cMd I D)) (hR : MrR Γ z h D (D 10) B) (hC : BC B) : Ct l Γ yX4_best cX4_best 4 (some .int) 7 0 0 [.ref m] z h (Rv (fun v z' h' => v = .int (oI ((btN B (Bt B)).map Prod.fst)) ∧ z' = z ∧ ∃ I' : Nat → Int32, (∀ j, j < 8 → I' j = I j) ∧ h' = up h m (cMd I' D))) := by
  refine Ct.of hl hΓ (by decide +kernel) (Nat.le_of_ble_eq_true rfl) (fun X e1 e2 C => ?_)
  subst e1; subst e2
  have C : Cx X cX4_best 4 "RingDominoModel" "best" (some .int) [] 7 := C
  have hB := hC.1
  have hzz := BO.z hB
  have hcc : (3 ≤ Bc B ∧ Bc B ≤ 7) ∧ (3 ≤ Br B ∧ Br B ≤ 7) := hB.1
  have t1 : Bt B ≤ 16 := hB.2.1
  show WW X (Rv (fun v z' h' => v = .int (oI ((btN B (Bt B)).map Prod.fst)) ∧ z' = z ∧ ∃ I' : Nat → Int32, (∀ j, j < 8 → I' j = I j) ∧ h' = up h m (cMd I' D))) z h 0 0 0 [(0, .ref m)] []
  refine ww_iconst C dX4_best_0 cI_m1 ?_
  refine ww_istore_n (lv' := [(1, .int (-1)), (0, .ref m)]) C dX4_best_1 rfl (by decide) rfl ?_
  refine ww_iconst C dX4_best_2 cI_m1 ?_
  refine ww_istore_n (lv' := [(2, .int (-1)), (1, .int (-1)), (0, .ref m)]) C dX4_best_3 rfl (by decide) rfl ?_
  refine ww_iconst C dX4_best_4 cI_0 ?_
  refine ww_istore_n (lv' := [(3, .int (nI 0)), (2, .int (-1)), (1, .int (-1)), (0, .ref m)]) C dX4_best_5 rfl (by decide) rfl ?_
  refine ww_h (h' := up h m (cMd I D)) (up_id Hm).symm ?_
  refine ww_lv (lv' := [(3, .int (nI 0)), (2, .int (oI (tgN B 0))), (1, .int (oI ((btN B 0).map Prod.fst))), (0, .ref m)]) (by rfl) ?_
  refine loop_up (N := (Bt B)) (M := fun k => ∀ (I1 : Nat → Int32), (∀ j, j < 8 → I1 j = I j) → WW X (Rv (fun v z' h' => v = .int (oI ((btN B (Bt B)).map Prod.fst)) ∧ z' = z ∧ ∃ I' : Nat → Int32, (∀ j, j < 8 → I' j = I j) ∧ h' = up h m (cMd I' D))) z (up h m (cMd I1 D)) 0 0 6 [(3, .int (nI k)), (2, .int (oI (tgN B k))), (1, .int (oI ((btN B k).map Prod.fst))), (0, .ref m)] []) ?_ ?_ 0 (Nat.zero_le _) I (fun _ _ => rfl)
  · intro I1 hv
    show WW X (Rv (fun v z' h' => v = .int (oI ((btN B (Bt B)).map Prod.fst)) ∧ z' = z ∧ ∃ I' : Nat → Int32, (∀ j, j < 8 → I' j = I j) ∧ h' = up h m (cMd I' D))) z (up h m (cMd I1 D)) 0 0 6 [(3, .int (nI (Bt B))), (2, .int (oI (tgN B (Bt B)))), (1, .int (oI ((btN B (Bt B)).map Prod.fst))), (0, .ref m)] []
    have Hq : (up h m (cMd I1 D)) m = some (cMd I1 D) := up_s
    have hR1 : MrR (xG X) z (up h m (cMd I1 D)) D (D 10) B := hR.up Hm
    obtain ⟨o, nn, rn, nu, tu, S, Ht, -⟩ := id hR1
    refine ww_iload_n C dX4_best_6 rfl 0 rfl ?_
    refine ww_aload_n C dX4_best_7 rfl 3 rfl rfl ?_
    refine gf_X4_35_X4 C dX4_best_8 (Or.inl Hq) rfl ?_
    refine gf_X4_150_X5 C dX4_best_11 Ht rfl ?_
    refine ww_icmp_ge_t (tgt := 53) C dX4_best_14 (by decide) (nI_le (Nat.le_refl _) (by omega)) ?_
    refine ww_iload_n C dX4_best_53 rfl 2 rfl ?_
    exact ww_iret C dX4_best_54 ⟨rfl, rfl, I1, hv, rfl⟩
  · intro k hi ih I1 hv
    show WW X (Rv (fun v z' h' => v = .int (oI ((btN B (Bt B)).map Prod.fst)) ∧ z' = z ∧ ∃ I' : Nat → Int32, (∀ j, j < 8 → I' j = I j) ∧ h' = up h m (cMd I' D))) z (up h m (cMd I1 D)) 0 0 6 [(3, .int (nI k)), (2, .int (oI (tgN B k))), (1, .int (oI ((btN B k).map Prod.fst))), (0, .ref m)] []
    have Hq : (up h m (cMd I1 D)) m = some (cMd I1 D) := up_s
    have hR1 : MrR (xG X) z (up h m (cMd I1 D)) D (D 10) B := hR.up Hm
    obtain ⟨o, nn, rn, nu, tu, S, Ht, -⟩ := id hR1
    refine ww_iload_n C dX4_best_6 rfl 0 rfl ?_
    refine ww_aload_n C dX4_best_7 rfl 3 rfl rfl ?_
    refine gf_X4_35_X4 C dX4_best_8 (Or.inl Hq) rfl ?_
    refine gf_X4_150_X5 C dX4_best_11 Ht rfl ?_
    refine ww_icmp_ge_f (tgt := 53) C dX4_best_14 (by decide) (nI_ge hi (by omega)) ?_
    refine ww_aload_n C dX4_best_17 rfl 3 rfl rfl ?_
    refine ww_aload_n C dX4_best_18 rfl 3 rfl rfl ?_
    refine gf_X4_48_X4 C dX4_best_19 (Or.inl Hq) rfl ?_
    refine ww_iload_n C dX4_best_22 rfl 0 rfl ?_
    refine cv_X4_418_q (As := [.ref (D 10), .int (nI k)]) (rest := []) C dX4_best_23 (ct_X4_hasBest (Cx.fl C) (Cx.ok C) hz Hq hR1 hC hi) (rc_X4 (Cx.ok C) (Or.inl Hq)) rfl rfl (Nat.le_of_ble_eq_true rfl) (by decide) (Nat.zero_le _) (Nat.zero_le _) (fun v z1 h1 q => ?_)
    obtain ⟨rfl, hq1, hq2⟩ := q; replace hq1 := hq1.symm; subst hq1; rw [up_up] at hq2; subst hq2
    have hv2 : ∀ j, j < 8 → bgI I1 B k (6 * Bz B) j = I j := fun j hj => (bgI_lo hj).trans (hv j hj)
    have Hq2 : (up h m (cMd (bgI I1 B k (6 * Bz B)) D)) m = some (cMd (bgI I1 B k (6 * Bz B)) D) := up_s
    have htl := tg_lt hC hi
    have hmo := tg_le hC (Nat.le_of_lt hi)
    have hmd := bgN_le hC hi (Nat.le_refl _)
    refine ww_if_eq_b (tgt := 47) C dX4_best_26 (by decide) (fun c_26 => ?_) (fun c_26 => ?_)
    · skip
      have hb0 : bwN B k (6 * Bz B) = none := by cases hb : bwN B k (6 * Bz B) with | none => rfl | some r => rw [hb] at c_26; cases c_26
      have hbf : btN B (k + 1) = btN B k := btN_f (by rw [hb0]; rfl)
      refine ww_iinc (lv' := [(3, .int (nI (k + 1))), (2, .int (oI (tgN B k))), (1, .int (oI ((btN B k).map Prod.fst))), (0, .ref m)]) C dX4_best_47 0 rfl (inc_n _) (by decide) rfl ?_
      refine ww_goto (tgt := 6) C dX4_best_50 (by decide) ?_
      exact ww_lv (lv' := [(3, .int (nI (k + 1))), (2, .int (oI (tgN B (k + 1)))), (1, .int (oI ((btN B (k + 1)).map Prod.fst))), (0, .ref m)]) (by unfold tgN; rw [hbf]; try rfl) (ih _ hv2)
    · skip
      obtain ⟨⟨wy, pp⟩, hbw⟩ := Option.isSome_iff_exists.mp c_26
      refine ww_aload_n C dX4_best_29 rfl 3 rfl rfl ?_
      refine gf_X4_331_X4 C dX4_best_30 (Or.inl Hq2) rfl ?_
      refine ww_iload_n C dX4_best_33 rfl 1 rfl ?_
      refine ww_st (st' := [.int (oI (tgN B k)), .int (oI (bgN B k (6 * Bz B)))]) (by rw [bgI_8]) ?_
      refine ww_icmp_gt (tgt := 40) C dX4_best_34 (by decide) (fun c_34 => ?_) (fun c_34 => ?_)
      · skip
        have hc := (oI_lt hmo hmd).mp c_34
        rw [htl, hbw] at hc
        have hbt := btN_t hbw hc
        refine ww_aload_n C dX4_best_40 rfl 3 rfl rfl ?_
        refine gf_X4_331_X4 C dX4_best_41 (Or.inl Hq2) rfl ?_
        refine ww_st (st' := [.int (oI (bgN B k (6 * Bz B)))]) (by rw [bgI_8]) ?_
        refine ww_istore_n (lv' := [(2, .int (oI (bgN B k (6 * Bz B)))), (3, .int (nI k)), (1, .int (oI ((btN B k).map Prod.fst))), (0, .ref m)]) C dX4_best_44 rfl (by decide) rfl ?_
        refine ww_iload_n C dX4_best_45 rfl 1 rfl ?_
        refine ww_istore_n (lv' := [(1, .int (nI k)), (2, .int (oI (bgN B k (6 * Bz B)))), (3, .int (nI k)), (0, .ref m)]) C dX4_best_46 rfl (by decide) rfl ?_
        refine ww_iinc (lv' := [(3, .int (nI (k + 1))), (1, .int (nI k)), (2, .int (oI (bgN B k (6 * Bz B)))), (0, .ref m)]) C dX4_best_47 2 rfl (inc_n _) (by decide) rfl ?_
        refine ww_goto (tgt := 6) C dX4_best_50 (by decide) ?_
        refine ww_sub [0, 2, 1, 3] rfl ?_
        exact ww_lv (lv' := [(3, .int (nI (k + 1))), (2, .int (oI (tgN B (k + 1)))), (1, .int (oI ((btN B (k + 1)).map Prod.fst))), (0, .ref m)]) (by unfold tgN bgN; rw [hbt, hbw]; rfl) (ih _ hv2)
      · skip
        have hbf : btN B (k + 1) = btN B k := btN_f (by rw [← htl]; cases hb : oLt (tgN B k) (bgN B k (6 * Bz B)) with | false => rfl | true => exact absurd ((oI_lt hmo hmd).mpr hb) c_34)
        refine ww_goto (tgt := 47) C dX4_best_37 (by decide) ?_
        refine ww_iinc (lv' := [(3, .int (nI (k + 1))), (2, .int (oI (tgN B k))), (1, .int (oI ((btN B k).map Prod.fst))), (0, .ref m)]) C dX4_best_47 0 rfl (inc_n _) (by decide) rfl ?_
        refine ww_goto (tgt := 6) C dX4_best_50 (by decide) ?_
        exact ww_lv (lv' := [(3, .int (nI (k + 1))), (2, .int (oI (tgN B (k + 1)))), (1, .int (oI ((btN B (k + 1)).map Prod.fst))), (0, .ref m)]) (by unfold tgN; rw [hbf]; try rfl) (ih _ hv2)
end MO2
