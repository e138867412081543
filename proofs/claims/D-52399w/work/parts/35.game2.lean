section GA2
set_option maxRecDepth 100000
theorem ALp.rc {Γ : Gm} (hΓ : GOK Γ) {z : ZR} {h : AH} {a arr m : Nat} {xs : Nat → Nat} (hL : ALp Γ z h a arr m xs) : rcv Γ z h a "java/util/ArrayList" := by
  obtain ⟨md, cap, f, Ha, -⟩ := hL
  exact rc_J2 hΓ Ha
set_option maxHeartbeats 2000000 in
theorem ct_X11_at {l : Launch} {Γ : Gm} (hl : l.flags = flags0) (hΓ : GOK Γ) {z : ZR} {h : AH} {a : Nat} {num : Nat → Nat} {e t : Nat} (hT : TilP Γ z a num) (he : e < 6) (ht : t < 6) : Ct l Γ yX11_at cX11_at 3 (some .int) 1 0 0 [.ref a, .int (nI e), .int (nI t)] z h (RdP z h (some (.int (nI (num (ed e t)))))) := by
  refine Ct.of hl hΓ (by decide +kernel) (Nat.le_of_ble_eq_true rfl) (fun X e1 e2 C => ?_)
  subst e1; subst e2
  have C : Cx X cX11_at 3 "RingDomino$Tile" "at" (some .int) [] 1 := C
  obtain ⟨b, z1, z2⟩ := id hT
  have hlt := ed_lt e t
  unfold ed at hlt
  show WW X (RdP z h (some (.int (nI (num (ed e t)))))) z h 0 0 0 [(0, .ref a), (1, .int (nI e)), (2, .int (nI t))] []
  refine ww_aload_n C dX11_at_0 rfl 0 rfl rfl ?_
  refine gf_X11_9_X11 C dX11_at_1 (Or.inr z1) rfl ?_
  refine ww_iload_n C dX11_at_4 rfl 1 rfl ?_
  refine ww_iload_n C dX11_at_5 rfl 2 rfl ?_
  refine ww_isub C dX11_at_6 ?_
  refine ww_bipush C dX11_at_7 cB_6 ?_
  refine ww_iadd C dX11_at_9 ?_
  refine ww_st (st' := [.int (nI (e + 6 - t)), .ref b]) (by rw [ed_i he ht]) ?_
  refine ww_bipush C dX11_at_10 cB_6 ?_
  refine ww_iremn C dX11_at_12 (by omega) (by decide) (by decide) ?_
  refine ww_iconst C dX11_at_13 cI_2 ?_
  refine ww_idivn C dX11_at_14 (by omega) (by decide) (by decide) ?_
  refine ww_iald C dX11_at_15 (Or.inr z2) (by omega) (by decide) ?_
  exact ww_iret C dX11_at_16 (RdP.i (by rfl))
set_option maxHeartbeats 2000000 in
theorem ct_X11_isAlike {l : Launch} {Γ : Gm} (hl : l.flags = flags0) (hΓ : GOK Γ) {z : ZR} {h : AH} {a : Nat} {num : Nat → Nat} (hT : TilP Γ z a num) (hn : ∀ p, p < 3 → num p ≤ 9) : Ct l Γ yX11_isAlike cX11_isAlike 1 (some .boolean) 1 0 0 [.ref a] z h (RdP z h (some (.int (bI (decide (num 0 = num 1) && decide (num 1 = num 2)))))) := by
  refine Ct.of hl hΓ (by decide +kernel) (Nat.le_of_ble_eq_true rfl) (fun X e1 e2 C => ?_)
  subst e1; subst e2
  have C : Cx X cX11_isAlike 1 "RingDomino$Tile" "isAlike" (some .boolean) [] 1 := C
  obtain ⟨b, z1, z2⟩ := id hT
  have n0 := hn 0 (by decide)
  have n1 := hn 1 (by decide)
  have n2 := hn 2 (by decide)
  show WW X (RdP z h (some (.int (bI (decide (num 0 = num 1) && decide (num 1 = num 2)))))) z h 0 0 0 [(0, .ref a)] []
  refine ww_aload_n C dX11_isAlike_0 rfl 0 rfl rfl ?_
  refine gf_X11_9_X11 C dX11_isAlike_1 (Or.inr z1) rfl ?_
  refine ww_iconst C dX11_isAlike_4 cI_0 ?_
  refine ww_iald C dX11_isAlike_5 (Or.inr z2) (by decide) (by decide) ?_
  refine ww_aload_n C dX11_isAlike_6 rfl 0 rfl rfl ?_
  refine gf_X11_9_X11 C dX11_isAlike_7 (Or.inr z1) rfl ?_
  refine ww_iconst C dX11_isAlike_10 cI_1 ?_
  refine ww_iald C dX11_isAlike_11 (Or.inr z2) (by decide) (by decide) ?_
  refine ww_icmp_ne_n (tgt := 34) C dX11_isAlike_12 (by decide) (by omega) (by omega) (fun c_12 => ?_) (fun c_12 => ?_)
  · skip
    refine ww_iconst C dX11_isAlike_34 cI_0 ?_
    exact ww_zret C dX11_isAlike_35 nar_z0 (RdP.i (by rw [decide_eq_false c_12]; try rfl))
  · skip
    refine ww_aload_n C dX11_isAlike_15 rfl 0 rfl rfl ?_
    refine gf_X11_9_X11 C dX11_isAlike_16 (Or.inr z1) rfl ?_
    refine ww_iconst C dX11_isAlike_19 cI_1 ?_
    refine ww_iald C dX11_isAlike_20 (Or.inr z2) (by decide) (by decide) ?_
    refine ww_aload_n C dX11_isAlike_21 rfl 0 rfl rfl ?_
    refine gf_X11_9_X11 C dX11_isAlike_22 (Or.inr z1) rfl ?_
    refine ww_iconst C dX11_isAlike_25 cI_2 ?_
    refine ww_iald C dX11_isAlike_26 (Or.inr z2) (by decide) (by decide) ?_
    refine ww_tern_icmp_ne_n C dX11_isAlike_27 dX11_isAlike_30 dX11_isAlike_31 dX11_isAlike_34 (by omega) (by omega) ?_
    exact ww_zret C dX11_isAlike_35 (nar_bI _) (RdP.i (by rw [decide_eq_true c_12]; try rfl))
set_option maxHeartbeats 2000000 in
theorem ct_X3_isPlaced {l : Launch} {Γ : Gm} (hl : l.flags = flags0) (hΓ : GOK Γ) {z : ZR} {h : AH} {g : Nat} {A : Nat → Nat} {B : GB} {rn dn : Int32} {k : Nat} (hz : zle (cst Γ) z) (hG : GmP Γ z h g A B rn dn) (hB : BO B) (hk : k < Bt B) : Ct l Γ yX3_isPlaced cX3_isPlaced 2 (some .boolean) 4 0 0 [.ref g, .int (nI k)] z h (RdP z h (some (.int (bI (Bp B k).isSome)))) := by
  refine Ct.of hl hΓ (by decide +kernel) (Nat.le_of_ble_eq_true rfl) (fun X e1 e2 C => ?_)
  subst e1; subst e2
  have C : Cx X cX3_isPlaced 2 "RingDomino$Game" "isPlaced" (some .boolean) [] 4 := C
  obtain ⟨Hg, Hl, L1, Ht, L2, L3⟩ := id hG
  obtain ⟨⟨⟨c1, c2⟩, ⟨r1, r2⟩⟩, t1, bl1, bu1, bp1, bn1⟩ := id hB
  have hzz := BO.z hB
  have hbl := BO.l hB
  show WW X (RdP z h (some (.int (bI (Bp B k).isSome)))) z h 0 0 0 [(0, .ref g), (1, .int (nI k))] []
  have ho : ∀ y, Bp B k = some y → y < 2 ^ 31 := fun y q => Nat.lt_trans (bp1 k y q) (by decide)
  have Hb : rd z h (bxA (xG X) (oI (Bp B k))) (.inr (26, [.int (oI (Bp B k))])) := bx_rd hz (oI_rng (bp1 k))
  refine ww_aload_n C dX3_isPlaced_0 rfl 0 rfl rfl ?_
  refine gf_X3_32_X3 C dX3_isPlaced_1 Hg rfl ?_
  refine ww_iload_n C dX3_isPlaced_4 rfl 1 rfl ?_
  refine cv_X3_48_r (As := [.int (nI k)]) (rest := []) C dX3_isPlaced_5 (ct_J2_get (Cx.fl C) (Cx.ok C) L2 hk) (ALp.rc (Cx.ok C) L2) rfl rfl (Nat.le_of_ble_eq_true rfl) (by decide) (Nat.zero_le _) (Nat.zero_le _) ?_
  refine ww_castS (ci := 26) C q2055 rfl dX3_isPlaced_8 (rc_J19 (Cx.ok C) Hb) ?_
  refine cv_X3_54_r (As := []) (rest := []) C dX3_isPlaced_11 (ct_J19_intValue (Cx.fl C) (Cx.ok C) Hb) (rc_J19 (Cx.ok C) Hb) rfl rfl (Nat.le_of_ble_eq_true rfl) (by decide) (Nat.zero_le _) (Nat.zero_le _) ?_
  refine ww_iconst C dX3_isPlaced_14 cI_m1 ?_
  refine ww_tern_icmp_eq_o C dX3_isPlaced_15 dX3_isPlaced_18 dX3_isPlaced_19 dX3_isPlaced_22 ho ?_
  exact ww_zret C dX3_isPlaced_23 (nar_bI _) (RdP.i (by rfl))
set_option maxHeartbeats 2000000 in
theorem ct_X3_number {l : Launch} {Γ : Gm} (hl : l.flags = flags0) (hΓ : GOK Γ) {z : ZR} {h : AH} {g : Nat} {A : Nat → Nat} {B : GB} {rn dn : Int32} {x e : Nat} (hz : zle (cst Γ) z) (hG : GmP Γ z h g A B rn dn) (hB : BO B) (hx : x < 49) (he : e < 6) (hp : 0 < Bl B x) : Ct l Γ yX3_number cX3_number 4 (some .int) 4 0 0 [.ref g, .int (nI x), .int (nI e)] z h (RdP z h (some (.int (nI (nmA B x e))))) := by
  refine Ct.of hl hΓ (by decide +kernel) (Nat.le_of_ble_eq_true rfl) (fun X e1 e2 C => ?_)
  subst e1; subst e2
  have C : Cx X cX3_number 4 "RingDomino$Game" "number" (some .int) [] 4 := C
  obtain ⟨Hg, Hl, L1, Ht, L2, L3⟩ := id hG
  obtain ⟨⟨⟨c1, c2⟩, ⟨r1, r2⟩⟩, t1, bl1, bu1, bp1, bn1⟩ := id hB
  have hzz := BO.z hB
  have hbl := BO.l hB
  show WW X (RdP z h (some (.int (nI (nmA B x e))))) z h 0 0 0 [(0, .ref g), (1, .int (nI x)), (2, .int (nI e))] []
  have hk : Bl B x - 1 < Bt B := by have := bl1 x; omega
  have hu := bu1 _ hk
  have Hb : rd z h (bxA (xG X) (nI (Bu B (Bl B x - 1)))) (.inr (26, [.int (nI (Bu B (Bl B x - 1)))])) := bx_rd hz (nI_rng (by omega))
  obtain ⟨b, z1, z2⟩ := id (Ht _ hk)
  refine ww_aload_n C dX3_number_0 rfl 0 rfl rfl ?_
  refine gf_X3_28_X3 C dX3_number_1 Hg rfl ?_
  refine ww_iload_n C dX3_number_4 rfl 1 rfl ?_
  refine ww_iald C dX3_number_5 Hl (by omega) (by decide) ?_
  refine ww_iconst C dX3_number_6 cI_1 ?_
  refine ww_isubn C dX3_number_7 (by omega) ?_
  refine ww_istore_n (lv' := [(3, .int (nI ((Bl B x) - 1))), (0, .ref g), (1, .int (nI x)), (2, .int (nI e))]) C dX3_number_8 rfl (by decide) rfl ?_
  refine ww_aload_n C dX3_number_9 rfl 1 rfl rfl ?_
  refine gf_X3_21_X3 C dX3_number_10 Hg rfl ?_
  refine ww_iload_n C dX3_number_13 rfl 0 rfl ?_
  refine cv_X3_48_r (As := [.int (nI ((Bl B x) - 1))]) (rest := []) C dX3_number_14 (ct_J2_get (Cx.fl C) (Cx.ok C) L1 hk) (ALp.rc (Cx.ok C) L1) rfl rfl (Nat.le_of_ble_eq_true rfl) (by decide) (Nat.zero_le _) (Nat.zero_le _) ?_
  refine ww_castS (ci := 10) C q2054 rfl dX3_number_17 (rc_X11 (Cx.ok C) (Or.inr z1)) ?_
  refine ww_iload_n C dX3_number_20 rfl 3 rfl ?_
  refine ww_aload_n C dX3_number_21 rfl 1 rfl rfl ?_
  refine gf_X3_35_X3 C dX3_number_22 Hg rfl ?_
  refine ww_iload_n C dX3_number_25 rfl 0 rfl ?_
  refine cv_X3_48_r (As := [.int (nI ((Bl B x) - 1))]) (rest := [.int (nI e), .ref (A (100 + (Bl B x - 1)))]) C dX3_number_26 (ct_J2_get (Cx.fl C) (Cx.ok C) L3 hk) (ALp.rc (Cx.ok C) L3) rfl rfl (Nat.le_of_ble_eq_true rfl) (by decide) (Nat.zero_le _) (Nat.zero_le _) ?_
  refine ww_castS (ci := 26) C q2055 rfl dX3_number_29 (rc_J19 (Cx.ok C) Hb) ?_
  refine cv_X3_54_r (As := []) (rest := [.int (nI e), .ref (A (100 + (Bl B x - 1)))]) C dX3_number_32 (ct_J19_intValue (Cx.fl C) (Cx.ok C) Hb) (rc_J19 (Cx.ok C) Hb) rfl rfl (Nat.le_of_ble_eq_true rfl) (by decide) (Nat.zero_le _) (Nat.zero_le _) ?_
  refine cv_X3_58_r (As := [.int (nI e), .int (nI (Bu B (Bl B x - 1)))]) (rest := []) C dX3_number_35 (ct_X11_at (Cx.fl C) (Cx.ok C) (Ht _ hk) he hu) (rc_X11 (Cx.ok C) (Or.inr z1)) rfl rfl (Nat.le_of_ble_eq_true rfl) (by decide) (Nat.zero_le _) (Nat.zero_le _) ?_
  exact ww_iret C dX3_number_38 (RdP.i (by rfl))
set_option maxHeartbeats 2000000 in
theorem ct_X3_against {l : Launch} {Γ : Gm} (hl : l.flags = flags0) (hΓ : GOK Γ) {z : ZR} {h : AH} {g : Nat} {A : Nat → Nat} {B : GB} {rn dn : Int32} {k x t : Nat} (hz : zle (cst Γ) z) (hG : GmP Γ z h g A B rn dn) (hB : BO B) (hk : k < Bt B) (hx : x < 49) (ht : t < 6) : Ct l Γ yX3_against cX3_against 6 (some .int) 5 0 0 [.ref g, .int (nI k), .int (nI x), .int (nI t)] z h (RdP z h (some (.int (oI (agN B k x t))))) := by
  refine Ct.of hl hΓ (by decide +kernel) (Nat.le_of_ble_eq_true rfl) (fun X e1 e2 C => ?_)
  subst e1; subst e2
  have C : Cx X cX3_against 6 "RingDomino$Game" "against" (some .int) [] 5 := C
  obtain ⟨Hg, Hl, L1, Ht, L2, L3⟩ := id hG
  obtain ⟨⟨⟨c1, c2⟩, ⟨r1, r2⟩⟩, t1, bl1, bu1, bp1, bn1⟩ := id hB
  have hzz := BO.z hB
  have hbl := BO.l hB
  show WW X (RdP z h (some (.int (oI (agN B k x t))))) z h 0 0 0 [(0, .ref g), (1, .int (nI k)), (2, .int (nI x)), (3, .int (nI t))] []
  obtain ⟨b, z1, z2⟩ := id (Ht _ hk)
  refine ww_iconst C dX3_against_0 cI_0 ?_
  refine ww_istore (lv' := [(4, .int (nI 0)), (0, .ref g), (1, .int (nI k)), (2, .int (nI x)), (3, .int (nI t))]) C dX3_against_1 (by decide) rfl ?_
  refine loop_up (N := 6) (M := fun j => agN B k x t = ff (agP B k x t) (6 - j) j → WW X (RdP z h (some (.int (oI (agN B k x t))))) z h 0 0 3 [(4, .int (nI j)), (0, .ref g), (1, .int (nI k)), (2, .int (nI x)), (3, .int (nI t))] []) ?_ ?_ 0 (Nat.zero_le _) rfl
  · intro hv; show WW X (RdP z h (some (.int (oI (agN B k x t))))) z h 0 0 3 [(4, .int (nI 6)), (0, .ref g), (1, .int (nI k)), (2, .int (nI x)), (3, .int (nI t))] []
    refine ww_iload C dX3_against_3 0 rfl ?_
    refine ww_bipush C dX3_against_5 cB_6 ?_
    refine ww_icmp_ge_t (tgt := 70) C dX3_against_7 (by decide) (nI_le (Nat.le_refl _) (by decide)) ?_
    refine ww_iconst C dX3_against_70 cI_m1 ?_
    exact ww_iret C dX3_against_71 (RdP.i (by rw [hv]; try rfl))
  · intro j hi ih hv
    show WW X (RdP z h (some (.int (oI (agN B k x t))))) z h 0 0 3 [(4, .int (nI j)), (0, .ref g), (1, .int (nI k)), (2, .int (nI x)), (3, .int (nI t))] []
    refine ww_iload C dX3_against_3 0 rfl ?_
    refine ww_bipush C dX3_against_5 cB_6 ?_
    refine ww_icmp_ge_f (tgt := 70) C dX3_against_7 (by decide) (nI_ge hi (by decide)) ?_
    refine ww_aload_n C dX3_against_10 rfl 1 rfl rfl ?_
    refine ww_iload_n C dX3_against_11 rfl 3 rfl ?_
    refine ww_iload C dX3_against_12 0 rfl ?_
    have hbe : ∀ y, bes (Bc B) (Br B) x j = some y → y < 49 := fun y q => Nat.lt_of_lt_of_le (bes_lt ⟨c1, c2⟩ ⟨r1, r2⟩ hx hi q) hzz
    refine cv_X3_68_r (As := [.int (nI x), .int (nI j)]) (rest := []) C dX3_against_14 (ct_X3_beside (Cx.fl C) (Cx.ok C) hG hB.1 hx hi) (rc_X3 (Cx.ok C) Hg) rfl rfl (Nat.le_of_ble_eq_true rfl) (by decide) (Nat.zero_le _) (Nat.zero_le _) ?_
    refine ww_istore (lv' := [(5, .int (oI (bes (Bc B) (Br B) x j))), (4, .int (nI j)), (0, .ref g), (1, .int (nI k)), (2, .int (nI x)), (3, .int (nI t))]) C dX3_against_17 (by decide) rfl ?_
    refine ww_aload_n C dX3_against_19 rfl 2 rfl rfl ?_
    refine ww_iload C dX3_against_20 0 rfl ?_
    refine cv_X3_64_r (As := [.int (oI (bes (Bc B) (Br B) x j))]) (rest := []) C dX3_against_22 (ct_X3_hasTile (Cx.fl C) (Cx.ok C) hG hB.1 hbe hbl) (rc_X3 (Cx.ok C) Hg) rfl rfl (Nat.le_of_ble_eq_true rfl) (by decide) (Nat.zero_le _) (Nat.zero_le _) ?_
    refine ww_if_eq_b (tgt := 64) C dX3_against_25 (by decide) (fun c_25 => ?_) (fun c_25 => ?_)
    · skip
      have hp : agP B k x t j = false := by unfold agP; rw [c_25]; rfl
      refine ww_iinc (lv' := [(4, .int (nI (j + 1))), (5, .int (oI (bes (Bc B) (Br B) x j))), (0, .ref g), (1, .int (nI k)), (2, .int (nI x)), (3, .int (nI t))]) C dX3_against_64 1 rfl (inc_n _) (by decide) rfl ?_
      refine ww_goto (tgt := 3) C dX3_against_67 (by decide) ?_
      refine ww_sub [0, 2, 3, 4, 5] rfl ?_
      exact ih (hv.trans (ff_f hi hp))
    · skip
      obtain ⟨y, hy⟩ : ∃ y, bes (Bc B) (Br B) x j = some y := by
        cases q : bes (Bc B) (Br B) x j with
        | none => rw [q] at c_25; cases c_25
        | some y => exact ⟨y, rfl⟩
      have hyl := hbe y hy
      have hpy : 0 < Bl B y := by rw [hy] at c_25; simpa [hasT] using c_25
      refine ww_lv (lv' := [(5, .int (nI y)), (4, .int (nI j)), (0, .ref g), (1, .int (nI k)), (2, .int (nI x)), (3, .int (nI t))]) (by rw [hy]; rfl) ?_
      have hnl := nmA_le hB hpy ((j + 3) % 6)
      have hnk := bn1 k hk (ed j t) (ed_lt _ _)
      refine ww_aload_n C dX3_against_28 rfl 2 rfl rfl ?_
      refine ww_iload C dX3_against_29 0 rfl ?_
      refine ww_iload C dX3_against_31 1 rfl ?_
      refine ww_iconst C dX3_against_33 cI_3 ?_
      refine ww_iaddn C dX3_against_34 ?_
      refine ww_bipush C dX3_against_35 cB_6 ?_
      refine ww_iremn C dX3_against_37 (by omega) (by decide) (by decide) ?_
      refine cv_X3_71_r (As := [.int (nI y), .int (nI ((j + 3) % 6))]) (rest := []) C dX3_against_38 (ct_X3_number (Cx.fl C) (Cx.ok C) hz hG hB hyl (by omega) hpy) (rc_X3 (Cx.ok C) Hg) rfl rfl (Nat.le_of_ble_eq_true rfl) (by decide) (Nat.zero_le _) (Nat.zero_le _) ?_
      refine ww_aload_n C dX3_against_41 rfl 2 rfl rfl ?_
      refine gf_X3_21_X3 C dX3_against_42 Hg rfl ?_
      refine ww_iload_n C dX3_against_45 rfl 3 rfl ?_
      refine cv_X3_48_r (As := [.int (nI k)]) (rest := [.int (nI (nmA B y ((j + 3) % 6)))]) C dX3_against_46 (ct_J2_get (Cx.fl C) (Cx.ok C) L1 hk) (ALp.rc (Cx.ok C) L1) rfl rfl (Nat.le_of_ble_eq_true rfl) (by decide) (Nat.zero_le _) (Nat.zero_le _) ?_
      refine ww_castS (ci := 10) C q2054 rfl dX3_against_49 (rc_X11 (Cx.ok C) (Or.inr z1)) ?_
      refine ww_iload C dX3_against_52 1 rfl ?_
      refine ww_iload_n C dX3_against_54 rfl 5 rfl ?_
      refine cv_X3_58_r (As := [.int (nI j), .int (nI t)]) (rest := [.int (nI (nmA B y ((j + 3) % 6)))]) C dX3_against_55 (ct_X11_at (Cx.fl C) (Cx.ok C) (Ht _ hk) hi ht) (rc_X11 (Cx.ok C) (Or.inr z1)) rfl rfl (Nat.le_of_ble_eq_true rfl) (by decide) (Nat.zero_le _) (Nat.zero_le _) ?_
      refine ww_icmp_eq_n (tgt := 64) C dX3_against_58 (by decide) (by omega) (by omega) (fun c_58 => ?_) (fun c_58 => ?_)
      · skip
        have hp : agP B k x t j = false := by unfold agP; rw [hy]; show (_ && decide (nmA B y _ ≠ _)) = false; rw [decide_eq_false (fun q => q c_58), Bool.and_false]
        refine ww_iinc (lv' := [(4, .int (nI (j + 1))), (5, .int (nI y)), (0, .ref g), (1, .int (nI k)), (2, .int (nI x)), (3, .int (nI t))]) C dX3_against_64 1 rfl (inc_n _) (by decide) rfl ?_
        refine ww_goto (tgt := 3) C dX3_against_67 (by decide) ?_
        refine ww_sub [0, 2, 3, 4, 5] rfl ?_
        exact ih (hv.trans (ff_f hi hp))
      · skip
        have hp : agP B k x t j = true := by unfold agP; rw [hy] at c_25 ⊢; show (_ && decide (nmA B y _ ≠ _)) = true; rw [decide_eq_true c_58, c_25]; rfl
        refine ww_iload C dX3_against_61 1 rfl ?_
        exact ww_iret C dX3_against_63 (RdP.i (by rw [hv, ff_t hi hp]; try rfl))
set_option maxHeartbeats 2000000 in
theorem ct_X3_fits {l : Launch} {Γ : Gm} (hl : l.flags = flags0) (hΓ : GOK Γ) {z : ZR} {h : AH} {g : Nat} {A : Nat → Nat} {B : GB} {rn dn : Int32} {k x t : Nat} (hz : zle (cst Γ) z) (hG : GmP Γ z h g A B rn dn) (hB : BO B) (hk : k < Bt B) (hx : x < 49) (ht : t < 6) : Ct l Γ yX3_fits cX3_fits 4 (some .boolean) 6 0 0 [.ref g, .int (nI k), .int (nI x), .int (nI t)] z h (RdP z h (some (.int (bI (ftN B k x t))))) := by
  refine Ct.of hl hΓ (by decide +kernel) (Nat.le_of_ble_eq_true rfl) (fun X e1 e2 C => ?_)
  subst e1; subst e2
  have C : Cx X cX3_fits 4 "RingDomino$Game" "fits" (some .boolean) [] 6 := C
  obtain ⟨Hg, Hl, L1, Ht, L2, L3⟩ := id hG
  obtain ⟨⟨⟨c1, c2⟩, ⟨r1, r2⟩⟩, t1, bl1, bu1, bp1, bn1⟩ := id hB
  have hzz := BO.z hB
  have hbl := BO.l hB
  show WW X (RdP z h (some (.int (bI (ftN B k x t))))) z h 0 0 0 [(0, .ref g), (1, .int (nI k)), (2, .int (nI x)), (3, .int (nI t))] []
  have har := arN_le B x
  have hpl := plN_le B
  have hag : ∀ y, agN B k x t = some y → y < 2 ^ 31 := fun y q => Nat.lt_of_lt_of_le (ff_lt _ _ _ q).1 (by decide)
  refine ww_aload_n C dX3_fits_0 rfl 0 rfl rfl ?_
  refine ww_iload_n C dX3_fits_1 rfl 1 rfl ?_
  refine cv_X3_74_r (As := [.int (nI k)]) (rest := []) C dX3_fits_2 (ct_X3_isPlaced (Cx.fl C) (Cx.ok C) hz hG hB hk) (rc_X3 (Cx.ok C) Hg) rfl rfl (Nat.le_of_ble_eq_true rfl) (by decide) (Nat.zero_le _) (Nat.zero_le _) ?_
  refine ww_if_ne_b (tgt := 31) C dX3_fits_5 (by decide) (fun c_5 => ?_) (fun c_5 => ?_)
  · skip
    refine ww_iconst C dX3_fits_31 cI_0 ?_
    exact ww_zret C dX3_fits_32 nar_z0 (RdP.i (by unfold ftN; rw [show (Bp B k).isNone = false from by rw [← Option.not_isSome, c_5]; rfl]; try rfl))
  · skip
    have q1 : (Bp B k).isNone = true := by rw [← Option.not_isSome, c_5]; rfl
    refine ww_aload_n C dX3_fits_8 rfl 0 rfl rfl ?_
    refine ww_iload_n C dX3_fits_9 rfl 2 rfl ?_
    refine cv_X3_64_r (As := [.int (nI x)]) (rest := []) C dX3_fits_10 (ct_X3_hasTile (Cx.fl C) (Cx.ok C) hG hB.1 (o := some x) (fun y q => by cases q; omega) hbl) (rc_X3 (Cx.ok C) Hg) rfl rfl (Nat.le_of_ble_eq_true rfl) (by decide) (Nat.zero_le _) (Nat.zero_le _) ?_
    refine ww_if_ne_b (tgt := 31) C dX3_fits_13 (by decide) (fun c_13 => ?_) (fun c_13 => ?_)
    · skip
      refine ww_iconst C dX3_fits_31 cI_0 ?_
      exact ww_zret C dX3_fits_32 nar_z0 (RdP.i (by unfold ftN; rw [q1, c_13]; try rfl))
    · skip
      refine ww_aload_n C dX3_fits_16 rfl 0 rfl rfl ?_
      refine ww_iload_n C dX3_fits_17 rfl 2 rfl ?_
      refine cv_X3_77_r (As := [.int (nI x)]) (rest := []) C dX3_fits_18 (ct_X3_around (Cx.fl C) (Cx.ok C) hG hB.1 hx hbl) (rc_X3 (Cx.ok C) Hg) rfl rfl (Nat.le_of_ble_eq_true rfl) (by decide) (Nat.zero_le _) (Nat.zero_le _) ?_
      refine ww_if_ne_n (tgt := 33) C dX3_fits_21 (by decide) (by omega) (fun c_21 => ?_) (fun c_21 => ?_)
      · skip
        refine ww_aload_n C dX3_fits_33 rfl 0 rfl rfl ?_
        refine ww_iload_n C dX3_fits_34 rfl 1 rfl ?_
        refine ww_iload_n C dX3_fits_35 rfl 2 rfl ?_
        refine ww_iload_n C dX3_fits_36 rfl 3 rfl ?_
        refine cv_X3_84_r (As := [.int (nI k), .int (nI x), .int (nI t)]) (rest := []) C dX3_fits_37 (ct_X3_against (Cx.fl C) (Cx.ok C) hz hG hB hk hx ht) (rc_X3 (Cx.ok C) Hg) rfl rfl (Nat.le_of_ble_eq_true rfl) (by decide) (Nat.zero_le _) (Nat.zero_le _) ?_
        refine ww_iconst C dX3_fits_40 cI_m1 ?_
        refine ww_tern_icmp_ne_o C dX3_fits_41 dX3_fits_44 dX3_fits_45 dX3_fits_48 hag ?_
        exact ww_zret C dX3_fits_49 (nar_bI _) (RdP.i (by unfold ftN; rw [q1, c_13, decide_eq_false (by omega : ¬ arN B x = 0)]; try rfl))
      · skip
        refine ww_aload_n C dX3_fits_24 rfl 0 rfl rfl ?_
        refine cv_X3_81_r (As := []) (rest := []) C dX3_fits_25 (ct_X3_placed (Cx.fl C) (Cx.ok C) hG hB.1 hbl) (rc_X3 (Cx.ok C) Hg) rfl rfl (Nat.le_of_ble_eq_true rfl) (by decide) (Nat.zero_le _) (Nat.zero_le _) ?_
        refine ww_if_le_n (tgt := 33) C dX3_fits_28 (by decide) (by omega) (fun c_28 => ?_) (fun c_28 => ?_)
        · skip
          refine ww_aload_n C dX3_fits_33 rfl 0 rfl rfl ?_
          refine ww_iload_n C dX3_fits_34 rfl 1 rfl ?_
          refine ww_iload_n C dX3_fits_35 rfl 2 rfl ?_
          refine ww_iload_n C dX3_fits_36 rfl 3 rfl ?_
          refine cv_X3_84_r (As := [.int (nI k), .int (nI x), .int (nI t)]) (rest := []) C dX3_fits_37 (ct_X3_against (Cx.fl C) (Cx.ok C) hz hG hB hk hx ht) (rc_X3 (Cx.ok C) Hg) rfl rfl (Nat.le_of_ble_eq_true rfl) (by decide) (Nat.zero_le _) (Nat.zero_le _) ?_
          refine ww_iconst C dX3_fits_40 cI_m1 ?_
          refine ww_tern_icmp_ne_o C dX3_fits_41 dX3_fits_44 dX3_fits_45 dX3_fits_48 hag ?_
          exact ww_zret C dX3_fits_49 (nar_bI _) (RdP.i (by unfold ftN; rw [q1, c_13, decide_eq_false (by omega : ¬ 0 < plN B), Bool.and_false]; try rfl))
        · skip
          refine ww_iconst C dX3_fits_31 cI_0 ?_
          exact ww_zret C dX3_fits_32 nar_z0 (RdP.i (by unfold ftN; rw [q1, c_13, decide_eq_true c_21, decide_eq_true c_28]; try rfl))
set_option maxHeartbeats 2000000 in
theorem ct_X3_ways {l : Launch} {Γ : Gm} (hl : l.flags = flags0) (hΓ : GOK Γ) {z : ZR} {h : AH} {g : Nat} {A : Nat → Nat} {B : GB} {rn dn : Int32} {k : Nat} (hz : zle (cst Γ) z) (hG : GmP Γ z h g A B rn dn) (hB : BO B) (hk : k < Bt B) : Ct l Γ yX3_ways cX3_ways 5 (some .int) 7 0 0 [.ref g, .int (nI k)] z h (RdP z h (some (.int (nI (wyN B k))))) := by
  refine Ct.of hl hΓ (by decide +kernel) (Nat.le_of_ble_eq_true rfl) (fun X e1 e2 C => ?_)
  subst e1; subst e2
  have C : Cx X cX3_ways 5 "RingDomino$Game" "ways" (some .int) [] 7 := C
  obtain ⟨Hg, Hl, L1, Ht, L2, L3⟩ := id hG
  obtain ⟨⟨⟨c1, c2⟩, ⟨r1, r2⟩⟩, t1, bl1, bu1, bp1, bn1⟩ := id hB
  have hzz := BO.z hB
  have hbl := BO.l hB
  show WW X (RdP z h (some (.int (nI (wyN B k))))) z h 0 0 0 [(0, .ref g), (1, .int (nI k))] []
  refine ww_iconst C dX3_ways_0 cI_0 ?_
  refine ww_istore_n (lv' := [(2, .int (nI 0)), (0, .ref g), (1, .int (nI k))]) C dX3_ways_1 rfl (by decide) rfl ?_
  refine ww_iconst C dX3_ways_2 cI_0 ?_
  refine ww_istore_n (lv' := [(3, .int (nI 0)), (2, .int (nI 0)), (0, .ref g), (1, .int (nI k))]) C dX3_ways_3 rfl (by decide) rfl ?_
  refine loop_up (N := (Bz B)) (M := fun x => WW X (RdP z h (some (.int (nI (wyN B k))))) z h 0 0 4 [(3, .int (nI x)), (2, .int (nI (sumN (fun y => cnt (fun t => ftN B k y t) 6) x))), (0, .ref g), (1, .int (nI k))] []) ?_ ?_ 0 (Nat.zero_le _)
  · show WW X (RdP z h (some (.int (nI (wyN B k))))) z h 0 0 4 [(3, .int (nI (Bz B))), (2, .int (nI (sumN (fun y => cnt (fun t => ftN B k y t) 6) (Bz B)))), (0, .ref g), (1, .int (nI k))] []
    refine ww_iload_n C dX3_ways_4 rfl 0 rfl ?_
    refine ww_aload_n C dX3_ways_5 rfl 2 rfl rfl ?_
    refine cv_X3_62_r (As := []) (rest := [.int (nI (Bz B))]) C dX3_ways_6 (ct_X3_cells (Cx.fl C) (Cx.ok C) hG hB.1) (rc_X3 (Cx.ok C) Hg) rfl rfl (Nat.le_of_ble_eq_true rfl) (by decide) (Nat.zero_le _) (Nat.zero_le _) ?_
    refine ww_icmp_ge_t (tgt := 53) C dX3_ways_9 (by decide) (nI_le (Nat.le_refl _) (by omega)) ?_
    refine ww_iload_n C dX3_ways_53 rfl 1 rfl ?_
    exact ww_iret C dX3_ways_54 (RdP.i (by rfl))
  · intro x hi ih
    show WW X (RdP z h (some (.int (nI (wyN B k))))) z h 0 0 4 [(3, .int (nI x)), (2, .int (nI (sumN (fun y => cnt (fun t => ftN B k y t) 6) x))), (0, .ref g), (1, .int (nI k))] []
    refine ww_iload_n C dX3_ways_4 rfl 0 rfl ?_
    refine ww_aload_n C dX3_ways_5 rfl 2 rfl rfl ?_
    refine cv_X3_62_r (As := []) (rest := [.int (nI x)]) C dX3_ways_6 (ct_X3_cells (Cx.fl C) (Cx.ok C) hG hB.1) (rc_X3 (Cx.ok C) Hg) rfl rfl (Nat.le_of_ble_eq_true rfl) (by decide) (Nat.zero_le _) (Nat.zero_le _) ?_
    refine ww_icmp_ge_f (tgt := 53) C dX3_ways_9 (by decide) (nI_ge hi (by omega)) ?_
    refine ww_iconst C dX3_ways_12 cI_0 ?_
    refine ww_istore (lv' := [(4, .int (nI 0)), (3, .int (nI x)), (2, .int (nI (sumN (fun y => cnt (fun t => ftN B k y t) 6) x))), (0, .ref g), (1, .int (nI k))]) C dX3_ways_13 (by decide) rfl ?_
    refine loop_up (N := 6) (M := fun j => WW X (RdP z h (some (.int (nI (wyN B k))))) z h 0 0 15 [(4, .int (nI j)), (3, .int (nI x)), (2, .int (nI (sumN (fun x => cnt (fun t => ftN B k x t) 6) x + cnt (fun t => ftN B k x t) j))), (0, .ref g), (1, .int (nI k))] []) ?_ ?_ 0 (Nat.zero_le _)
    · show WW X (RdP z h (some (.int (nI (wyN B k))))) z h 0 0 15 [(4, .int (nI 6)), (3, .int (nI x)), (2, .int (nI (sumN (fun x => cnt (fun t => ftN B k x t) 6) x + cnt (fun t => ftN B k x t) 6))), (0, .ref g), (1, .int (nI k))] []
      refine ww_iload C dX3_ways_15 0 rfl ?_
      refine ww_bipush C dX3_ways_17 cB_6 ?_
      refine ww_icmp_ge_t (tgt := 47) C dX3_ways_19 (by decide) (nI_le (Nat.le_refl _) (by decide)) ?_
      refine ww_iinc (lv' := [(3, .int (nI (x + 1))), (4, .int (nI 6)), (2, .int (nI (sumN (fun x => cnt (fun t => ftN B k x t) 6) x + cnt (fun t => ftN B k x t) 6))), (0, .ref g), (1, .int (nI k))]) C dX3_ways_47 1 rfl (inc_n _) (by decide) rfl ?_
      refine ww_goto (tgt := 4) C dX3_ways_50 (by decide) ?_
      refine ww_sub [0, 2, 3, 4] rfl ?_
      exact ih
    · intro j hj ih2
      show WW X (RdP z h (some (.int (nI (wyN B k))))) z h 0 0 15 [(4, .int (nI j)), (3, .int (nI x)), (2, .int (nI (sumN (fun x => cnt (fun t => ftN B k x t) 6) x + cnt (fun t => ftN B k x t) j))), (0, .ref g), (1, .int (nI k))] []
      refine ww_iload C dX3_ways_15 0 rfl ?_
      refine ww_bipush C dX3_ways_17 cB_6 ?_
      refine ww_icmp_ge_f (tgt := 47) C dX3_ways_19 (by decide) (nI_ge hj (by decide)) ?_
      refine ww_iload_n C dX3_ways_22 rfl 2 rfl ?_
      refine ww_aload_n C dX3_ways_23 rfl 3 rfl rfl ?_
      refine ww_iload_n C dX3_ways_24 rfl 4 rfl ?_
      refine ww_iload_n C dX3_ways_25 rfl 1 rfl ?_
      refine ww_iload C dX3_ways_26 0 rfl ?_
      refine cv_X3_88_r (As := [.int (nI k), .int (nI x), .int (nI j)]) (rest := [.int (nI (sumN (fun x => cnt (fun t => ftN B k x t) 6) x + cnt (fun t => ftN B k x t) j))]) C dX3_ways_28 (ct_X3_fits (Cx.fl C) (Cx.ok C) hz hG hB hk (by omega) hj) (rc_X3 (Cx.ok C) Hg) rfl rfl (Nat.le_of_ble_eq_true rfl) (by decide) (Nat.zero_le _) (Nat.zero_le _) ?_
      refine ww_tern_eq_b C dX3_ways_31 dX3_ways_34 dX3_ways_35 dX3_ways_38 ?_
      refine ww_iaddb C dX3_ways_39 ?_
      refine ww_istore_n (lv' := [(2, .int (nI ((sumN (fun x => cnt (fun t => ftN B k x t) 6) x + cnt (fun t => ftN B k x t) j) + (if ftN B k x j then 1 else 0)))), (4, .int (nI j)), (3, .int (nI x)), (0, .ref g), (1, .int (nI k))]) C dX3_ways_40 rfl (by decide) rfl ?_
      refine ww_iinc (lv' := [(4, .int (nI (j + 1))), (2, .int (nI ((sumN (fun x => cnt (fun t => ftN B k x t) 6) x + cnt (fun t => ftN B k x t) j) + (if ftN B k x j then 1 else 0)))), (3, .int (nI x)), (0, .ref g), (1, .int (nI k))]) C dX3_ways_41 1 rfl (inc_n _) (by decide) rfl ?_
      refine ww_goto (tgt := 15) C dX3_ways_44 (by decide) ?_
      refine ww_sub [0, 2, 1, 3, 4] rfl ?_
      exact ww_lv (lv' := [(4, .int (nI (j + 1))), (3, .int (nI x)), (2, .int (nI (sumN (fun x => cnt (fun t => ftN B k x t) 6) x + (cnt (fun t => ftN B k x t) j + (if ftN B k x j then 1 else 0))))), (0, .ref g), (1, .int (nI k))]) (by rw [Nat.add_assoc]; try rfl) ih2
set_option maxHeartbeats 2000000 in
theorem ct_X3_isLeft {l : Launch} {Γ : Gm} (hl : l.flags = flags0) (hΓ : GOK Γ) {z : ZR} {h : AH} {g : Nat} {A : Nat → Nat} {B : GB} {rn dn : Int32} {k : Nat} (hz : zle (cst Γ) z) (hG : GmP Γ z h g A B rn dn) (hB : BO B) (hk : k < Bt B) : Ct l Γ yX3_isLeft cX3_isLeft 2 (some .boolean) 8 0 0 [.ref g, .int (nI k)] z h (RdP z h (some (.int (bI (lfN B k))))) := by
  refine Ct.of hl hΓ (by decide +kernel) (Nat.le_of_ble_eq_true rfl) (fun X e1 e2 C => ?_)
  subst e1; subst e2
  have C : Cx X cX3_isLeft 2 "RingDomino$Game" "isLeft" (some .boolean) [] 8 := C
  obtain ⟨Hg, Hl, L1, Ht, L2, L3⟩ := id hG
  obtain ⟨⟨⟨c1, c2⟩, ⟨r1, r2⟩⟩, t1, bl1, bu1, bp1, bn1⟩ := id hB
  have hzz := BO.z hB
  have hbl := BO.l hB
  show WW X (RdP z h (some (.int (bI (lfN B k))))) z h 0 0 0 [(0, .ref g), (1, .int (nI k))] []
  have hwy := wyN_le B k
  refine ww_aload_n C dX3_isLeft_0 rfl 0 rfl rfl ?_
  refine ww_iload_n C dX3_isLeft_1 rfl 1 rfl ?_
  refine cv_X3_74_r (As := [.int (nI k)]) (rest := []) C dX3_isLeft_2 (ct_X3_isPlaced (Cx.fl C) (Cx.ok C) hz hG hB hk) (rc_X3 (Cx.ok C) Hg) rfl rfl (Nat.le_of_ble_eq_true rfl) (by decide) (Nat.zero_le _) (Nat.zero_le _) ?_
  refine ww_if_ne_b (tgt := 20) C dX3_isLeft_5 (by decide) (fun c_5 => ?_) (fun c_5 => ?_)
  · skip
    refine ww_iconst C dX3_isLeft_20 cI_0 ?_
    exact ww_zret C dX3_isLeft_21 nar_z0 (RdP.i (by unfold lfN; rw [show (Bp B k).isNone = false from by rw [← Option.not_isSome, c_5]; rfl]; try rfl))
  · skip
    refine ww_aload_n C dX3_isLeft_8 rfl 0 rfl rfl ?_
    refine ww_iload_n C dX3_isLeft_9 rfl 1 rfl ?_
    refine cv_X3_107_r (As := [.int (nI k)]) (rest := []) C dX3_isLeft_10 (ct_X3_ways (Cx.fl C) (Cx.ok C) hz hG hB hk) (rc_X3 (Cx.ok C) Hg) rfl rfl (Nat.le_of_ble_eq_true rfl) (by decide) (Nat.zero_le _) (Nat.zero_le _) ?_
    refine ww_tern_if_ne_n C dX3_isLeft_13 dX3_isLeft_16 dX3_isLeft_17 dX3_isLeft_20 (by omega) ?_
    exact ww_zret C dX3_isLeft_21 (nar_bI _) (RdP.i (by unfold lfN; rw [show (Bp B k).isNone = true from by rw [← Option.not_isSome, c_5]; rfl]; try rfl))
set_option maxHeartbeats 2000000 in
theorem ct_X3_sum {l : Launch} {Γ : Gm} (hl : l.flags = flags0) (hΓ : GOK Γ) {z : ZR} {h : AH} {g : Nat} {A : Nat → Nat} {B : GB} {rn dn : Int32} (hz : zle (cst Γ) z) (hG : GmP Γ z h g A B rn dn) (hB : BO B) : Ct l Γ yX3_sum cX3_sum 4 (some .int) 5 0 0 [.ref g] z h (RdP z h (some (.int (nI (suN B))))) := by
  refine Ct.of hl hΓ (by decide +kernel) (Nat.le_of_ble_eq_true rfl) (fun X e1 e2 C => ?_)
  subst e1; subst e2
  have C : Cx X cX3_sum 4 "RingDomino$Game" "sum" (some .int) [] 5 := C
  obtain ⟨Hg, Hl, L1, Ht, L2, L3⟩ := id hG
  obtain ⟨⟨⟨c1, c2⟩, ⟨r1, r2⟩⟩, t1, bl1, bu1, bp1, bn1⟩ := id hB
  have hzz := BO.z hB
  have hbl := BO.l hB
  show WW X (RdP z h (some (.int (nI (suN B))))) z h 0 0 0 [(0, .ref g)] []
  refine ww_iconst C dX3_sum_0 cI_0 ?_
  refine ww_istore_n (lv' := [(1, .int (nI 0)), (0, .ref g)]) C dX3_sum_1 rfl (by decide) rfl ?_
  refine ww_iconst C dX3_sum_2 cI_0 ?_
  refine ww_istore_n (lv' := [(2, .int (nI 0)), (1, .int (nI 0)), (0, .ref g)]) C dX3_sum_3 rfl (by decide) rfl ?_
  refine loop_up (N := (Bz B)) (M := fun x => WW X (RdP z h (some (.int (nI (suN B))))) z h 0 0 4 [(2, .int (nI x)), (1, .int (nI (sumN (fun y => sumN (suE B y) 3) x))), (0, .ref g)] []) ?_ ?_ 0 (Nat.zero_le _)
  · show WW X (RdP z h (some (.int (nI (suN B))))) z h 0 0 4 [(2, .int (nI (Bz B))), (1, .int (nI (sumN (fun y => sumN (suE B y) 3) (Bz B)))), (0, .ref g)] []
    refine ww_iload_n C dX3_sum_4 rfl 0 rfl ?_
    refine ww_aload_n C dX3_sum_5 rfl 2 rfl rfl ?_
    refine cv_X3_62_r (As := []) (rest := [.int (nI (Bz B))]) C dX3_sum_6 (ct_X3_cells (Cx.fl C) (Cx.ok C) hG hB.1) (rc_X3 (Cx.ok C) Hg) rfl rfl (Nat.le_of_ble_eq_true rfl) (by decide) (Nat.zero_le _) (Nat.zero_le _) ?_
    refine ww_icmp_ge_t (tgt := 61) C dX3_sum_9 (by decide) (nI_le (Nat.le_refl _) (by omega)) ?_
    refine ww_iload_n C dX3_sum_61 rfl 1 rfl ?_
    exact ww_iret C dX3_sum_62 (RdP.i (by rfl))
  · intro x hi ih
    show WW X (RdP z h (some (.int (nI (suN B))))) z h 0 0 4 [(2, .int (nI x)), (1, .int (nI (sumN (fun y => sumN (suE B y) 3) x))), (0, .ref g)] []
    refine ww_iload_n C dX3_sum_4 rfl 0 rfl ?_
    refine ww_aload_n C dX3_sum_5 rfl 2 rfl rfl ?_
    refine cv_X3_62_r (As := []) (rest := [.int (nI x)]) C dX3_sum_6 (ct_X3_cells (Cx.fl C) (Cx.ok C) hG hB.1) (rc_X3 (Cx.ok C) Hg) rfl rfl (Nat.le_of_ble_eq_true rfl) (by decide) (Nat.zero_le _) (Nat.zero_le _) ?_
    refine ww_icmp_ge_f (tgt := 61) C dX3_sum_9 (by decide) (nI_ge hi (by omega)) ?_
    refine ww_iconst C dX3_sum_12 cI_0 ?_
    refine ww_istore_n (lv' := [(3, .int (nI 0)), (2, .int (nI x)), (1, .int (nI (sumN (fun y => sumN (suE B y) 3) x))), (0, .ref g)]) C dX3_sum_13 rfl (by decide) rfl ?_
    refine loop_up (N := 3) (M := fun j => WW X (RdP z h (some (.int (nI (suN B))))) z h 0 0 14 [(3, .int (nI j)), (2, .int (nI x)), (1, .int (nI (sumN (fun y => sumN (suE B y) 3) x + sumN (suE B x) j))), (0, .ref g)] []) ?_ ?_ 0 (Nat.zero_le _)
    · show WW X (RdP z h (some (.int (nI (suN B))))) z h 0 0 14 [(3, .int (nI 3)), (2, .int (nI x)), (1, .int (nI (sumN (fun y => sumN (suE B y) 3) x + sumN (suE B x) 3))), (0, .ref g)] []
      refine ww_iload_n C dX3_sum_14 rfl 0 rfl ?_
      refine ww_iconst C dX3_sum_15 cI_3 ?_
      refine ww_icmp_ge_t (tgt := 55) C dX3_sum_16 (by decide) (nI_le (Nat.le_refl _) (by decide)) ?_
      refine ww_iinc (lv' := [(2, .int (nI (x + 1))), (3, .int (nI 3)), (1, .int (nI (sumN (fun y => sumN (suE B y) 3) x + sumN (suE B x) 3))), (0, .ref g)]) C dX3_sum_55 1 rfl (inc_n _) (by decide) rfl ?_
      refine ww_goto (tgt := 4) C dX3_sum_58 (by decide) ?_
      refine ww_sub [0, 2, 3] rfl ?_
      exact ih
    · intro j hj ih2
      show WW X (RdP z h (some (.int (nI (suN B))))) z h 0 0 14 [(3, .int (nI j)), (2, .int (nI x)), (1, .int (nI (sumN (fun y => sumN (suE B y) 3) x + sumN (suE B x) j))), (0, .ref g)] []
      refine ww_iload_n C dX3_sum_14 rfl 0 rfl ?_
      refine ww_iconst C dX3_sum_15 cI_3 ?_
      refine ww_icmp_ge_f (tgt := 55) C dX3_sum_16 (by decide) (nI_ge hj (by decide)) ?_
      refine ww_aload_n C dX3_sum_19 rfl 3 rfl rfl ?_
      refine ww_iload_n C dX3_sum_20 rfl 1 rfl ?_
      have hbe : ∀ y, bes (Bc B) (Br B) x j = some y → y < 49 := fun y q => Nat.lt_of_lt_of_le (bes_lt ⟨c1, c2⟩ ⟨r1, r2⟩ (by omega) (by omega) q) hzz
      refine cv_X3_64_r (As := [.int (nI x)]) (rest := []) C dX3_sum_21 (ct_X3_hasTile (Cx.fl C) (Cx.ok C) hG hB.1 (o := some x) (fun y q => by cases q; omega) hbl) (rc_X3 (Cx.ok C) Hg) rfl rfl (Nat.le_of_ble_eq_true rfl) (by decide) (Nat.zero_le _) (Nat.zero_le _) ?_
      refine ww_if_eq_b (tgt := 49) C dX3_sum_24 (by decide) (fun c_24 => ?_) (fun c_24 => ?_)
      · skip
        have hs : suE B x j = 0 := by unfold suE; rw [c_24]; rfl
        refine ww_iinc (lv' := [(3, .int (nI (j + 1))), (2, .int (nI x)), (1, .int (nI (sumN (fun y => sumN (suE B y) 3) x + sumN (suE B x) j))), (0, .ref g)]) C dX3_sum_49 0 rfl (inc_n _) (by decide) rfl ?_
        refine ww_goto (tgt := 14) C dX3_sum_52 (by decide) ?_
        exact ww_lv (lv' := [(3, .int (nI (j + 1))), (2, .int (nI x)), (1, .int (nI (sumN (fun y => sumN (suE B y) 3) x + (sumN (suE B x) j + suE B x j)))), (0, .ref g)]) (by rw [hs]; try rfl) ih2
      · skip
        refine ww_aload_n C dX3_sum_27 rfl 3 rfl rfl ?_
        refine ww_aload_n C dX3_sum_28 rfl 3 rfl rfl ?_
        refine ww_iload_n C dX3_sum_29 rfl 1 rfl ?_
        refine ww_iload_n C dX3_sum_30 rfl 0 rfl ?_
        refine cv_X3_68_r (As := [.int (nI x), .int (nI j)]) (rest := [.ref g]) C dX3_sum_31 (ct_X3_beside (Cx.fl C) (Cx.ok C) hG hB.1 (by omega) (by omega)) (rc_X3 (Cx.ok C) Hg) rfl rfl (Nat.le_of_ble_eq_true rfl) (by decide) (Nat.zero_le _) (Nat.zero_le _) ?_
        refine cv_X3_64_r (As := [.int (oI (bes (Bc B) (Br B) x j))]) (rest := []) C dX3_sum_34 (ct_X3_hasTile (Cx.fl C) (Cx.ok C) hG hB.1 hbe hbl) (rc_X3 (Cx.ok C) Hg) rfl rfl (Nat.le_of_ble_eq_true rfl) (by decide) (Nat.zero_le _) (Nat.zero_le _) ?_
        refine ww_if_eq_b (tgt := 49) C dX3_sum_37 (by decide) (fun c_37 => ?_) (fun c_37 => ?_)
        · skip
          have hs : suE B x j = 0 := by unfold suE; rw [c_37, Bool.and_false]; rfl
          refine ww_iinc (lv' := [(3, .int (nI (j + 1))), (2, .int (nI x)), (1, .int (nI (sumN (fun y => sumN (suE B y) 3) x + sumN (suE B x) j))), (0, .ref g)]) C dX3_sum_49 0 rfl (inc_n _) (by decide) rfl ?_
          refine ww_goto (tgt := 14) C dX3_sum_52 (by decide) ?_
          exact ww_lv (lv' := [(3, .int (nI (j + 1))), (2, .int (nI x)), (1, .int (nI (sumN (fun y => sumN (suE B y) 3) x + (sumN (suE B x) j + suE B x j)))), (0, .ref g)]) (by rw [hs]; try rfl) ih2
        · skip
          have hs : suE B x j = nmA B x j := by unfold suE; rw [c_24, c_37]; rfl
          have hpx : 0 < Bl B x := by simpa [hasT] using c_24
          refine ww_iload_n C dX3_sum_40 rfl 2 rfl ?_
          refine ww_aload_n C dX3_sum_41 rfl 3 rfl rfl ?_
          refine ww_iload_n C dX3_sum_42 rfl 1 rfl ?_
          refine ww_iload_n C dX3_sum_43 rfl 0 rfl ?_
          refine cv_X3_71_r (As := [.int (nI x), .int (nI j)]) (rest := [.int (nI (sumN (fun y => sumN (suE B y) 3) x + sumN (suE B x) j))]) C dX3_sum_44 (ct_X3_number (Cx.fl C) (Cx.ok C) hz hG hB (by omega) (by omega) hpx) (rc_X3 (Cx.ok C) Hg) rfl rfl (Nat.le_of_ble_eq_true rfl) (by decide) (Nat.zero_le _) (Nat.zero_le _) ?_
          refine ww_iaddn C dX3_sum_47 ?_
          refine ww_istore_n (lv' := [(1, .int (nI ((sumN (fun y => sumN (suE B y) 3) x + sumN (suE B x) j) + (nmA B x j)))), (3, .int (nI j)), (2, .int (nI x)), (0, .ref g)]) C dX3_sum_48 rfl (by decide) rfl ?_
          refine ww_iinc (lv' := [(3, .int (nI (j + 1))), (1, .int (nI ((sumN (fun y => sumN (suE B y) 3) x + sumN (suE B x) j) + (nmA B x j)))), (2, .int (nI x)), (0, .ref g)]) C dX3_sum_49 1 rfl (inc_n _) (by decide) rfl ?_
          refine ww_goto (tgt := 14) C dX3_sum_52 (by decide) ?_
          refine ww_sub [0, 2, 1, 3] rfl ?_
          exact ww_lv (lv' := [(3, .int (nI (j + 1))), (2, .int (nI x)), (1, .int (nI (sumN (fun y => sumN (suE B y) 3) x + (sumN (suE B x) j + suE B x j)))), (0, .ref g)]) (by rw [hs, Nat.add_assoc]; try rfl) ih2
set_option maxHeartbeats 2000000 in
theorem ct_X3_points {l : Launch} {Γ : Gm} (hl : l.flags = flags0) (hΓ : GOK Γ) {z : ZR} {h : AH} {g : Nat} {A : Nat → Nat} {B : GB} {rn dn : Int32} (hz : zle (cst Γ) z) (hG : GmP Γ z h g A B rn dn) (hB : BO B) : Ct l Γ yX3_points cX3_points 1 (some .int) 6 0 0 [.ref g] z h (RdP z h (some (.int (nI (poN B))))) := by
  refine Ct.of hl hΓ (by decide +kernel) (Nat.le_of_ble_eq_true rfl) (fun X e1 e2 C => ?_)
  subst e1; subst e2
  have C : Cx X cX3_points 1 "RingDomino$Game" "points" (some .int) [] 6 := C
  obtain ⟨Hg, Hl, L1, Ht, L2, L3⟩ := id hG
  obtain ⟨⟨⟨c1, c2⟩, ⟨r1, r2⟩⟩, t1, bl1, bu1, bp1, bn1⟩ := id hB
  have hzz := BO.z hB
  have hbl := BO.l hB
  show WW X (RdP z h (some (.int (nI (poN B))))) z h 0 0 0 [(0, .ref g)] []
  refine ww_aload_n C dX3_points_0 rfl 0 rfl rfl ?_
  refine cv_X3_133_r (As := []) (rest := []) C dX3_points_1 (ct_X3_sum (Cx.fl C) (Cx.ok C) hz hG hB) (rc_X3 (Cx.ok C) Hg) rfl rfl (Nat.le_of_ble_eq_true rfl) (by decide) (Nat.zero_le _) (Nat.zero_le _) ?_
  refine ww_bipush C dX3_points_4 cB_10 ?_
  refine ww_aload_n C dX3_points_6 rfl 0 rfl rfl ?_
  refine cv_X3_136_r (As := []) (rest := [.int (nI 10), .int (nI (suN B))]) C dX3_points_7 (ct_X3_rings (Cx.fl C) (Cx.ok C) hG hB.1 hbl) (rc_X3 (Cx.ok C) Hg) rfl rfl (Nat.le_of_ble_eq_true rfl) (by decide) (Nat.zero_le _) (Nat.zero_le _) ?_
  refine ww_imuln C dX3_points_10 ?_
  refine ww_iaddn C dX3_points_11 ?_
  exact ww_iret C dX3_points_12 (RdP.i (by rfl))
set_option maxHeartbeats 2000000 in
theorem ct_X3_looks {l : Launch} {Γ : Gm} (hl : l.flags = flags0) (hΓ : GOK Γ) {z : ZR} {h : AH} {g : Nat} {A : Nat → Nat} {B : GB} {rn dn : Int32} {k : Nat} (hz : zle (cst Γ) z) (hG : GmP Γ z h g A B rn dn) (hB : BO B) (hk : k < Bt B) : Ct l Γ yX3_looks cX3_looks 4 (some .int) 4 0 0 [.ref g, .int (nI k)] z h (RdP z h (some (.int (nI (lkN B k))))) := by
  refine Ct.of hl hΓ (by decide +kernel) (Nat.le_of_ble_eq_true rfl) (fun X e1 e2 C => ?_)
  subst e1; subst e2
  have C : Cx X cX3_looks 4 "RingDomino$Game" "looks" (some .int) [] 4 := C
  obtain ⟨Hg, Hl, L1, Ht, L2, L3⟩ := id hG
  obtain ⟨⟨⟨c1, c2⟩, ⟨r1, r2⟩⟩, t1, bl1, bu1, bp1, bn1⟩ := id hB
  have hzz := BO.z hB
  have hbl := BO.l hB
  show WW X (RdP z h (some (.int (nI (lkN B k))))) z h 0 0 0 [(0, .ref g), (1, .int (nI k))] []
  obtain ⟨b, z1, z2⟩ := id (Ht _ hk)
  refine ww_iconst C dX3_looks_0 cI_0 ?_
  refine ww_istore_n (lv' := [(2, .int (nI 0)), (0, .ref g), (1, .int (nI k))]) C dX3_looks_1 rfl (by decide) rfl ?_
  refine ww_iconst C dX3_looks_2 cI_0 ?_
  refine ww_istore_n (lv' := [(3, .int (nI 0)), (2, .int (nI 0)), (0, .ref g), (1, .int (nI k))]) C dX3_looks_3 rfl (by decide) rfl ?_
  refine loop_up (N := (Bz B)) (M := fun x => WW X (RdP z h (some (.int (nI (lkN B k))))) z h 0 0 4 [(3, .int (nI x)), (2, .int (nI (cnt (fun y => !(hasT B (some y)) && decide (0 < arN B y)) x))), (0, .ref g), (1, .int (nI k))] []) ?_ ?_ 0 (Nat.zero_le _)
  · show WW X (RdP z h (some (.int (nI (lkN B k))))) z h 0 0 4 [(3, .int (nI (Bz B))), (2, .int (nI (cnt (fun y => !(hasT B (some y)) && decide (0 < arN B y)) (Bz B)))), (0, .ref g), (1, .int (nI k))] []
    refine ww_iload_n C dX3_looks_4 rfl 0 rfl ?_
    refine ww_aload_n C dX3_looks_5 rfl 2 rfl rfl ?_
    refine cv_X3_62_r (As := []) (rest := [.int (nI (Bz B))]) C dX3_looks_6 (ct_X3_cells (Cx.fl C) (Cx.ok C) hG hB.1) (rc_X3 (Cx.ok C) Hg) rfl rfl (Nat.le_of_ble_eq_true rfl) (by decide) (Nat.zero_le _) (Nat.zero_le _) ?_
    refine ww_icmp_ge_t (tgt := 42) C dX3_looks_9 (by decide) (nI_le (Nat.le_refl _) (by omega)) ?_
    refine ww_aload_n C dX3_looks_42 rfl 2 rfl rfl ?_
    refine gf_X3_21_X3 C dX3_looks_43 Hg rfl ?_
    refine ww_iload_n C dX3_looks_46 rfl 3 rfl ?_
    refine cv_X3_48_r (As := [.int (nI k)]) (rest := []) C dX3_looks_47 (ct_J2_get (Cx.fl C) (Cx.ok C) L1 hk) (ALp.rc (Cx.ok C) L1) rfl rfl (Nat.le_of_ble_eq_true rfl) (by decide) (Nat.zero_le _) (Nat.zero_le _) ?_
    refine ww_castS (ci := 10) C q2054 rfl dX3_looks_50 (rc_X11 (Cx.ok C) (Or.inr z1)) ?_
    refine cv_X3_110_r (As := []) (rest := []) C dX3_looks_53 (ct_X11_isAlike (Cx.fl C) (Cx.ok C) (Ht _ hk) (bn1 k hk)) (rc_X11 (Cx.ok C) (Or.inr z1)) rfl rfl (Nat.le_of_ble_eq_true rfl) (by decide) (Nat.zero_le _) (Nat.zero_le _) ?_
    refine ww_if_eq_b (tgt := 63) C dX3_looks_56 (by decide) (fun c_56 => ?_) (fun c_56 => ?_)
    · skip
      refine ww_bipush C dX3_looks_63 cB_6 ?_
      refine ww_iload_n C dX3_looks_65 rfl 1 rfl ?_
      refine ww_imuln C dX3_looks_66 ?_
      exact ww_iret C dX3_looks_67 (RdP.i (by unfold lkN alN; rw [c_56]; try rfl))
    · skip
      refine ww_iload_n C dX3_looks_59 rfl 1 rfl ?_
      refine ww_goto (tgt := 67) C dX3_looks_60 (by decide) ?_
      exact ww_iret C dX3_looks_67 (RdP.i (by unfold lkN alN; rw [c_56]; try rfl))
  · intro x hi ih
    show WW X (RdP z h (some (.int (nI (lkN B k))))) z h 0 0 4 [(3, .int (nI x)), (2, .int (nI (cnt (fun y => !(hasT B (some y)) && decide (0 < arN B y)) x))), (0, .ref g), (1, .int (nI k))] []
    have har := arN_le B x
    refine ww_iload_n C dX3_looks_4 rfl 0 rfl ?_
    refine ww_aload_n C dX3_looks_5 rfl 2 rfl rfl ?_
    refine cv_X3_62_r (As := []) (rest := [.int (nI x)]) C dX3_looks_6 (ct_X3_cells (Cx.fl C) (Cx.ok C) hG hB.1) (rc_X3 (Cx.ok C) Hg) rfl rfl (Nat.le_of_ble_eq_true rfl) (by decide) (Nat.zero_le _) (Nat.zero_le _) ?_
    refine ww_icmp_ge_f (tgt := 42) C dX3_looks_9 (by decide) (nI_ge hi (by omega)) ?_
    refine ww_iload_n C dX3_looks_12 rfl 1 rfl ?_
    refine ww_aload_n C dX3_looks_13 rfl 2 rfl rfl ?_
    refine ww_iload_n C dX3_looks_14 rfl 0 rfl ?_
    have J34 : WW X (RdP z h (some (.int (nI (lkN B k))))) z h 0 0 34 [(3, .int (nI x)), (2, .int (nI (cnt (fun y => !(hasT B (some y)) && decide (0 < arN B y)) x))), (0, .ref g), (1, .int (nI k))] [.int (bI (!(hasT B (some x)) && decide (0 < arN B x))), .int (nI (cnt (fun y => !(hasT B (some y)) && decide (0 < arN B y)) x))] := by
      refine ww_iaddb C dX3_looks_34 ?_
      refine ww_istore_n (lv' := [(2, .int (nI ((cnt (fun y => !(hasT B (some y)) && decide (0 < arN B y)) x) + (if !(hasT B (some x)) && decide (0 < arN B x) then 1 else 0)))), (3, .int (nI x)), (0, .ref g), (1, .int (nI k))]) C dX3_looks_35 rfl (by decide) rfl ?_
      refine ww_iinc (lv' := [(3, .int (nI (x + 1))), (2, .int (nI ((cnt (fun y => !(hasT B (some y)) && decide (0 < arN B y)) x) + (if !(hasT B (some x)) && decide (0 < arN B x) then 1 else 0)))), (0, .ref g), (1, .int (nI k))]) C dX3_looks_36 1 rfl (inc_n _) (by decide) rfl ?_
      refine ww_goto (tgt := 4) C dX3_looks_39 (by decide) ?_
      exact ih
    refine cv_X3_64_r (As := [.int (nI x)]) (rest := [.int (nI (cnt (fun y => !(hasT B (some y)) && decide (0 < arN B y)) x))]) C dX3_looks_15 (ct_X3_hasTile (Cx.fl C) (Cx.ok C) hG hB.1 (o := some x) (fun y q => by cases q; omega) hbl) (rc_X3 (Cx.ok C) Hg) rfl rfl (Nat.le_of_ble_eq_true rfl) (by decide) (Nat.zero_le _) (Nat.zero_le _) ?_
    refine ww_if_ne_b (tgt := 33) C dX3_looks_18 (by decide) (fun c_18 => ?_) (fun c_18 => ?_)
    · skip
      refine ww_iconst C dX3_looks_33 cI_0 ?_
      exact ww_st (st_i (by rw [c_18]; rfl)) J34
    · skip
      refine ww_aload_n C dX3_looks_21 rfl 2 rfl rfl ?_
      refine ww_iload_n C dX3_looks_22 rfl 0 rfl ?_
      refine cv_X3_77_r (As := [.int (nI x)]) (rest := [.int (nI (cnt (fun y => !(hasT B (some y)) && decide (0 < arN B y)) x))]) C dX3_looks_23 (ct_X3_around (Cx.fl C) (Cx.ok C) hG hB.1 (by omega) hbl) (rc_X3 (Cx.ok C) Hg) rfl rfl (Nat.le_of_ble_eq_true rfl) (by decide) (Nat.zero_le _) (Nat.zero_le _) ?_
      refine ww_tern_if_le_n C dX3_looks_26 dX3_looks_29 dX3_looks_30 dX3_looks_33 (by omega) ?_
      exact ww_st (st_i (by rw [c_18]; rfl)) J34
end GA2
