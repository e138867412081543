section GA1
set_option maxRecDepth 100000
theorem st_i {x y : Int32} {st : List Value} (hx : x = y) : (Value.int x :: st) = (Value.int y :: st) := by rw [hx]
set_option maxHeartbeats 2000000 in
theorem ct_X3_cells {l : Launch} {Γ : Gm} (hl : l.flags = flags0) (hΓ : GOK Γ) {z : ZR} {h : AH} {g : Nat} {A : Nat → Nat} {B : GB} {rn dn : Int32} (hG : GmP Γ z h g A B rn dn) (hB : BS B) : Ct l Γ yX3_cells cX3_cells 1 (some .int) 1 0 0 [.ref g] z h (RdP z h (some (.int (nI (Bz B))))) := by
  refine Ct.of hl hΓ (by decide +kernel) (Nat.le_of_ble_eq_true rfl) (fun X e1 e2 C => ?_)
  subst e1; subst e2
  have C : Cx X cX3_cells 1 "RingDomino$Game" "cells" (some .int) [] 1 := C
  obtain ⟨Hg, Hl, -⟩ := id hG
  obtain ⟨⟨c1, c2⟩, ⟨r1, r2⟩⟩ := id hB
  have hz := BS.z hB
  show WW X (RdP z h (some (.int (nI (Bz B))))) z h 0 0 0 [(0, .ref g)] []
  refine ww_aload_n C dX3_cells_0 rfl 0 rfl rfl ?_
  refine gf_X3_9_X3 C dX3_cells_1 Hg rfl ?_
  refine ww_aload_n C dX3_cells_4 rfl 0 rfl rfl ?_
  refine gf_X3_15_X3 C dX3_cells_5 Hg rfl ?_
  refine ww_imuln C dX3_cells_8 ?_
  exact ww_iret C dX3_cells_9 (RdP.i rfl)
set_option maxHeartbeats 2000000 in
theorem ct_X3_hasTile {l : Launch} {Γ : Gm} (hl : l.flags = flags0) (hΓ : GOK Γ) {z : ZR} {h : AH} {g : Nat} {A : Nat → Nat} {B : GB} {rn dn : Int32} {o : Option Nat} (hG : GmP Γ z h g A B rn dn) (hB : BS B) (ho : ∀ x, o = some x → x < 49) (hbl : ∀ x, Bl B x ≤ 16) : Ct l Γ yX3_hasTile cX3_hasTile 2 (some .boolean) 1 0 0 [.ref g, .int (oI o)] z h (RdP z h (some (.int (bI (hasT B o))))) := by
  refine Ct.of hl hΓ (by decide +kernel) (Nat.le_of_ble_eq_true rfl) (fun X e1 e2 C => ?_)
  subst e1; subst e2
  have C : Cx X cX3_hasTile 2 "RingDomino$Game" "hasTile" (some .boolean) [] 1 := C
  obtain ⟨Hg, Hl, -⟩ := id hG
  obtain ⟨⟨c1, c2⟩, ⟨r1, r2⟩⟩ := id hB
  have hz := BS.z hB
  show WW X (RdP z h (some (.int (bI (hasT B o))))) z h 0 0 0 [(0, .ref g), (1, .int (oI o))] []
  have ho2 : ∀ x, o = some x → x < 2 ^ 31 := fun x q => Nat.lt_trans (ho x q) (by decide)
  refine ww_iload_n C dX3_hasTile_0 rfl 1 rfl ?_
  refine ww_iconst C dX3_hasTile_1 cI_m1 ?_
  refine ww_icmp_eq_o (tgt := 18) C dX3_hasTile_2 (by decide) ho2 (fun c_2 => ?_) (fun c_2 => ?_)
  · subst c_2
    refine ww_iconst C dX3_hasTile_18 cI_0 ?_
    exact ww_zret C dX3_hasTile_19 nar_z0 (RdP.i (by rfl))
  · obtain ⟨x, rfl⟩ := Option.ne_none_iff_exists'.mp c_2
    have hx := ho x rfl
    have hb := hbl x
    refine ww_aload_n C dX3_hasTile_5 rfl 0 rfl rfl ?_
    refine gf_X3_28_X3 C dX3_hasTile_6 Hg rfl ?_
    refine ww_iload_n C dX3_hasTile_9 rfl 1 rfl ?_
    refine ww_iald C dX3_hasTile_10 Hl (by omega) (by decide) ?_
    refine ww_tern_if_le_n C dX3_hasTile_11 dX3_hasTile_14 dX3_hasTile_15 dX3_hasTile_18 (by omega) ?_
    exact ww_zret C dX3_hasTile_19 (nar_bI _) (RdP.i (by rfl))
set_option maxHeartbeats 2000000 in
theorem ct_X3_beside {l : Launch} {Γ : Gm} (hl : l.flags = flags0) (hΓ : GOK Γ) {z : ZR} {h : AH} {g : Nat} {A : Nat → Nat} {B : GB} {rn dn : Int32} {x e : Nat} (hG : GmP Γ z h g A B rn dn) (hB : BS B) (hx : x < 49) (he : e < 6) : Ct l Γ yX3_beside cX3_beside 5 (some .int) 1 0 0 [.ref g, .int (nI x), .int (nI e)] z h (RdP z h (some (.int (oI (bes (Bc B) (Br B) x e))))) := by
  refine Ct.of hl hΓ (by decide +kernel) (Nat.le_of_ble_eq_true rfl) (fun X e1 e2 C => ?_)
  subst e1; subst e2
  have C : Cx X cX3_beside 5 "RingDomino$Game" "beside" (some .int) [] 1 := C
  obtain ⟨Hg, Hl, -⟩ := id hG
  obtain ⟨⟨c1, c2⟩, ⟨r1, r2⟩⟩ := id hB
  have hz := BS.z hB
  rw [bes_i ⟨c1, c2⟩ ⟨r1, r2⟩ hx he]
  show WW X (RdP z h (some (.int (besI (Bc B) (Br B) x e)))) z h 0 0 0 [(0, .ref g), (1, .int (nI x)), (2, .int (nI e))] []
  have K74 : WW X (RdP z h (some (.int (besI (Bc B) (Br B) x e)))) z h 0 0 74 [(4, .int (nI (x / Bc B) + dyI e)), (3, .int (nI (x % Bc B) + dxI e)), (0, .ref g), (1, .int (nI x)), (2, .int (nI e))] [] := by
    refine ww_iload_n C dX3_beside_74 rfl 1 rfl ?_
    refine ww_if_lt (tgt := 100) C dX3_beside_75 (by decide) (fun c_75 => ?_) (fun c_75 => ?_)
    · skip
      refine ww_iconst C dX3_beside_100 cI_m1 ?_
      refine ww_goto (tgt := 113) C dX3_beside_101 (by decide) ?_
      exact ww_iret C dX3_beside_113 (RdP.i (by exact (if_pos (Or.inl c_75)).symm))
    · skip
      refine ww_iload_n C dX3_beside_78 rfl 1 rfl ?_
      refine ww_aload_n C dX3_beside_79 rfl 2 rfl rfl ?_
      refine gf_X3_9_X3 C dX3_beside_80 Hg rfl ?_
      refine ww_icmp_ge (tgt := 100) C dX3_beside_83 (by decide) (fun c_83 => ?_) (fun c_83 => ?_)
      · skip
        refine ww_iconst C dX3_beside_100 cI_m1 ?_
        refine ww_goto (tgt := 113) C dX3_beside_101 (by decide) ?_
        exact ww_iret C dX3_beside_113 (RdP.i (by exact (if_pos (Or.inr (Or.inl c_83))).symm))
      · skip
        refine ww_iload C dX3_beside_86 0 rfl ?_
        refine ww_if_lt (tgt := 100) C dX3_beside_88 (by decide) (fun c_88 => ?_) (fun c_88 => ?_)
        · skip
          refine ww_iconst C dX3_beside_100 cI_m1 ?_
          refine ww_goto (tgt := 113) C dX3_beside_101 (by decide) ?_
          exact ww_iret C dX3_beside_113 (RdP.i (by exact (if_pos (Or.inr (Or.inr (Or.inl c_88)))).symm))
        · skip
          refine ww_iload C dX3_beside_91 0 rfl ?_
          refine ww_aload_n C dX3_beside_93 rfl 2 rfl rfl ?_
          refine gf_X3_15_X3 C dX3_beside_94 Hg rfl ?_
          refine ww_icmp_lt (tgt := 104) C dX3_beside_97 (by decide) (fun c_97 => ?_) (fun c_97 => ?_)
          · skip
            refine ww_aload_n C dX3_beside_104 rfl 2 rfl rfl ?_
            refine gf_X3_9_X3 C dX3_beside_105 Hg rfl ?_
            refine ww_iload C dX3_beside_108 0 rfl ?_
            refine ww_imul C dX3_beside_110 ?_
            refine ww_iload_n C dX3_beside_111 rfl 1 rfl ?_
            refine ww_iadd C dX3_beside_112 ?_
            exact ww_iret C dX3_beside_113 (RdP.i (by exact (if_neg (fun q => by rcases q with q | q | q | q; exact c_75 q; exact c_83 q; exact c_88 q; exact absurd q (Int32.not_le.mpr c_97))).symm))
          · skip
            refine ww_iconst C dX3_beside_100 cI_m1 ?_
            refine ww_goto (tgt := 113) C dX3_beside_101 (by decide) ?_
            exact ww_iret C dX3_beside_113 (RdP.i (by exact (if_pos (Or.inr (Or.inr (Or.inr (Int32.not_lt.mp c_97))))).symm))
  have K36 : WW X (RdP z h (some (.int (besI (Bc B) (Br B) x e)))) z h 0 0 36 [(3, .int (nI (x % Bc B) + dxI e)), (0, .ref g), (1, .int (nI x)), (2, .int (nI e))] [] := by
    refine ww_iload_n C dX3_beside_36 rfl 2 rfl ?_
    refine ww_aload_n C dX3_beside_37 rfl 1 rfl rfl ?_
    refine gf_X3_9_X3 C dX3_beside_38 Hg rfl ?_
    refine ww_idivn C dX3_beside_41 (by omega) (by omega) (by omega) ?_
    have J71 : WW X (RdP z h (some (.int (besI (Bc B) (Br B) x e)))) z h 0 0 71 [(3, .int (nI (x % Bc B) + dxI e)), (0, .ref g), (1, .int (nI x)), (2, .int (nI e))] [.int (dyI e), .int (nI (x / Bc B))] := by
      refine ww_iadd C dX3_beside_71 ?_
      refine ww_istore (lv' := [(4, .int ((nI (x / Bc B)) + (dyI e))), (3, .int (nI (x % Bc B) + dxI e)), (0, .ref g), (1, .int (nI x)), (2, .int (nI e))]) C dX3_beside_72 (by decide) rfl ?_
      exact K74
    refine ww_iload_n C dX3_beside_42 rfl 3 rfl ?_
    refine ww_iconst C dX3_beside_43 cI_1 ?_
    refine ww_icmp_eq_n (tgt := 52) C dX3_beside_44 (by decide) (by omega) (by decide) (fun c_44 => ?_) (fun c_44 => ?_)
    · skip
      refine ww_iconst C dX3_beside_52 cI_1 ?_
      refine ww_goto (tgt := 71) C dX3_beside_53 (by decide) ?_
      exact ww_st (st_i (by simp only [dyI]; split <;> first | rfl | (split <;> first | rfl | omega) | omega)) J71
    · skip
      refine ww_iload_n C dX3_beside_47 rfl 3 rfl ?_
      refine ww_iconst C dX3_beside_48 cI_2 ?_
      refine ww_icmp_ne_n (tgt := 56) C dX3_beside_49 (by decide) (by omega) (by decide) (fun c_49 => ?_) (fun c_49 => ?_)
      · skip
        refine ww_iload_n C dX3_beside_56 rfl 3 rfl ?_
        refine ww_iconst C dX3_beside_57 cI_4 ?_
        refine ww_icmp_eq_n (tgt := 66) C dX3_beside_58 (by decide) (by omega) (by decide) (fun c_58 => ?_) (fun c_58 => ?_)
        · skip
          refine ww_iconst C dX3_beside_66 cI_m1 ?_
          refine ww_goto (tgt := 71) C dX3_beside_67 (by decide) ?_
          exact ww_st (st_i (by simp only [dyI]; split <;> first | rfl | (split <;> first | rfl | omega) | omega)) J71
        · skip
          refine ww_iload_n C dX3_beside_61 rfl 3 rfl ?_
          refine ww_iconst C dX3_beside_62 cI_5 ?_
          refine ww_icmp_ne_n (tgt := 70) C dX3_beside_63 (by decide) (by omega) (by decide) (fun c_63 => ?_) (fun c_63 => ?_)
          · skip
            refine ww_iconst C dX3_beside_70 cI_0 ?_
            exact ww_st (st_i (by simp only [dyI]; split <;> first | rfl | (split <;> first | rfl | omega) | omega)) J71
          · skip
            refine ww_iconst C dX3_beside_66 cI_m1 ?_
            refine ww_goto (tgt := 71) C dX3_beside_67 (by decide) ?_
            exact ww_st (st_i (by simp only [dyI]; split <;> first | rfl | (split <;> first | rfl | omega) | omega)) J71
      · skip
        refine ww_iconst C dX3_beside_52 cI_1 ?_
        refine ww_goto (tgt := 71) C dX3_beside_53 (by decide) ?_
        exact ww_st (st_i (by simp only [dyI]; split <;> first | rfl | (split <;> first | rfl | omega) | omega)) J71
  refine ww_iload_n C dX3_beside_0 rfl 1 rfl ?_
  refine ww_aload_n C dX3_beside_1 rfl 0 rfl rfl ?_
  refine gf_X3_9_X3 C dX3_beside_2 Hg rfl ?_
  refine ww_iremn C dX3_beside_5 (by omega) (by omega) (by omega) ?_
  have J34 : WW X (RdP z h (some (.int (besI (Bc B) (Br B) x e)))) z h 0 0 34 [(0, .ref g), (1, .int (nI x)), (2, .int (nI e))] [.int (dxI e), .int (nI (x % Bc B))] := by
    refine ww_iadd C dX3_beside_34 ?_
    refine ww_istore_n (lv' := [(3, .int ((nI (x % Bc B)) + (dxI e))), (0, .ref g), (1, .int (nI x)), (2, .int (nI e))]) C dX3_beside_35 rfl (by decide) rfl ?_
    exact K36
  refine ww_iload_n C dX3_beside_6 rfl 2 rfl ?_
  refine ww_if_eq_n (tgt := 15) C dX3_beside_7 (by decide) (by omega) (fun c_7 => ?_) (fun c_7 => ?_)
  · skip
    refine ww_iconst C dX3_beside_15 cI_1 ?_
    refine ww_goto (tgt := 34) C dX3_beside_16 (by decide) ?_
    exact ww_st (st_i (by simp only [dxI]; split <;> first | rfl | (split <;> first | rfl | omega) | omega)) J34
  · skip
    refine ww_iload_n C dX3_beside_10 rfl 2 rfl ?_
    refine ww_iconst C dX3_beside_11 cI_5 ?_
    refine ww_icmp_ne_n (tgt := 19) C dX3_beside_12 (by decide) (by omega) (by decide) (fun c_12 => ?_) (fun c_12 => ?_)
    · skip
      refine ww_iload_n C dX3_beside_19 rfl 2 rfl ?_
      refine ww_iconst C dX3_beside_20 cI_2 ?_
      refine ww_icmp_eq_n (tgt := 29) C dX3_beside_21 (by decide) (by omega) (by decide) (fun c_21 => ?_) (fun c_21 => ?_)
      · skip
        refine ww_iconst C dX3_beside_29 cI_m1 ?_
        refine ww_goto (tgt := 34) C dX3_beside_30 (by decide) ?_
        exact ww_st (st_i (by simp only [dxI]; split <;> first | rfl | (split <;> first | rfl | omega) | omega)) J34
      · skip
        refine ww_iload_n C dX3_beside_24 rfl 2 rfl ?_
        refine ww_iconst C dX3_beside_25 cI_3 ?_
        refine ww_icmp_ne_n (tgt := 33) C dX3_beside_26 (by decide) (by omega) (by decide) (fun c_26 => ?_) (fun c_26 => ?_)
        · skip
          refine ww_iconst C dX3_beside_33 cI_0 ?_
          exact ww_st (st_i (by simp only [dxI]; split <;> first | rfl | (split <;> first | rfl | omega) | omega)) J34
        · skip
          refine ww_iconst C dX3_beside_29 cI_m1 ?_
          refine ww_goto (tgt := 34) C dX3_beside_30 (by decide) ?_
          exact ww_st (st_i (by simp only [dxI]; split <;> first | rfl | (split <;> first | rfl | omega) | omega)) J34
    · skip
      refine ww_iconst C dX3_beside_15 cI_1 ?_
      refine ww_goto (tgt := 34) C dX3_beside_16 (by decide) ?_
      exact ww_st (st_i (by simp only [dxI]; split <;> first | rfl | (split <;> first | rfl | omega) | omega)) J34
set_option maxHeartbeats 2000000 in
theorem ct_X3_around {l : Launch} {Γ : Gm} (hl : l.flags = flags0) (hΓ : GOK Γ) {z : ZR} {h : AH} {g : Nat} {A : Nat → Nat} {B : GB} {rn dn : Int32} {x : Nat} (hG : GmP Γ z h g A B rn dn) (hB : BS B) (hx : x < 49) (hbl : ∀ x, Bl B x ≤ 16) : Ct l Γ yX3_around cX3_around 4 (some .int) 2 0 0 [.ref g, .int (nI x)] z h (RdP z h (some (.int (nI (arN B x))))) := by
  refine Ct.of hl hΓ (by decide +kernel) (Nat.le_of_ble_eq_true rfl) (fun X e1 e2 C => ?_)
  subst e1; subst e2
  have C : Cx X cX3_around 4 "RingDomino$Game" "around" (some .int) [] 2 := C
  obtain ⟨Hg, Hl, -⟩ := id hG
  obtain ⟨⟨c1, c2⟩, ⟨r1, r2⟩⟩ := id hB
  have hz := BS.z hB
  show WW X (RdP z h (some (.int (nI (arN B x))))) z h 0 0 0 [(0, .ref g), (1, .int (nI x))] []
  refine ww_iconst C dX3_around_0 cI_0 ?_
  refine ww_istore_n (lv' := [(2, .int (nI 0)), (0, .ref g), (1, .int (nI x))]) C dX3_around_1 rfl (by decide) rfl ?_
  refine ww_iconst C dX3_around_2 cI_0 ?_
  refine ww_istore_n (lv' := [(3, .int (nI 0)), (2, .int (nI 0)), (0, .ref g), (1, .int (nI x))]) C dX3_around_3 rfl (by decide) rfl ?_
  refine loop_up (N := 6) (M := fun j => WW X (RdP z h (some (.int (nI (arN B x))))) z h 0 0 4 [(3, .int (nI j)), (2, .int (nI (cnt (fun e => hasT B (bes (Bc B) (Br B) x e)) j))), (0, .ref g), (1, .int (nI x))] []) ?_ ?_ 0 (Nat.zero_le _)
  · show WW X (RdP z h (some (.int (nI (arN B x))))) z h 0 0 4 [(3, .int (nI 6)), (2, .int (nI (cnt (fun e => hasT B (bes (Bc B) (Br B) x e)) 6))), (0, .ref g), (1, .int (nI x))] []
    refine ww_iload_n C dX3_around_4 rfl 0 rfl ?_
    refine ww_bipush C dX3_around_5 cB_6 ?_
    refine ww_icmp_ge_t (tgt := 37) C dX3_around_7 (by decide) (nI_le (Nat.le_refl _) (by decide)) ?_
    refine ww_iload_n C dX3_around_37 rfl 1 rfl ?_
    exact ww_iret C dX3_around_38 (RdP.i rfl)
  · intro j hi ih
    show WW X (RdP z h (some (.int (nI (arN B x))))) z h 0 0 4 [(3, .int (nI j)), (2, .int (nI (cnt (fun e => hasT B (bes (Bc B) (Br B) x e)) j))), (0, .ref g), (1, .int (nI x))] []
    refine ww_iload_n C dX3_around_4 rfl 0 rfl ?_
    refine ww_bipush C dX3_around_5 cB_6 ?_
    refine ww_icmp_ge_f (tgt := 37) C dX3_around_7 (by decide) (nI_ge hi (by decide)) ?_
    refine ww_iload_n C dX3_around_10 rfl 1 rfl ?_
    refine ww_aload_n C dX3_around_11 rfl 2 rfl rfl ?_
    refine ww_aload_n C dX3_around_12 rfl 2 rfl rfl ?_
    refine ww_iload_n C dX3_around_13 rfl 3 rfl ?_
    refine ww_iload_n C dX3_around_14 rfl 0 rfl ?_
    refine cv_X3_68_r (As := [.int (nI x), .int (nI j)]) (rest := [.ref g, .int (nI (cnt (fun e => hasT B (bes (Bc B) (Br B) x e)) j))]) C dX3_around_15 (ct_X3_beside (Cx.fl C) (Cx.ok C) hG hB hx hi) (rc_X3 (Cx.ok C) Hg) rfl rfl (Nat.le_of_ble_eq_true rfl) (by decide) (Nat.zero_le _) (Nat.zero_le _) ?_
    refine cv_X3_64_r (As := [.int (oI (bes (Bc B) (Br B) x j))]) (rest := [.int (nI (cnt (fun e => hasT B (bes (Bc B) (Br B) x e)) j))]) C dX3_around_18 (ct_X3_hasTile (Cx.fl C) (Cx.ok C) hG hB (fun y q => Nat.lt_of_lt_of_le (bes_lt ⟨c1, c2⟩ ⟨r1, r2⟩ hx hi q) hz) hbl) (rc_X3 (Cx.ok C) Hg) rfl rfl (Nat.le_of_ble_eq_true rfl) (by decide) (Nat.zero_le _) (Nat.zero_le _) ?_
    refine ww_tern_eq_b C dX3_around_21 dX3_around_24 dX3_around_25 dX3_around_28 ?_
    refine ww_iaddb C dX3_around_29 ?_
    refine ww_istore_n (lv' := [(2, .int (nI ((cnt (fun e => hasT B (bes (Bc B) (Br B) x e)) j) + (if hasT B (bes (Bc B) (Br B) x j) then 1 else 0)))), (3, .int (nI j)), (0, .ref g), (1, .int (nI x))]) C dX3_around_30 rfl (by decide) rfl ?_
    refine ww_iinc (lv' := [(3, .int (nI (j + 1))), (2, .int (nI ((cnt (fun e => hasT B (bes (Bc B) (Br B) x e)) j) + (if hasT B (bes (Bc B) (Br B) x j) then 1 else 0)))), (0, .ref g), (1, .int (nI x))]) C dX3_around_31 1 rfl (inc_n _) (by decide) rfl ?_
    refine ww_goto (tgt := 4) C dX3_around_34 (by decide) ?_
    exact ih
set_option maxHeartbeats 2000000 in
theorem ct_X3_placed {l : Launch} {Γ : Gm} (hl : l.flags = flags0) (hΓ : GOK Γ) {z : ZR} {h : AH} {g : Nat} {A : Nat → Nat} {B : GB} {rn dn : Int32} (hG : GmP Γ z h g A B rn dn) (hB : BS B) (hbl : ∀ x, Bl B x ≤ 16) : Ct l Γ yX3_placed cX3_placed 3 (some .int) 2 0 0 [.ref g] z h (RdP z h (some (.int (nI (plN B))))) := by
  refine Ct.of hl hΓ (by decide +kernel) (Nat.le_of_ble_eq_true rfl) (fun X e1 e2 C => ?_)
  subst e1; subst e2
  have C : Cx X cX3_placed 3 "RingDomino$Game" "placed" (some .int) [] 2 := C
  obtain ⟨Hg, Hl, -⟩ := id hG
  obtain ⟨⟨c1, c2⟩, ⟨r1, r2⟩⟩ := id hB
  have hz := BS.z hB
  show WW X (RdP z h (some (.int (nI (plN B))))) z h 0 0 0 [(0, .ref g)] []
  refine ww_iconst C dX3_placed_0 cI_0 ?_
  refine ww_istore_n (lv' := [(1, .int (nI 0)), (0, .ref g)]) C dX3_placed_1 rfl (by decide) rfl ?_
  refine ww_iconst C dX3_placed_2 cI_0 ?_
  refine ww_istore_n (lv' := [(2, .int (nI 0)), (1, .int (nI 0)), (0, .ref g)]) C dX3_placed_3 rfl (by decide) rfl ?_
  refine loop_up (N := (Bz B)) (M := fun j => WW X (RdP z h (some (.int (nI (plN B))))) z h 0 0 4 [(2, .int (nI j)), (1, .int (nI (cnt (fun x => hasT B (some x)) j))), (0, .ref g)] []) ?_ ?_ 0 (Nat.zero_le _)
  · show WW X (RdP z h (some (.int (nI (plN B))))) z h 0 0 4 [(2, .int (nI (Bz B))), (1, .int (nI (cnt (fun x => hasT B (some x)) (Bz B)))), (0, .ref g)] []
    refine ww_iload_n C dX3_placed_4 rfl 0 rfl ?_
    refine ww_aload_n C dX3_placed_5 rfl 2 rfl rfl ?_
    refine cv_X3_62_r (As := []) (rest := [.int (nI (Bz B))]) C dX3_placed_6 (ct_X3_cells (Cx.fl C) (Cx.ok C) hG hB) (rc_X3 (Cx.ok C) Hg) rfl rfl (Nat.le_of_ble_eq_true rfl) (by decide) (Nat.zero_le _) (Nat.zero_le _) ?_
    refine ww_icmp_ge_t (tgt := 34) C dX3_placed_9 (by decide) (nI_le (Nat.le_refl _) (by omega)) ?_
    refine ww_iload_n C dX3_placed_34 rfl 1 rfl ?_
    exact ww_iret C dX3_placed_35 (RdP.i (by rfl))
  · intro j hi ih
    show WW X (RdP z h (some (.int (nI (plN B))))) z h 0 0 4 [(2, .int (nI j)), (1, .int (nI (cnt (fun x => hasT B (some x)) j))), (0, .ref g)] []
    skip
    refine ww_iload_n C dX3_placed_4 rfl 0 rfl ?_
    refine ww_aload_n C dX3_placed_5 rfl 2 rfl rfl ?_
    refine cv_X3_62_r (As := []) (rest := [.int (nI j)]) C dX3_placed_6 (ct_X3_cells (Cx.fl C) (Cx.ok C) hG hB) (rc_X3 (Cx.ok C) Hg) rfl rfl (Nat.le_of_ble_eq_true rfl) (by decide) (Nat.zero_le _) (Nat.zero_le _) ?_
    refine ww_icmp_ge_f (tgt := 34) C dX3_placed_9 (by decide) (nI_ge hi (by omega)) ?_
    refine ww_iload_n C dX3_placed_12 rfl 1 rfl ?_
    refine ww_aload_n C dX3_placed_13 rfl 2 rfl rfl ?_
    refine ww_iload_n C dX3_placed_14 rfl 0 rfl ?_
    refine cv_X3_64_r (As := [.int (nI j)]) (rest := [.int (nI (cnt (fun x => hasT B (some x)) j))]) C dX3_placed_15 (ct_X3_hasTile (Cx.fl C) (Cx.ok C) hG hB (o := some j) (fun y q => by cases q; omega) hbl) (rc_X3 (Cx.ok C) Hg) rfl rfl (Nat.le_of_ble_eq_true rfl) (by decide) (Nat.zero_le _) (Nat.zero_le _) ?_
    refine ww_tern_eq_b C dX3_placed_18 dX3_placed_21 dX3_placed_22 dX3_placed_25 ?_
    refine ww_iaddb C dX3_placed_26 ?_
    refine ww_istore_n (lv' := [(1, .int (nI ((cnt (fun x => hasT B (some x)) j) + (if hasT B (some j) then 1 else 0)))), (2, .int (nI j)), (0, .ref g)]) C dX3_placed_27 rfl (by decide) rfl ?_
    refine ww_iinc (lv' := [(2, .int (nI (j + 1))), (1, .int (nI ((cnt (fun x => hasT B (some x)) j) + (if hasT B (some j) then 1 else 0)))), (0, .ref g)]) C dX3_placed_28 1 rfl (inc_n _) (by decide) rfl ?_
    refine ww_goto (tgt := 4) C dX3_placed_31 (by decide) ?_
    exact ih
set_option maxHeartbeats 2000000 in
theorem ct_X3_matchesOf {l : Launch} {Γ : Gm} (hl : l.flags = flags0) (hΓ : GOK Γ) {z : ZR} {h : AH} {g : Nat} {A : Nat → Nat} {B : GB} {rn dn : Int32} {x : Nat} (hG : GmP Γ z h g A B rn dn) (hB : BS B) (hx : x < 49) (hbl : ∀ x, Bl B x ≤ 16) : Ct l Γ yX3_matchesOf cX3_matchesOf 2 (some .int) 3 0 0 [.ref g, .int (nI x)] z h (RdP z h (some (.int (nI (moN B x))))) := by
  refine Ct.of hl hΓ (by decide +kernel) (Nat.le_of_ble_eq_true rfl) (fun X e1 e2 C => ?_)
  subst e1; subst e2
  have C : Cx X cX3_matchesOf 2 "RingDomino$Game" "matchesOf" (some .int) [] 3 := C
  obtain ⟨Hg, Hl, -⟩ := id hG
  obtain ⟨⟨c1, c2⟩, ⟨r1, r2⟩⟩ := id hB
  have hz := BS.z hB
  show WW X (RdP z h (some (.int (nI (moN B x))))) z h 0 0 0 [(0, .ref g), (1, .int (nI x))] []
  refine ww_aload_n C dX3_matchesOf_0 rfl 0 rfl rfl ?_
  refine ww_iload_n C dX3_matchesOf_1 rfl 1 rfl ?_
  refine cv_X3_64_r (As := [.int (nI x)]) (rest := []) C dX3_matchesOf_2 (ct_X3_hasTile (Cx.fl C) (Cx.ok C) hG hB (o := some x) (fun y q => by cases q; omega) hbl) (rc_X3 (Cx.ok C) Hg) rfl rfl (Nat.le_of_ble_eq_true rfl) (by decide) (Nat.zero_le _) (Nat.zero_le _) ?_
  refine ww_if_eq_b (tgt := 16) C dX3_matchesOf_5 (by decide) (fun c_5 => ?_) (fun c_5 => ?_)
  · skip
    refine ww_iconst C dX3_matchesOf_16 cI_0 ?_
    exact ww_iret C dX3_matchesOf_17 (RdP.i (by unfold moN; rw [c_5]; try rfl))
  · skip
    refine ww_aload_n C dX3_matchesOf_8 rfl 0 rfl rfl ?_
    refine ww_iload_n C dX3_matchesOf_9 rfl 1 rfl ?_
    refine cv_X3_77_r (As := [.int (nI x)]) (rest := []) C dX3_matchesOf_10 (ct_X3_around (Cx.fl C) (Cx.ok C) hG hB hx hbl) (rc_X3 (Cx.ok C) Hg) rfl rfl (Nat.le_of_ble_eq_true rfl) (by decide) (Nat.zero_le _) (Nat.zero_le _) ?_
    refine ww_goto (tgt := 17) C dX3_matchesOf_13 (by decide) ?_
    exact ww_iret C dX3_matchesOf_17 (RdP.i (by unfold moN; rw [c_5]; try rfl))
set_option maxHeartbeats 2000000 in
theorem ct_X3_matches {l : Launch} {Γ : Gm} (hl : l.flags = flags0) (hΓ : GOK Γ) {z : ZR} {h : AH} {g : Nat} {A : Nat → Nat} {B : GB} {rn dn : Int32} (hG : GmP Γ z h g A B rn dn) (hB : BS B) (hbl : ∀ x, Bl B x ≤ 16) : Ct l Γ yX3_matches cX3_matches 3 (some .int) 4 0 0 [.ref g] z h (RdP z h (some (.int (nI (maN B))))) := by
  refine Ct.of hl hΓ (by decide +kernel) (Nat.le_of_ble_eq_true rfl) (fun X e1 e2 C => ?_)
  subst e1; subst e2
  have C : Cx X cX3_matches 3 "RingDomino$Game" "matches" (some .int) [] 4 := C
  obtain ⟨Hg, Hl, -⟩ := id hG
  obtain ⟨⟨c1, c2⟩, ⟨r1, r2⟩⟩ := id hB
  have hz := BS.z hB
  show WW X (RdP z h (some (.int (nI (maN B))))) z h 0 0 0 [(0, .ref g)] []
  refine ww_iconst C dX3_matches_0 cI_0 ?_
  refine ww_istore_n (lv' := [(1, .int (nI 0)), (0, .ref g)]) C dX3_matches_1 rfl (by decide) rfl ?_
  refine ww_iconst C dX3_matches_2 cI_0 ?_
  refine ww_istore_n (lv' := [(2, .int (nI 0)), (1, .int (nI 0)), (0, .ref g)]) C dX3_matches_3 rfl (by decide) rfl ?_
  refine loop_up (N := (Bz B)) (M := fun j => WW X (RdP z h (some (.int (nI (maN B))))) z h 0 0 4 [(2, .int (nI j)), (1, .int (nI (sumN (moN B) j))), (0, .ref g)] []) ?_ ?_ 0 (Nat.zero_le _)
  · show WW X (RdP z h (some (.int (nI (maN B))))) z h 0 0 4 [(2, .int (nI (Bz B))), (1, .int (nI (sumN (moN B) (Bz B)))), (0, .ref g)] []
    refine ww_iload_n C dX3_matches_4 rfl 0 rfl ?_
    refine ww_aload_n C dX3_matches_5 rfl 2 rfl rfl ?_
    refine cv_X3_62_r (As := []) (rest := [.int (nI (Bz B))]) C dX3_matches_6 (ct_X3_cells (Cx.fl C) (Cx.ok C) hG hB) (rc_X3 (Cx.ok C) Hg) rfl rfl (Nat.le_of_ble_eq_true rfl) (by decide) (Nat.zero_le _) (Nat.zero_le _) ?_
    have hsum := sumN_le (moN_le B) (Bz B)
    refine ww_icmp_ge_t (tgt := 26) C dX3_matches_9 (by decide) (nI_le (Nat.le_refl _) (by omega)) ?_
    refine ww_iload_n C dX3_matches_26 rfl 1 rfl ?_
    refine ww_iconst C dX3_matches_27 cI_2 ?_
    refine ww_idivn C dX3_matches_28 (by omega) (by decide) (by decide) ?_
    exact ww_iret C dX3_matches_29 (RdP.i (by rfl))
  · intro j hi ih
    show WW X (RdP z h (some (.int (nI (maN B))))) z h 0 0 4 [(2, .int (nI j)), (1, .int (nI (sumN (moN B) j))), (0, .ref g)] []
    skip
    refine ww_iload_n C dX3_matches_4 rfl 0 rfl ?_
    refine ww_aload_n C dX3_matches_5 rfl 2 rfl rfl ?_
    refine cv_X3_62_r (As := []) (rest := [.int (nI j)]) C dX3_matches_6 (ct_X3_cells (Cx.fl C) (Cx.ok C) hG hB) (rc_X3 (Cx.ok C) Hg) rfl rfl (Nat.le_of_ble_eq_true rfl) (by decide) (Nat.zero_le _) (Nat.zero_le _) ?_
    refine ww_icmp_ge_f (tgt := 26) C dX3_matches_9 (by decide) (nI_ge hi (by omega)) ?_
    refine ww_iload_n C dX3_matches_12 rfl 1 rfl ?_
    refine ww_aload_n C dX3_matches_13 rfl 2 rfl rfl ?_
    refine ww_iload_n C dX3_matches_14 rfl 0 rfl ?_
    refine cv_X3_127_r (As := [.int (nI j)]) (rest := [.int (nI (sumN (moN B) j))]) C dX3_matches_15 (ct_X3_matchesOf (Cx.fl C) (Cx.ok C) hG hB (by omega) hbl) (rc_X3 (Cx.ok C) Hg) rfl rfl (Nat.le_of_ble_eq_true rfl) (by decide) (Nat.zero_le _) (Nat.zero_le _) ?_
    refine ww_iaddn C dX3_matches_18 ?_
    refine ww_istore_n (lv' := [(1, .int (nI ((sumN (moN B) j) + (moN B j)))), (2, .int (nI j)), (0, .ref g)]) C dX3_matches_19 rfl (by decide) rfl ?_
    refine ww_iinc (lv' := [(2, .int (nI (j + 1))), (1, .int (nI ((sumN (moN B) j) + (moN B j)))), (0, .ref g)]) C dX3_matches_20 1 rfl (inc_n _) (by decide) rfl ?_
    refine ww_goto (tgt := 4) C dX3_matches_23 (by decide) ?_
    exact ih
set_option maxHeartbeats 2000000 in
theorem ct_X3_isRing {l : Launch} {Γ : Gm} (hl : l.flags = flags0) (hΓ : GOK Γ) {z : ZR} {h : AH} {g : Nat} {A : Nat → Nat} {B : GB} {rn dn : Int32} {x : Nat} (hG : GmP Γ z h g A B rn dn) (hB : BS B) (hx : x < 49) (hbl : ∀ x, Bl B x ≤ 16) : Ct l Γ yX3_isRing cX3_isRing 2 (some .boolean) 3 0 0 [.ref g, .int (nI x)] z h (RdP z h (some (.int (bI (riN B x))))) := by
  refine Ct.of hl hΓ (by decide +kernel) (Nat.le_of_ble_eq_true rfl) (fun X e1 e2 C => ?_)
  subst e1; subst e2
  have C : Cx X cX3_isRing 2 "RingDomino$Game" "isRing" (some .boolean) [] 3 := C
  obtain ⟨Hg, Hl, -⟩ := id hG
  obtain ⟨⟨c1, c2⟩, ⟨r1, r2⟩⟩ := id hB
  have hz := BS.z hB
  show WW X (RdP z h (some (.int (bI (riN B x))))) z h 0 0 0 [(0, .ref g), (1, .int (nI x))] []
  have har := arN_le B x
  refine ww_aload_n C dX3_isRing_0 rfl 0 rfl rfl ?_
  refine ww_iload_n C dX3_isRing_1 rfl 1 rfl ?_
  refine cv_X3_77_r (As := [.int (nI x)]) (rest := []) C dX3_isRing_2 (ct_X3_around (Cx.fl C) (Cx.ok C) hG hB hx hbl) (rc_X3 (Cx.ok C) Hg) rfl rfl (Nat.le_of_ble_eq_true rfl) (by decide) (Nat.zero_le _) (Nat.zero_le _) ?_
  refine ww_bipush C dX3_isRing_5 cB_6 ?_
  refine ww_tern_icmp_ne_n C dX3_isRing_7 dX3_isRing_10 dX3_isRing_11 dX3_isRing_14 (by omega) (by decide) ?_
  exact ww_zret C dX3_isRing_15 (nar_bI _) (RdP.i (by rfl))
set_option maxHeartbeats 2000000 in
theorem ct_X3_rings {l : Launch} {Γ : Gm} (hl : l.flags = flags0) (hΓ : GOK Γ) {z : ZR} {h : AH} {g : Nat} {A : Nat → Nat} {B : GB} {rn dn : Int32} (hG : GmP Γ z h g A B rn dn) (hB : BS B) (hbl : ∀ x, Bl B x ≤ 16) : Ct l Γ yX3_rings cX3_rings 3 (some .int) 4 0 0 [.ref g] z h (RdP z h (some (.int (nI (rgN B))))) := by
  refine Ct.of hl hΓ (by decide +kernel) (Nat.le_of_ble_eq_true rfl) (fun X e1 e2 C => ?_)
  subst e1; subst e2
  have C : Cx X cX3_rings 3 "RingDomino$Game" "rings" (some .int) [] 4 := C
  obtain ⟨Hg, Hl, -⟩ := id hG
  obtain ⟨⟨c1, c2⟩, ⟨r1, r2⟩⟩ := id hB
  have hz := BS.z hB
  show WW X (RdP z h (some (.int (nI (rgN B))))) z h 0 0 0 [(0, .ref g)] []
  refine ww_iconst C dX3_rings_0 cI_0 ?_
  refine ww_istore_n (lv' := [(1, .int (nI 0)), (0, .ref g)]) C dX3_rings_1 rfl (by decide) rfl ?_
  refine ww_iconst C dX3_rings_2 cI_0 ?_
  refine ww_istore_n (lv' := [(2, .int (nI 0)), (1, .int (nI 0)), (0, .ref g)]) C dX3_rings_3 rfl (by decide) rfl ?_
  refine loop_up (N := (Bz B)) (M := fun j => WW X (RdP z h (some (.int (nI (rgN B))))) z h 0 0 4 [(2, .int (nI j)), (1, .int (nI (cnt (riN B) j))), (0, .ref g)] []) ?_ ?_ 0 (Nat.zero_le _)
  · show WW X (RdP z h (some (.int (nI (rgN B))))) z h 0 0 4 [(2, .int (nI (Bz B))), (1, .int (nI (cnt (riN B) (Bz B)))), (0, .ref g)] []
    refine ww_iload_n C dX3_rings_4 rfl 0 rfl ?_
    refine ww_aload_n C dX3_rings_5 rfl 2 rfl rfl ?_
    refine cv_X3_62_r (As := []) (rest := [.int (nI (Bz B))]) C dX3_rings_6 (ct_X3_cells (Cx.fl C) (Cx.ok C) hG hB) (rc_X3 (Cx.ok C) Hg) rfl rfl (Nat.le_of_ble_eq_true rfl) (by decide) (Nat.zero_le _) (Nat.zero_le _) ?_
    refine ww_icmp_ge_t (tgt := 34) C dX3_rings_9 (by decide) (nI_le (Nat.le_refl _) (by omega)) ?_
    refine ww_iload_n C dX3_rings_34 rfl 1 rfl ?_
    exact ww_iret C dX3_rings_35 (RdP.i (by rfl))
  · intro j hi ih
    show WW X (RdP z h (some (.int (nI (rgN B))))) z h 0 0 4 [(2, .int (nI j)), (1, .int (nI (cnt (riN B) j))), (0, .ref g)] []
    skip
    refine ww_iload_n C dX3_rings_4 rfl 0 rfl ?_
    refine ww_aload_n C dX3_rings_5 rfl 2 rfl rfl ?_
    refine cv_X3_62_r (As := []) (rest := [.int (nI j)]) C dX3_rings_6 (ct_X3_cells (Cx.fl C) (Cx.ok C) hG hB) (rc_X3 (Cx.ok C) Hg) rfl rfl (Nat.le_of_ble_eq_true rfl) (by decide) (Nat.zero_le _) (Nat.zero_le _) ?_
    refine ww_icmp_ge_f (tgt := 34) C dX3_rings_9 (by decide) (nI_ge hi (by omega)) ?_
    refine ww_iload_n C dX3_rings_12 rfl 1 rfl ?_
    refine ww_aload_n C dX3_rings_13 rfl 2 rfl rfl ?_
    refine ww_iload_n C dX3_rings_14 rfl 0 rfl ?_
    refine cv_X3_130_r (As := [.int (nI j)]) (rest := [.int (nI (cnt (riN B) j))]) C dX3_rings_15 (ct_X3_isRing (Cx.fl C) (Cx.ok C) hG hB (by omega) hbl) (rc_X3 (Cx.ok C) Hg) rfl rfl (Nat.le_of_ble_eq_true rfl) (by decide) (Nat.zero_le _) (Nat.zero_le _) ?_
    refine ww_tern_eq_b C dX3_rings_18 dX3_rings_21 dX3_rings_22 dX3_rings_25 ?_
    refine ww_iaddb C dX3_rings_26 ?_
    refine ww_istore_n (lv' := [(1, .int (nI ((cnt (riN B) j) + (if riN B j then 1 else 0)))), (2, .int (nI j)), (0, .ref g)]) C dX3_rings_27 rfl (by decide) rfl ?_
    refine ww_iinc (lv' := [(2, .int (nI (j + 1))), (1, .int (nI ((cnt (riN B) j) + (if riN B j then 1 else 0)))), (0, .ref g)]) C dX3_rings_28 1 rfl (inc_n _) (by decide) rfl ?_
    refine ww_goto (tgt := 4) C dX3_rings_31 (by decide) ?_
    exact ih
end GA1
