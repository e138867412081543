section JD1
set_option maxRecDepth 100000
set_option maxHeartbeats 2000000 in
theorem ct_J17_checkIndex {l : Launch} {Γ : Gm} (hl : l.flags = flags0) (hΓ : GOK Γ) {z : ZR} {h : AH} {j m : Nat} (hj : j < m) (hm : m < 2 ^ 31) : Ct l Γ yJ17_checkIndex cJ17_checkIndex 3 (some .int) 1 0 0 [.int (nI j), .int (nI m), .null] z h (RdP z h (some (.int (nI j)))) := by
  refine Ct.of hl hΓ (by decide +kernel) (Nat.le_of_ble_eq_true rfl) (fun X e1 e2 C => ?_)
  subst e1; subst e2
  have C : Cx X cJ17_checkIndex 3 "jdk/internal/util/Preconditions" "checkIndex" (some .int) [] 1 := C
  show WW X (RdP z h (some (.int (nI j)))) z h 0 0 0 [(0, .int (nI j)), (1, .int (nI m)), (2, .null)] []
  refine ww_iload_n C dJ17_checkIndex_0 rfl 0 rfl ?_
  refine ww_if_lt_n (tgt := 9) C dJ17_checkIndex_1 (by decide) (by omega) ?_
  refine ww_iload_n C dJ17_checkIndex_4 rfl 0 rfl ?_
  refine ww_iload_n C dJ17_checkIndex_5 rfl 1 rfl ?_
  refine ww_icmp_lt_t (tgt := 16) C dJ17_checkIndex_6 (by decide) (nI_lt hj hm) ?_
  refine ww_iload_n C dJ17_checkIndex_16 rfl 0 rfl ?_
  exact ww_iret C dJ17_checkIndex_17 (RdP.i rfl)
set_option maxHeartbeats 2000000 in
theorem ct_J23_checkIndex {l : Launch} {Γ : Gm} (hl : l.flags = flags0) (hΓ : GOK Γ) {z : ZR} {h : AH} {j m : Nat} (hj : j < m) (hm : m < 2 ^ 31) : Ct l Γ yJ23_checkIndex cJ23_checkIndex 2 (some .int) 2 0 0 [.int (nI j), .int (nI m)] z h (RdP z h (some (.int (nI j)))) := by
  refine Ct.of hl hΓ (by decide +kernel) (Nat.le_of_ble_eq_true rfl) (fun X e1 e2 C => ?_)
  subst e1; subst e2
  have C : Cx X cJ23_checkIndex 2 "java/util/Objects" "checkIndex" (some .int) [] 2 := C
  show WW X (RdP z h (some (.int (nI j)))) z h 0 0 0 [(0, .int (nI j)), (1, .int (nI m))] []
  refine ww_iload_n C dJ23_checkIndex_0 rfl 0 rfl ?_
  refine ww_iload_n C dJ23_checkIndex_1 rfl 1 rfl ?_
  refine ww_null C dJ23_checkIndex_2 ?_
  refine cs_J23_105_r (As := [.int (nI j), .int (nI m), .null]) (rest := []) C dJ23_checkIndex_3 (ct_J17_checkIndex (Cx.fl C) (Cx.ok C) hj hm) rfl rfl (Nat.le_of_ble_eq_true rfl) (by decide) (Nat.zero_le _) (Nat.zero_le _) ?_
  exact ww_iret C dJ23_checkIndex_6 (RdP.i rfl)
set_option maxHeartbeats 2000000 in
theorem ct_J23_requireNonNull {l : Launch} {Γ : Gm} (hl : l.flags = flags0) (hΓ : GOK Γ) {z : ZR} {h : AH} {a : Nat}  : Ct l Γ yJ23_requireNonNull cJ23_requireNonNull 1 (some (.object "java/lang/Object")) 1 0 0 [.ref a] z h (RdP z h (some (.ref a))) := by
  refine Ct.of hl hΓ (by decide +kernel) (Nat.le_of_ble_eq_true rfl) (fun X e1 e2 C => ?_)
  subst e1; subst e2
  have C : Cx X cJ23_requireNonNull 1 "java/util/Objects" "requireNonNull" (some (.object "java/lang/Object")) [] 1 := C
  show WW X (RdP z h (some (.ref a))) z h 0 0 0 [(0, .ref a)] []
  refine ww_aload_n C dJ23_requireNonNull_0 rfl 0 rfl rfl ?_
  refine ww_ifnonnull_t (tgt := 12) C dJ23_requireNonNull_1 (by decide) ?_
  refine ww_aload_n C dJ23_requireNonNull_12 rfl 0 rfl rfl ?_
  exact ww_aret C (Or.inl ⟨_, rfl⟩) dJ23_requireNonNull_13 rfl (RdP.v rfl)
set_option maxHeartbeats 2000000 in
theorem ct_J2_size {l : Launch} {Γ : Gm} (hl : l.flags = flags0) (hΓ : GOK Γ) {z : ZR} {h : AH} {a arr m : Nat} {xs : Nat → Nat} (hL : ALp Γ z h a arr m xs) : Ct l Γ yJ2_size cJ2_size 1 (some .int) 1 0 0 [.ref a] z h (RdP z h (some (.int (nI m)))) := by
  refine Ct.of hl hΓ (by decide +kernel) (Nat.le_of_ble_eq_true rfl) (fun X e1 e2 C => ?_)
  subst e1; subst e2
  have C : Cx X cJ2_size 1 "java/util/ArrayList" "size" (some .int) [] 1 := C
  obtain ⟨md, cap, f, Ha, Hr, hmc, hcap, hf⟩ := id hL
  show WW X (RdP z h (some (.int (nI m)))) z h 0 0 0 [(0, .ref a)] []
  refine ww_aload_n C dJ2_size_0 rfl 0 rfl rfl ?_
  refine gf_J2_48_J2 C dJ2_size_1 Ha rfl ?_
  exact ww_iret C dJ2_size_4 (RdP.i rfl)
set_option maxHeartbeats 2000000 in
theorem ct_J2_elementData {l : Launch} {Γ : Gm} (hl : l.flags = flags0) (hΓ : GOK Γ) {z : ZR} {h : AH} {a arr m : Nat} {xs : Nat → Nat} {j : Nat} (hL : ALp Γ z h a arr m xs) (hj : j < m) : Ct l Γ yJ2_elementData cJ2_elementData 2 (some (.object "java/lang/Object")) 1 0 0 [.ref a, .int (nI j)] z h (RdP z h (some (.ref (xs j)))) := by
  refine Ct.of hl hΓ (by decide +kernel) (Nat.le_of_ble_eq_true rfl) (fun X e1 e2 C => ?_)
  subst e1; subst e2
  have C : Cx X cJ2_elementData 2 "java/util/ArrayList" "elementData" (some (.object "java/lang/Object")) [] 1 := C
  obtain ⟨md, cap, f, Ha, Hr, hmc, hcap, hf⟩ := id hL
  have hfj := hf j hj
  show WW X (RdP z h (some (.ref (xs j)))) z h 0 0 0 [(0, .ref a), (1, .int (nI j))] []
  refine ww_aload_n C dJ2_elementData_0 rfl 0 rfl rfl ?_
  refine gf_J2_9_J2 C dJ2_elementData_1 Ha rfl ?_
  refine ww_iload_n C dJ2_elementData_4 rfl 1 rfl ?_
  refine ww_aald (t := 4) C dJ2_elementData_5 (by decide) rfl Hr (by omega) (by omega) ?_
  exact ww_aret C (Or.inl ⟨_, rfl⟩) dJ2_elementData_6 (va_rf_isRef _) (RdP.v (by rw [hfj]; try rfl))
set_option maxHeartbeats 2000000 in
theorem ct_J2_get {l : Launch} {Γ : Gm} (hl : l.flags = flags0) (hΓ : GOK Γ) {z : ZR} {h : AH} {a arr m : Nat} {xs : Nat → Nat} {j : Nat} (hL : ALp Γ z h a arr m xs) (hj : j < m) : Ct l Γ yJ2_get cJ2_get 2 (some (.object "java/lang/Object")) 3 0 0 [.ref a, .int (nI j)] z h (RdP z h (some (.ref (xs j)))) := by
  refine Ct.of hl hΓ (by decide +kernel) (Nat.le_of_ble_eq_true rfl) (fun X e1 e2 C => ?_)
  subst e1; subst e2
  have C : Cx X cJ2_get 2 "java/util/ArrayList" "get" (some (.object "java/lang/Object")) [] 3 := C
  obtain ⟨md, cap, f, Ha, Hr, hmc, hcap, hf⟩ := id hL
  show WW X (RdP z h (some (.ref (xs j)))) z h 0 0 0 [(0, .ref a), (1, .int (nI j))] []
  refine ww_iload_n C dJ2_get_0 rfl 1 rfl ?_
  refine ww_aload_n C dJ2_get_1 rfl 0 rfl rfl ?_
  refine gf_J2_48_J2 C dJ2_get_2 Ha rfl ?_
  refine cs_J2_118_r (As := [.int (nI j), .int (nI m)]) (rest := []) C dJ2_get_5 (ct_J23_checkIndex (Cx.fl C) (Cx.ok C) hj (by omega)) rfl rfl (Nat.le_of_ble_eq_true rfl) (by decide) (Nat.zero_le _) (Nat.zero_le _) ?_
  refine ww_pop C dJ2_get_8 rfl ?_
  refine ww_aload_n C dJ2_get_9 rfl 0 rfl rfl ?_
  refine ww_iload_n C dJ2_get_10 rfl 1 rfl ?_
  refine cv_J2_123_r (As := [.int (nI j)]) (rest := []) C dJ2_get_11 (ct_J2_elementData (Cx.fl C) (Cx.ok C) hL hj) (rc_J2 (Cx.ok C) Ha) rfl rfl (Nat.le_of_ble_eq_true rfl) (by decide) (Nat.zero_le _) (Nat.zero_le _) ?_
  exact ww_aret C (Or.inl ⟨_, rfl⟩) dJ2_get_14 rfl (RdP.v rfl)
set_option maxHeartbeats 2000000 in
theorem ct_J19_intValue {l : Launch} {Γ : Gm} (hl : l.flags = flags0) (hΓ : GOK Γ) {z : ZR} {h : AH} {a : Nat} {x : Int32} (Ha : rd z h a (.inr (26, [.int x]))) : Ct l Γ yJ19_intValue cJ19_intValue 1 (some .int) 1 0 0 [.ref a] z h (RdP z h (some (.int x))) := by
  refine Ct.of hl hΓ (by decide +kernel) (Nat.le_of_ble_eq_true rfl) (fun X e1 e2 C => ?_)
  subst e1; subst e2
  have C : Cx X cJ19_intValue 1 "java/lang/Integer" "intValue" (some .int) [] 1 := C
  show WW X (RdP z h (some (.int x))) z h 0 0 0 [(0, .ref a)] []
  refine ww_aload_n C dJ19_intValue_0 rfl 0 rfl rfl ?_
  refine gf_J19_205_J19 C dJ19_intValue_1 Ha rfl ?_
  exact ww_iret C dJ19_intValue_4 (RdP.i rfl)
set_option maxHeartbeats 2000000 in
theorem ct_J19_valueOf {l : Launch} {Γ : Gm} (hl : l.flags = flags0) (hΓ : GOK Γ) {z : ZR} {h : AH} {x : Int32} (hz : zle (cst Γ) z) (h1 : ¬ x < -128) (h2 : ¬ 127 < x) : Ct l Γ yJ19_valueOf cJ19_valueOf 1 (some (.object "java/lang/Integer")) 1 0 0 [.int x] z h (RdP z h (some (.ref (bxA Γ x)))) := by
  refine Ct.of hl hΓ (by decide +kernel) (Nat.le_of_ble_eq_true rfl) (fun X e1 e2 C => ?_)
  subst e1; subst e2
  have C : Cx X cJ19_valueOf 1 "java/lang/Integer" "valueOf" (some (.object "java/lang/Integer")) [] 1 := C
  obtain ⟨j, hj, e1, e2⟩ := bx_small h1 h2
  have Hc : rd z h (gE (xG X) 36) (.inl (gA (xG X) 7, (256, refs (fun k => some (gE (xG X) (1000 + k)))))) := Or.inr (hz _ _ (Or.inr (Or.inl ⟨rfl, rfl⟩)))
  show WW X (RdP z h (some (.ref (bxA (xG X) x)))) z h 0 0 0 [(0, .int x)] []
  refine ww_iload_n C dJ19_valueOf_0 rfl 0 rfl ?_
  refine ww_bipush C dJ19_valueOf_1 cB_m128 ?_
  refine ww_icmp_lt_f (tgt := 23) C dJ19_valueOf_3 (by decide) h1 ?_
  refine ww_iload_n C dJ19_valueOf_6 rfl 0 rfl ?_
  refine ww_gsv C (si_11 (Cx.ok C)) q1564 (fun _ q => q) dJ19_valueOf_7 ?_
  refine ww_icmp_gt_f (tgt := 23) C dJ19_valueOf_10 (by decide) h2 ?_
  refine ww_gsv C (sv_36 (Cx.ok C)) q1566 (fun _ q => q) dJ19_valueOf_13 ?_
  refine ww_iload_n C dJ19_valueOf_16 rfl 0 rfl ?_
  refine ww_sipush C dJ19_valueOf_17 cS_128 ?_
  refine ww_iadd C dJ19_valueOf_20 ?_
  refine ww_st (st' := [.int (nI j), .ref (gE (xG X) 36)]) (by rw [show x + nI 128 = nI j from e1]) ?_
  refine ww_aald (t := 7) C dJ19_valueOf_21 (by decide) rfl Hc (by omega) (by decide) ?_
  exact ww_aret C (Or.inl ⟨_, rfl⟩) dJ19_valueOf_22 rfl (RdP.v (by unfold bxA; rw [e1, nI_clamp (by omega)]; try rfl))
set_option maxHeartbeats 2000000 in
theorem ct_J31_isPresent {l : Launch} {Γ : Gm} (hl : l.flags = flags0) (hΓ : GOK Γ) {z : ZR} {h : AH} {a : Nat} {o : Option Nat} (Ha : rd z h a (.inr (30, [va_rf o]))) : Ct l Γ yJ31_isPresent cJ31_isPresent 1 (some .boolean) 1 0 0 [.ref a] z h (RdP z h (some (.int (bI o.isSome)))) := by
  refine Ct.of hl hΓ (by decide +kernel) (Nat.le_of_ble_eq_true rfl) (fun X e1 e2 C => ?_)
  subst e1; subst e2
  have C : Cx X cJ31_isPresent 1 "java/util/Optional" "isPresent" (some .boolean) [] 1 := C
  show WW X (RdP z h (some (.int (bI o.isSome)))) z h 0 0 0 [(0, .ref a)] []
  cases o with
  | none =>
    refine ww_aload_n C dJ31_isPresent_0 rfl 0 rfl rfl ?_
    refine gf_J31_13_J31 C dJ31_isPresent_1 Ha rfl ?_
    refine ww_ifnull_t (tgt := 11) C dJ31_isPresent_4 (by decide) ?_
    refine ww_iconst C dJ31_isPresent_11 cI_0 ?_
    exact ww_zret C dJ31_isPresent_12 nar_z0 (RdP.i (by rfl))
  | some x =>
    refine ww_aload_n C dJ31_isPresent_0 rfl 0 rfl rfl ?_
    refine gf_J31_13_J31 C dJ31_isPresent_1 Ha rfl ?_
    refine ww_ifnull_f C dJ31_isPresent_4 ?_
    refine ww_iconst C dJ31_isPresent_7 cI_1 ?_
    refine ww_goto (tgt := 12) C dJ31_isPresent_8 (by decide) ?_
    exact ww_zret C dJ31_isPresent_12 nar_z1 (RdP.i (by rfl))
set_option maxHeartbeats 2000000 in
theorem ct_J31_get {l : Launch} {Γ : Gm} (hl : l.flags = flags0) (hΓ : GOK Γ) {z : ZR} {h : AH} {a x : Nat} (Ha : rd z h a (.inr (30, [.ref x]))) : Ct l Γ yJ31_get cJ31_get 1 (some (.object "java/lang/Object")) 1 0 0 [.ref a] z h (RdP z h (some (.ref x))) := by
  refine Ct.of hl hΓ (by decide +kernel) (Nat.le_of_ble_eq_true rfl) (fun X e1 e2 C => ?_)
  subst e1; subst e2
  have C : Cx X cJ31_get 1 "java/util/Optional" "get" (some (.object "java/lang/Object")) [] 1 := C
  show WW X (RdP z h (some (.ref x))) z h 0 0 0 [(0, .ref a)] []
  refine ww_aload_n C dJ31_get_0 rfl 0 rfl rfl ?_
  refine gf_J31_13_J31 C dJ31_get_1 Ha rfl ?_
  refine ww_ifnonnull_t (tgt := 17) C dJ31_get_4 (by decide) ?_
  refine ww_aload_n C dJ31_get_17 rfl 0 rfl rfl ?_
  refine gf_J31_13_J31 C dJ31_get_18 Ha rfl ?_
  exact ww_aret C (Or.inl ⟨_, rfl⟩) dJ31_get_21 rfl (RdP.v rfl)
set_option maxHeartbeats 2000000 in
theorem ct_J31_empty {l : Launch} {Γ : Gm} (hl : l.flags = flags0) (hΓ : GOK Γ) {z : ZR} {h : AH}   : Ct l Γ yJ31_empty cJ31_empty 1 (some (.object "java/util/Optional")) 1 0 0 [] z h (RdP z h (some (.ref (gE Γ 19)))) := by
  refine Ct.of hl hΓ (by decide +kernel) (Nat.le_of_ble_eq_true rfl) (fun X e1 e2 C => ?_)
  subst e1; subst e2
  have C : Cx X cJ31_empty 1 "java/util/Optional" "empty" (some (.object "java/util/Optional")) [] 1 := C
  show WW X (RdP z h (some (.ref (gE (xG X) 19)))) z h 0 0 0 [] []
  refine ww_gsv C (sv_19 (Cx.ok C)) q2371 (fun _ q => q) dJ31_empty_0 ?_
  refine ww_astore_n (lv' := [(0, .ref (gE (xG X) 19))]) C dJ31_empty_3 rfl (by decide) rfl rfl ?_
  refine ww_aload_n C dJ31_empty_4 rfl 0 rfl rfl ?_
  exact ww_aret C (Or.inl ⟨_, rfl⟩) dJ31_empty_5 rfl (RdP.v rfl)
set_option maxHeartbeats 2000000 in
theorem ct_J14_min {l : Launch} {Γ : Gm} (hl : l.flags = flags0) (hΓ : GOK Γ) {z : ZR} {h : AH} {a b : Nat} (ha : a < 2 ^ 31) (hb : b < 2 ^ 31) : Ct l Γ yJ14_min cJ14_min 2 (some .int) 1 0 0 [.int (nI a), .int (nI b)] z h (RdP z h (some (.int (nI (min a b))))) := by
  refine Ct.ofF hl hΓ (by decide +kernel) (Nat.le_of_ble_eq_true rfl) (fun X e1 e2 C => ?_)
  subst e1; subst e2
  have C : Cx X cJ14_min 2 "java/lang/Math" "min" (some .int) [] 1 := C
  show WW X (RdP z h (some (.int (nI (min a b))))) z h 0 0 0 [(0, .int (nI a)), (1, .int (nI b))] []
  refine ww_iload_n C dJ14_min_0 rfl 0 rfl ?_
  refine ww_iload_n C dJ14_min_1 rfl 1 rfl ?_
  refine ww_icmp_gt_n (tgt := 9) C dJ14_min_2 (by decide) (by omega) (by omega) (fun c_2 => ?_) (fun c_2 => ?_)
  · skip
    refine ww_iload_n C dJ14_min_9 rfl 1 rfl ?_
    exact ww_iret C dJ14_min_10 (RdP.i (by congr 1; omega))
  · skip
    refine ww_iload_n C dJ14_min_5 rfl 0 rfl ?_
    refine ww_goto (tgt := 10) C dJ14_min_6 (by decide) ?_
    exact ww_iret C dJ14_min_10 (RdP.i (by congr 1; omega))
set_option maxHeartbeats 2000000 in
theorem ct_J14_max {l : Launch} {Γ : Gm} (hl : l.flags = flags0) (hΓ : GOK Γ) {z : ZR} {h : AH} {a b : Nat} (ha : a < 2 ^ 31) (hb : b < 2 ^ 31) : Ct l Γ yJ14_max cJ14_max 2 (some .int) 1 0 0 [.int (nI a), .int (nI b)] z h (RdP z h (some (.int (nI (max a b))))) := by
  refine Ct.ofF hl hΓ (by decide +kernel) (Nat.le_of_ble_eq_true rfl) (fun X e1 e2 C => ?_)
  subst e1; subst e2
  have C : Cx X cJ14_max 2 "java/lang/Math" "max" (some .int) [] 1 := C
  show WW X (RdP z h (some (.int (nI (max a b))))) z h 0 0 0 [(0, .int (nI a)), (1, .int (nI b))] []
  refine ww_iload_n C dJ14_max_0 rfl 0 rfl ?_
  refine ww_iload_n C dJ14_max_1 rfl 1 rfl ?_
  refine ww_icmp_lt_n (tgt := 9) C dJ14_max_2 (by decide) (by omega) (by omega) (fun c_2 => ?_) (fun c_2 => ?_)
  · skip
    refine ww_iload_n C dJ14_max_9 rfl 1 rfl ?_
    exact ww_iret C dJ14_max_10 (RdP.i (by congr 1; omega))
  · skip
    refine ww_iload_n C dJ14_max_5 rfl 0 rfl ?_
    refine ww_goto (tgt := 10) C dJ14_max_6 (by decide) ?_
    exact ww_iret C dJ14_max_10 (RdP.i (by congr 1; omega))
end JD1
