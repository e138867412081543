section JD3
set_option maxRecDepth 100000
set_option maxHeartbeats 2000000 in
theorem ct_J32_init {l : Launch} {Γ : Gm} (hl : l.flags = flags0) (hΓ : GOK Γ) {z : ZR} {h : AH} {o a arr m : Nat} {md u v t : Int32} {w0 : Value} (Ha : h a = some (cAL md arr m)) (Ho : h o = some (.inr (31, [.int u, .int v, .int t, w0]))) : Ct l Γ yJ32_init cJ32_init 2 none 2 0 0 [.ref o, .ref a] z h (Rn (fun z' h' => z' = z ∧ h' = up h o (.inr (31, [.int u, .int (-1), .int md, .ref a])))) := by
  refine Ct.of hl hΓ (by decide +kernel) (Nat.le_of_ble_eq_true rfl) (fun X e1 e2 C => ?_)
  subst e1; subst e2
  have C : Cx X cJ32_init 2 "java/util/ArrayList$Itr" "<init>" none [] 2 := C
  have Ha : h a = some (.inr (23, [.int md, .ref arr, .int (nI m)])) := Ha
  show WW X (Rn (fun z' h' => z' = z ∧ h' = up h o (.inr (31, [.int u, .int (-1), .int md, .ref a])))) z h 0 0 0 [(0, .ref o), (1, .ref a)] []
  refine ww_aload_n C dJ32_init_0 rfl 0 rfl rfl ?_
  refine ww_aload_n C dJ32_init_1 rfl 1 rfl rfl ?_
  refine pf_J32_1_J32 (fs' := [.int u, .int v, .int t, .ref a]) C dJ32_init_2 Ho rfl rfl (Nat.le_of_ble_eq_true rfl) rfl ?_
  refine ww_gen (fun h1 hE1 => ?_)
  have Ha_h1 : h1 a = some (.inr (23, [.int md, .ref arr, .int (nI m)])) := by rw [hE1, up_n (ne_ob Ha Ho (by simp))]; exact Ha
  have Ho_h1 : h1 o = some (.inr (31, [.int u, .int v, .int t, .ref a])) := by rw [hE1]; exact up_s
  refine ww_aload_n C dJ32_init_5 rfl 0 rfl rfl ?_
  refine ww_objInit C q2124 q172 q173 dJ32_init_6 (by decide) (Nat.le_of_ble_eq_true rfl) ?_
  refine ww_aload_n C dJ32_init_9 rfl 0 rfl rfl ?_
  refine ww_iconst C dJ32_init_10 cI_m1 ?_
  refine pf_J32_13_J32 (fs' := [.int u, .int (-1), .int t, .ref a]) C dJ32_init_11 Ho_h1 rfl rfl (Nat.le_of_ble_eq_true rfl) rfl ?_
  refine ww_gen (fun h2 hE2 => ?_)
  have Ha_h2 : h2 a = some (.inr (23, [.int md, .ref arr, .int (nI m)])) := by rw [hE2, up_n (ne_ob Ha_h1 Ho_h1 (by simp))]; exact Ha_h1
  have Ho_h2 : h2 o = some (.inr (31, [.int u, .int (-1), .int t, .ref a])) := by rw [hE2]; exact up_s
  refine ww_aload_n C dJ32_init_14 rfl 0 rfl rfl ?_
  refine ww_aload_n C dJ32_init_15 rfl 0 rfl rfl ?_
  refine gf_J32_1_J32 C dJ32_init_16 (Or.inl Ho_h2) rfl ?_
  refine gf_J32_17_J2 C dJ32_init_19 (Or.inl Ha_h2) rfl ?_
  refine pf_J32_22_J32 (fs' := [.int u, .int (-1), .int md, .ref a]) C dJ32_init_22 Ho_h2 rfl rfl (Nat.le_of_ble_eq_true rfl) rfl ?_
  refine ww_gen (fun h3 hE3 => ?_)
  have Ha_h3 : h3 a = some (.inr (23, [.int md, .ref arr, .int (nI m)])) := by rw [hE3, up_n (ne_ob Ha_h2 Ho_h2 (by simp))]; exact Ha_h2
  have Ho_h3 : h3 o = some (.inr (31, [.int u, .int (-1), .int md, .ref a])) := by rw [hE3]; exact up_s
  exact ww_vret C dJ32_init_25 ⟨rfl, by rw [hE3, hE2, hE1, up_up, up_up]⟩
set_option maxHeartbeats 2000000 in
theorem ct_J2_iterator {l : Launch} {Γ : Gm} (hl : l.flags = flags0) (hΓ : GOK Γ) {z : ZR} {h : AH} {a arr m : Nat} {md : Int32} (Ha : h a = some (cAL md arr m)) : Ct l Γ yJ2_iterator cJ2_iterator 1 (some (.object "java/util/Iterator")) 3 1 4 [.ref a] z h (Rv (fun v z' h' => ∃ o, v = .ref o ∧ z' = z ∧ h o = none ∧ h' = up h o (.inr (31, [.int (nI 0), .int (-1), .int md, .ref a])))) := by
  refine Ct.of hl hΓ (by decide +kernel) (Nat.le_of_ble_eq_true rfl) (fun X e1 e2 C => ?_)
  subst e1; subst e2
  have C : Cx X cJ2_iterator 1 "java/util/ArrayList" "iterator" (some (.object "java/util/Iterator")) [] 3 := C
  have Ha : h a = some (.inr (23, [.int md, .ref arr, .int (nI m)])) := Ha
  show WW X (Rv (fun v z' h' => ∃ o, v = .ref o ∧ z' = z ∧ h o = none ∧ h' = up h o (.inr (31, [.int (nI 0), .int (-1), .int md, .ref a])))) z h 1 4 0 [(0, .ref a)] []
  refine nw_J2_267 C dJ2_iterator_0 (by decide) (by decide) (fun o o_n o_z o_g => ?_)
  refine ww_gen (fun h1 hE1 => ?_)
  have Ha_h1 : h1 a = some (.inr (23, [.int md, .ref arr, .int (nI m)])) := by rw [hE1, up_n (ne_nw Ha o_n)]; exact Ha
  have N1_h1 : h1 o = some (.inr (31, [.int (nI 0), .int (nI 0), .int (nI 0), .null])) := by rw [hE1]; exact up_s
  refine ww_dup C dJ2_iterator_3 rfl ?_
  refine ww_aload_n C dJ2_iterator_4 rfl 0 rfl rfl ?_
  refine ci_J2_269_q (As := [.ref a]) (rest := [.ref o]) C dJ2_iterator_5 (ct_J32_init (Cx.fl C) (Cx.ok C) Ha_h1 N1_h1) rfl rfl (Nat.le_of_ble_eq_true rfl) (by decide) (Nat.zero_le _) (Nat.zero_le _) (fun z2 h2 q2 => ?_)
  obtain ⟨hq, hE2⟩ := q2; replace hq := hq.symm; subst hq
  have Ha_h3 : h2 a = some (.inr (23, [.int md, .ref arr, .int (nI m)])) := by rw [hE2, up_n (ne_ob Ha_h1 N1_h1 (by simp))]; exact Ha_h1
  have N1_h3 : h2 o = some (.inr (31, [.int (nI 0), .int (-1), .int md, .ref a])) := by rw [hE2]; exact up_s
  exact ww_aret C (Or.inl ⟨_, rfl⟩) dJ2_iterator_8 rfl ⟨o, rfl, rfl, o_n, by rw [hE2, hE1, up_up]⟩
set_option maxHeartbeats 2000000 in
theorem ct_J32_hasNext {l : Launch} {Γ : Gm} (hl : l.flags = flags0) (hΓ : GOK Γ) {z : ZR} {h : AH} {it a arr m cap : Nat} {md lr : Int32} {xs : Nat → Nat} {j : Nat} (hL : ALm Γ h a arr m md cap xs) (Hi : h it = some (.inr (31, [.int (nI j), .int lr, .int md, .ref a]))) (hj : j ≤ m) (hm : m < 2 ^ 31) : Ct l Γ yJ32_hasNext cJ32_hasNext 1 (some .boolean) 1 0 0 [.ref it] z h (RdP z h (some (.int (bI (decide (j < m)))))) := by
  refine Ct.of hl hΓ (by decide +kernel) (Nat.le_of_ble_eq_true rfl) (fun X e1 e2 C => ?_)
  subst e1; subst e2
  have C : Cx X cJ32_hasNext 1 "java/util/ArrayList$Itr" "hasNext" (some .boolean) [] 1 := C
  have Ha : h a = some (.inr (23, [.int md, .ref arr, .int (nI m)])) := hL.1
  show WW X (RdP z h (some (.int (bI (decide (j < m)))))) z h 0 0 0 [(0, .ref it)] []
  refine ww_aload_n C dJ32_hasNext_0 rfl 0 rfl rfl ?_
  refine gf_J32_25_J32 C dJ32_hasNext_1 (Or.inl Hi) rfl ?_
  refine ww_aload_n C dJ32_hasNext_4 rfl 0 rfl rfl ?_
  refine gf_J32_1_J32 C dJ32_hasNext_5 (Or.inl Hi) rfl ?_
  refine gf_J32_28_J2 C dJ32_hasNext_8 (Or.inl Ha) rfl ?_
  refine ww_tern_icmp_eq_n C dJ32_hasNext_11 dJ32_hasNext_14 dJ32_hasNext_15 dJ32_hasNext_18 (by omega) (by omega) ?_
  exact ww_zret C dJ32_hasNext_19 (nar_bI _) (RdP.i (by rw [show decide (j ≠ m) = decide (j < m) by rw [decide_eq_decide]; omega]; try rfl))
set_option maxHeartbeats 2000000 in
theorem ct_J32_checkForComodification {l : Launch} {Γ : Gm} (hl : l.flags = flags0) (hΓ : GOK Γ) {z : ZR} {h : AH} {it a arr m cap : Nat} {md lr : Int32} {xs : Nat → Nat} {j : Nat} (hL : ALm Γ h a arr m md cap xs) (Hi : h it = some (.inr (31, [.int (nI j), .int lr, .int md, .ref a]))) : Ct l Γ yJ32_checkForComodification cJ32_checkForComodification 1 none 1 0 0 [.ref it] z h (Rn (fun z' h' => z' = z ∧ h' = h)) := by
  refine Ct.of hl hΓ (by decide +kernel) (Nat.le_of_ble_eq_true rfl) (fun X e1 e2 C => ?_)
  subst e1; subst e2
  have C : Cx X cJ32_checkForComodification 1 "java/util/ArrayList$Itr" "checkForComodification" none [] 1 := C
  have Ha : h a = some (.inr (23, [.int md, .ref arr, .int (nI m)])) := hL.1
  show WW X (Rn (fun z' h' => z' = z ∧ h' = h)) z h 0 0 0 [(0, .ref it)] []
  refine ww_aload_n C dJ32_checkForComodification_0 rfl 0 rfl rfl ?_
  refine gf_J32_1_J32 C dJ32_checkForComodification_1 (Or.inl Hi) rfl ?_
  refine gf_J32_17_J2 C dJ32_checkForComodification_4 (Or.inl Ha) rfl ?_
  refine ww_aload_n C dJ32_checkForComodification_7 rfl 0 rfl rfl ?_
  refine gf_J32_22_J32 C dJ32_checkForComodification_8 (Or.inl Hi) rfl ?_
  refine ww_icmp_eq_t (tgt := 22) C dJ32_checkForComodification_11 (by decide) rfl ?_
  exact ww_vret C dJ32_checkForComodification_22 ⟨rfl, rfl⟩
set_option maxHeartbeats 2000000 in
theorem ct_J32_next {l : Launch} {Γ : Gm} (hl : l.flags = flags0) (hΓ : GOK Γ) {z : ZR} {h : AH} {it a arr m cap : Nat} {md lr : Int32} {xs : Nat → Nat} {j : Nat} (hL : ALm Γ h a arr m md cap xs) (Hi : h it = some (.inr (31, [.int (nI j), .int lr, .int md, .ref a]))) (hj : j < m) : Ct l Γ yJ32_next cJ32_next 3 (some (.object "java/lang/Object")) 2 0 0 [.ref it] z h (Rv (fun v z' h' => v = .ref (xs j) ∧ z' = z ∧ h' = up h it (.inr (31, [.int (nI (j + 1)), .int (nI j), .int md, .ref a])))) := by
  refine Ct.of hl hΓ (by decide +kernel) (Nat.le_of_ble_eq_true rfl) (fun X e1 e2 C => ?_)
  subst e1; subst e2
  have C : Cx X cJ32_next 3 "java/util/ArrayList$Itr" "next" (some (.object "java/lang/Object")) [] 2 := C
  have Ha : h a = some (.inr (23, [.int md, .ref arr, .int (nI m)])) := hL.1
  obtain ⟨-, hL2, hL3, hL4⟩ := id hL
  have Hr : h arr = some (.inl (gA (xG X) 4, (cap, refs (lf m xs)))) := by
    rcases hL2 with ⟨q, -⟩ | ⟨q, -⟩
    · exact q
    · omega
  show WW X (Rv (fun v z' h' => v = .ref (xs j) ∧ z' = z ∧ h' = up h it (.inr (31, [.int (nI (j + 1)), .int (nI j), .int md, .ref a])))) z h 0 0 0 [(0, .ref it)] []
  refine ww_aload_n C dJ32_next_0 rfl 0 rfl rfl ?_
  refine cv_J32_31_q (As := []) (rest := []) C dJ32_next_1 (ct_J32_checkForComodification (Cx.fl C) (Cx.ok C) hL Hi) (rc_J32 (Cx.ok C) (Or.inl Hi)) rfl rfl (Nat.le_of_ble_eq_true rfl) (by decide) (Nat.zero_le _) (Nat.zero_le _) (fun z9 h9 q9 => ?_)
  obtain ⟨hq1, hq2⟩ := q9; replace hq1 := hq1.symm; replace hq2 := hq2.symm; subst hq1; subst hq2
  refine ww_aload_n C dJ32_next_4 rfl 0 rfl rfl ?_
  refine gf_J32_25_J32 C dJ32_next_5 (Or.inl Hi) rfl ?_
  refine ww_istore_n (lv' := [(1, .int (nI j)), (0, .ref it)]) C dJ32_next_8 rfl (by decide) rfl ?_
  refine ww_iload_n C dJ32_next_9 rfl 0 rfl ?_
  refine ww_aload_n C dJ32_next_10 rfl 1 rfl rfl ?_
  refine gf_J32_1_J32 C dJ32_next_11 (Or.inl Hi) rfl ?_
  refine gf_J32_28_J2 C dJ32_next_14 (Or.inl Ha) rfl ?_
  refine ww_icmp_lt_t (tgt := 28) C dJ32_next_17 (by decide) (nI_lt hj (by omega)) ?_
  refine ww_aload_n C dJ32_next_28 rfl 1 rfl rfl ?_
  refine gf_J32_1_J32 C dJ32_next_29 (Or.inl Hi) rfl ?_
  refine gf_J32_37_J2 C dJ32_next_32 (Or.inl Ha) rfl ?_
  refine ww_astore_n (lv' := [(2, .ref arr), (1, .int (nI j)), (0, .ref it)]) C dJ32_next_35 rfl (by decide) rfl rfl ?_
  refine ww_iload_n C dJ32_next_36 rfl 1 rfl ?_
  refine ww_aload_n C dJ32_next_37 rfl 0 rfl rfl ?_
  refine ww_alen (t := 4) C dJ32_next_38 (by decide) (Or.inl Hr) ?_
  refine ww_icmp_lt_t (tgt := 50) C dJ32_next_39 (by decide) (nI_lt (Nat.lt_of_lt_of_le hj hL3) (by omega)) ?_
  refine ww_aload_n C dJ32_next_50 rfl 2 rfl rfl ?_
  refine ww_iload_n C dJ32_next_51 rfl 1 rfl ?_
  refine ww_iconst C dJ32_next_52 cI_1 ?_
  refine ww_iaddn C dJ32_next_53 ?_
  refine pf_J32_25_J32 (fs' := [.int (nI (j + 1)), .int lr, .int md, .ref a]) C dJ32_next_54 Hi rfl rfl (Nat.le_of_ble_eq_true rfl) rfl ?_
  refine ww_gen (fun h1 hE1 => ?_)
  have Ha_h1 : h1 a = some (.inr (23, [.int md, .ref arr, .int (nI m)])) := by rw [hE1, up_n (ne_ob Ha Hi (by simp))]; exact Ha
  have Hr_h1 : h1 arr = some (.inl (gA (xG X) 4, (cap, refs (lf m xs)))) := by rw [hE1, up_n (Ne.symm (ne_ob Hi Hr (by simp)))]; exact Hr
  have Hi_h1 : h1 it = some (.inr (31, [.int (nI (j + 1)), .int lr, .int md, .ref a])) := by rw [hE1]; exact up_s
  refine ww_aload_n C dJ32_next_57 rfl 0 rfl rfl ?_
  refine ww_aload_n C dJ32_next_58 rfl 2 rfl rfl ?_
  refine ww_iload_n C dJ32_next_59 rfl 1 rfl ?_
  refine ww_dup_x1 C dJ32_next_60 rfl rfl ?_
  refine pf_J32_13_J32 (fs' := [.int (nI (j + 1)), .int (nI j), .int md, .ref a]) C dJ32_next_61 Hi_h1 rfl rfl (Nat.le_of_ble_eq_true rfl) rfl ?_
  refine ww_gen (fun h2 hE2 => ?_)
  have Ha_h2 : h2 a = some (.inr (23, [.int md, .ref arr, .int (nI m)])) := by rw [hE2, up_n (ne_ob Ha_h1 Hi_h1 (by simp))]; exact Ha_h1
  have Hr_h2 : h2 arr = some (.inl (gA (xG X) 4, (cap, refs (lf m xs)))) := by rw [hE2, up_n (Ne.symm (ne_ob Hi Hr (by simp)))]; exact Hr_h1
  have Hi_h2 : h2 it = some (.inr (31, [.int (nI (j + 1)), .int (nI j), .int md, .ref a])) := by rw [hE2]; exact up_s
  refine ww_aald (t := 4) C dJ32_next_64 (by decide) rfl (Or.inl Hr_h2) (by omega) (by omega) ?_
  refine ww_st (st' := [.ref (xs j)]) (by rw [lf_lt hj]; rfl) ?_
  exact ww_aret C (Or.inl ⟨_, rfl⟩) dJ32_next_65 rfl ⟨rfl, rfl, by rw [hE2, hE1, up_up]⟩
end JD3
