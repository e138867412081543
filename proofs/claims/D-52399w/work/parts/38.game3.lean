section GA3
set_option maxRecDepth 100000
set_option maxHeartbeats 2000000 in
theorem ct_J2_set {l : Launch} {Γ : Gm} (hl : l.flags = flags0) (hΓ : GOK Γ) {z : ZR} {h : AH} {a arr m cap j v : Nat} {md : Int32} {xs : Nat → Nat} {C1 : String} (Ha : rd z h a (cAL md arr m)) (Hr : h arr = some (cAr Γ cap (lf m xs))) (hmc : m ≤ cap) (hcap : cap < 2 ^ 20) (hj : j < m) (hv : rcv Γ z h v C1) (hca : Cond.castable C1 "java/lang/Object" ∈ lw_tbl) : Ct l Γ yJ2_set cJ2_set 4 (some (.object "java/lang/Object")) 3 0 0 [.ref a, .int (nI j), .ref v] z h (Rv (fun v' z' h' => v' = .ref (xs j) ∧ z' = z ∧ h' = up h arr (cAr Γ cap (lf m (va_up xs j v))))) := by
  refine Ct.of hl hΓ (by decide +kernel) (Nat.le_of_ble_eq_true rfl) (fun X e1 e2 C => ?_)
  subst e1; subst e2
  have C : Cx X cJ2_set 4 "java/util/ArrayList" "set" (some (.object "java/lang/Object")) [] 3 := C
  have hL : ALp (xG X) z h a arr m xs := ⟨md, cap, lf m xs, Ha, Or.inl Hr, hmc, by omega, fun _ hi => lf_lt hi⟩
  show WW X (Rv (fun v' z' h' => v' = .ref (xs j) ∧ z' = z ∧ h' = up h arr (cAr (xG X) cap (lf m (va_up xs j v))))) z h 0 0 0 [(0, .ref a), (1, .int (nI j)), (2, .ref v)] []
  refine ww_iload_n C dJ2_set_0 rfl 1 rfl ?_
  refine ww_aload_n C dJ2_set_1 rfl 0 rfl rfl ?_
  refine gf_J2_48_J2 C dJ2_set_2 Ha rfl ?_
  refine cs_J2_118_r (As := [.int (nI j), .int (nI m)]) (rest := []) C dJ2_set_5 (ct_J23_checkIndex (Cx.fl C) (Cx.ok C) hj (by omega)) rfl rfl (Nat.le_of_ble_eq_true rfl) (by decide) (Nat.zero_le _) (Nat.zero_le _) ?_
  refine ww_pop C dJ2_set_8 rfl ?_
  refine ww_aload_n C dJ2_set_9 rfl 0 rfl rfl ?_
  refine ww_iload_n C dJ2_set_10 rfl 1 rfl ?_
  refine cv_J2_123_r (As := [.int (nI j)]) (rest := []) C dJ2_set_11 (ct_J2_elementData (Cx.fl C) (Cx.ok C) hL hj) (ALp.rc (Cx.ok C) hL) rfl rfl (Nat.le_of_ble_eq_true rfl) (by decide) (Nat.zero_le _) (Nat.zero_le _) ?_
  refine ww_astore_n (lv' := [(3, .ref (xs j)), (0, .ref a), (1, .int (nI j)), (2, .ref v)]) C dJ2_set_14 rfl (by decide) rfl rfl ?_
  refine ww_aload_n C dJ2_set_15 rfl 1 rfl rfl ?_
  refine gf_J2_9_J2 C dJ2_set_16 Ha rfl ?_
  refine ww_iload_n C dJ2_set_19 rfl 2 rfl ?_
  refine ww_aload_n C dJ2_set_20 rfl 3 rfl rfl ?_
  refine ww_aast (t := 4) (E := "java/lang/Object") C dJ2_set_21 (by decide) rfl hca Hr hv (by omega) (by omega) ?_
  refine ww_gen (fun h1 hE1 => ?_)
  have Hr_h1 : h1 arr = some (.inl (gA (xG X) 4, (cap, refs (va_up (lf m xs) j (some v))))) := by rw [hE1]; exact up_s
  refine ww_aload_n C dJ2_set_22 rfl 0 rfl rfl ?_
  exact ww_aret C (Or.inl ⟨_, rfl⟩) dJ2_set_23 rfl ⟨rfl, rfl, by rw [hE1, lf_set hj]; rfl⟩
set_option maxHeartbeats 2000000 in
theorem ct_X25_init {l : Launch} {Γ : Gm} (hl : l.flags = flags0) (hΓ : GOK Γ) {z : ZR} {h : AH} {a : Nat} {x t u v : Int32} (Ha : h a = some (.inr (22, [.int u, .int v]))) : Ct l Γ yX25_init cX25_init 3 none 2 0 0 [.ref a, .int x, .int t] z h (Rn (fun z' h' => z' = z ∧ h' = up h a (.inr (22, [.int x, .int t])))) := by
  refine Ct.of hl hΓ (by decide +kernel) (Nat.le_of_ble_eq_true rfl) (fun X e1 e2 C => ?_)
  subst e1; subst e2
  have C : Cx X cX25_init 3 "RingDomino$Way" "<init>" none [] 2 := C
  show WW X (Rn (fun z' h' => z' = z ∧ h' = up h a (.inr (22, [.int x, .int t])))) z h 0 0 0 [(0, .ref a), (1, .int x), (2, .int t)] []
  refine ww_aload_n C dX25_init_0 rfl 0 rfl rfl ?_
  refine ww_objInit C q2340 q172 q173 dX25_init_1 (by decide) (Nat.le_of_ble_eq_true rfl) ?_
  refine ww_aload_n C dX25_init_4 rfl 0 rfl rfl ?_
  refine ww_iload_n C dX25_init_5 rfl 1 rfl ?_
  refine pf_X25_7_X25 (fs' := [.int x, .int v]) C dX25_init_6 Ha rfl rfl (Nat.le_of_ble_eq_true rfl) rfl ?_
  refine ww_gen (fun h1 hE1 => ?_)
  have Ha_h1 : h1 a = some (.inr (22, [.int x, .int v])) := by rw [hE1]; exact up_s
  refine ww_aload_n C dX25_init_9 rfl 0 rfl rfl ?_
  refine ww_iload_n C dX25_init_10 rfl 2 rfl ?_
  refine pf_X25_13_X25 (fs' := [.int x, .int t]) C dX25_init_11 Ha_h1 rfl rfl (Nat.le_of_ble_eq_true rfl) rfl ?_
  refine ww_gen (fun h2 hE2 => ?_)
  have Ha_h2 : h2 a = some (.inr (22, [.int x, .int t])) := by rw [hE2]; exact up_s
  exact ww_vret C dX25_init_14 ⟨rfl, by rw [hE2, hE1, up_up]⟩
set_option maxHeartbeats 2000000 in
theorem ct_J31_init {l : Launch} {Γ : Gm} (hl : l.flags = flags0) (hΓ : GOK Γ) {z : ZR} {h : AH} {a x : Nat} {v : Value} (Ha : h a = some (.inr (30, [v]))) : Ct l Γ yJ31_init cJ31_init 2 none 2 0 0 [.ref a, .ref x] z h (Rn (fun z' h' => z' = z ∧ h' = up h a (.inr (30, [.ref x])))) := by
  refine Ct.of hl hΓ (by decide +kernel) (Nat.le_of_ble_eq_true rfl) (fun X e1 e2 C => ?_)
  subst e1; subst e2
  have C : Cx X cJ31_init 2 "java/util/Optional" "<init>" none [] 2 := C
  show WW X (Rn (fun z' h' => z' = z ∧ h' = up h a (.inr (30, [.ref x])))) z h 0 0 0 [(0, .ref a), (1, .ref x)] []
  refine ww_aload_n C dJ31_init_0 rfl 0 rfl rfl ?_
  refine ww_objInit C q2363 q172 q173 dJ31_init_1 (by decide) (Nat.le_of_ble_eq_true rfl) ?_
  refine ww_aload_n C dJ31_init_4 rfl 0 rfl rfl ?_
  refine ww_aload_n C dJ31_init_5 rfl 1 rfl rfl ?_
  refine pf_J31_13_J31 (fs' := [.ref x]) C dJ31_init_6 Ha rfl rfl (Nat.le_of_ble_eq_true rfl) rfl ?_
  refine ww_gen (fun h1 hE1 => ?_)
  have Ha_h1 : h1 a = some (.inr (30, [.ref x])) := by rw [hE1]; exact up_s
  exact ww_vret C dJ31_init_9 ⟨rfl, hE1⟩
set_option maxHeartbeats 2000000 in
theorem ct_J31_of {l : Launch} {Γ : Gm} (hl : l.flags = flags0) (hΓ : GOK Γ) {z : ZR} {h : AH} {x : Nat}  : Ct l Γ yJ31_of cJ31_of 1 (some (.object "java/util/Optional")) 3 1 1 [.ref x] z h (Rv (fun v z' h' => ∃ o, v = .ref o ∧ h' = h ∧ zle z z' ∧ z' o (.inr (30, [.ref x])))) := by
  refine Ct.of hl hΓ (by decide +kernel) (Nat.le_of_ble_eq_true rfl) (fun X e1 e2 C => ?_)
  subst e1; subst e2
  have C : Cx X cJ31_of 1 "java/util/Optional" "of" (some (.object "java/util/Optional")) [] 3 := C
  show WW X (Rv (fun v z' h' => ∃ o, v = .ref o ∧ h' = h ∧ zle z z' ∧ z' o (.inr (30, [.ref x])))) z h 1 1 0 [(0, .ref x)] []
  refine nw_J31_2 C dJ31_of_0 (by decide) (by decide) (fun o o_n o_z o_g => ?_)
  refine ww_gen (fun h1 hE1 => ?_)
  have N1_h1 : h1 o = some (.inr (30, [.null])) := by rw [hE1]; exact up_s
  refine ww_dup C dJ31_of_3 rfl ?_
  refine ww_aload_n C dJ31_of_4 rfl 0 rfl rfl ?_
  refine cs_J31_17_r (As := [.ref x]) (rest := [.ref o, .ref o]) C dJ31_of_5 (ct_J23_requireNonNull (Cx.fl C) (Cx.ok C)) rfl rfl (Nat.le_of_ble_eq_true rfl) (by decide) (Nat.zero_le _) (Nat.zero_le _) ?_
  refine ci_J31_23_q (As := [.ref x]) (rest := [.ref o]) C dJ31_of_8 (ct_J31_init (Cx.fl C) (Cx.ok C) N1_h1) rfl rfl (Nat.le_of_ble_eq_true rfl) (by decide) (Nat.zero_le _) (Nat.zero_le _) (fun z2 h2 q2 => ?_)
  obtain ⟨hq, hE2⟩ := q2; replace hq := hq.symm; subst hq
  have N1_h3 : h2 o = some (.inr (30, [.ref x])) := by rw [hE2]; exact up_s
  refine ww_frzN o_n (by rw [hE2, hE1, up_up]) ?_
  exact ww_aret C (Or.inl ⟨_, rfl⟩) dJ31_of_11 rfl ⟨o, rfl, rfl, zad_le, zad_s⟩
end GA3
