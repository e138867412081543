section JD2
set_option maxRecDepth 100000
def eqF (f g : Nat → Int32) (m m2 : Nat) : Bool := decide (m = m2) && (ff (fun j => decide (¬ f j = g j)) m 0).isNone
set_option maxHeartbeats 2000000 in
theorem ct_J11_coder {l : Launch} {Γ : Gm} (hl : l.flags = flags0) (hΓ : GOK Γ) {z : ZR} {h : AH} {a m : Nat} {u : Nat → Nat} (hs : StU Γ z h a m u) : Ct l Γ yJ11_coder cJ11_coder 1 (some .byte) 1 0 0 [.ref a] z h (RdP z h (some (.int (nI 0)))) := by
  refine Ct.of hl hΓ (by decide +kernel) (Nat.le_of_ble_eq_true rfl) (fun X e1 e2 C => ?_)
  subst e1; subst e2
  have C : Cx X cJ11_coder 1 "java/lang/String" "coder" (some .byte) [] 1 := C
  obtain ⟨v, x, y, f, Hs, Hv, hm, hf⟩ := id hs
  show WW X (RdP z h (some (.int (nI 0)))) z h 0 0 0 [(0, .ref a)] []
  refine ww_gsv C (si_0 (Cx.ok C)) q621 (fun _ q => q) dJ11_coder_0 ?_
  refine ww_if_eq_f (tgt := 13) C dJ11_coder_3 (by decide) (nI_ne0 (by decide) (by decide)) ?_
  refine ww_aload_n C dJ11_coder_6 rfl 0 rfl rfl ?_
  refine gf_J11_15_J11 C dJ11_coder_7 Hs rfl ?_
  refine ww_goto (tgt := 14) C dJ11_coder_10 (by decide) ?_
  exact ww_zret C dJ11_coder_14 rfl (RdP.i rfl)
set_option maxHeartbeats 2000000 in
theorem ct_J11_isLatin1 {l : Launch} {Γ : Gm} (hl : l.flags = flags0) (hΓ : GOK Γ) {z : ZR} {h : AH} {a m : Nat} {u : Nat → Nat} (hs : StU Γ z h a m u) : Ct l Γ yJ11_isLatin1 cJ11_isLatin1 1 (some .boolean) 1 0 0 [.ref a] z h (RdP z h (some (.int (bI true)))) := by
  refine Ct.of hl hΓ (by decide +kernel) (Nat.le_of_ble_eq_true rfl) (fun X e1 e2 C => ?_)
  subst e1; subst e2
  have C : Cx X cJ11_isLatin1 1 "java/lang/String" "isLatin1" (some .boolean) [] 1 := C
  obtain ⟨v, x, y, f, Hs, Hv, hm, hf⟩ := id hs
  show WW X (RdP z h (some (.int (bI true)))) z h 0 0 0 [(0, .ref a)] []
  refine ww_gsv C (si_0 (Cx.ok C)) q621 (fun _ q => q) dJ11_isLatin1_0 ?_
  refine ww_if_eq_f (tgt := 17) C dJ11_isLatin1_3 (by decide) (nI_ne0 (by decide) (by decide)) ?_
  refine ww_aload_n C dJ11_isLatin1_6 rfl 0 rfl rfl ?_
  refine gf_J11_15_J11 C dJ11_isLatin1_7 Hs rfl ?_
  refine ww_tern_if_ne_n C dJ11_isLatin1_10 dJ11_isLatin1_13 dJ11_isLatin1_14 dJ11_isLatin1_17 (by decide) ?_
  exact ww_zret C dJ11_isLatin1_18 (nar_bI _) (RdP.i (by rfl))
set_option maxHeartbeats 2000000 in
theorem ct_J11_length {l : Launch} {Γ : Gm} (hl : l.flags = flags0) (hΓ : GOK Γ) {z : ZR} {h : AH} {a m : Nat} {u : Nat → Nat} (hs : StU Γ z h a m u) : Ct l Γ yJ11_length cJ11_length 1 (some .int) 2 0 0 [.ref a] z h (RdP z h (some (.int (nI m)))) := by
  refine Ct.of hl hΓ (by decide +kernel) (Nat.le_of_ble_eq_true rfl) (fun X e1 e2 C => ?_)
  subst e1; subst e2
  have C : Cx X cJ11_length 1 "java/lang/String" "length" (some .int) [] 2 := C
  obtain ⟨v, x, y, f, Hs, Hv, hm, hf⟩ := id hs
  show WW X (RdP z h (some (.int (nI m)))) z h 0 0 0 [(0, .ref a)] []
  refine ww_aload_n C dJ11_length_0 rfl 0 rfl rfl ?_
  refine gf_J11_9_J11 C dJ11_length_1 Hs rfl ?_
  refine ww_alen (t := 1) C dJ11_length_4 (by decide) Hv ?_
  refine ww_aload_n C dJ11_length_5 rfl 0 rfl rfl ?_
  refine cv_J11_335_r (As := []) (rest := [.int (nI m)]) C dJ11_length_6 (ct_J11_coder (Cx.fl C) (Cx.ok C) hs) (rc_J11 (Cx.ok C) Hs) rfl rfl (Nat.le_of_ble_eq_true rfl) (by decide) (Nat.zero_le _) (Nat.zero_le _) ?_
  refine ww_ishr C dJ11_length_9 ?_
  exact ww_iret C dJ11_length_10 (RdP.i (by rw [shr0 hm]))
set_option maxHeartbeats 2000000 in
theorem ct_J17_checkIndexA {l : Launch} {Γ : Gm} (hl : l.flags = flags0) (hΓ : GOK Γ) {z : ZR} {h : AH} {j m o : Nat} (hj : j < m) (hm : m < 2 ^ 31) : Ct l Γ yJ17_checkIndex cJ17_checkIndex 3 (some .int) 1 0 0 [.int (nI j), .int (nI m), .ref o] z h (RdP z h (some (.int (nI j)))) := by
  refine Ct.of hl hΓ (by decide +kernel) (Nat.le_of_ble_eq_true rfl) (fun X e1 e2 C => ?_)
  subst e1; subst e2
  have C : Cx X cJ17_checkIndex 3 "jdk/internal/util/Preconditions" "checkIndex" (some .int) [] 1 := C
  show WW X (RdP z h (some (.int (nI j)))) z h 0 0 0 [(0, .int (nI j)), (1, .int (nI m)), (2, .ref o)] []
  refine ww_iload_n C dJ17_checkIndex_0 rfl 0 rfl ?_
  refine ww_if_lt_n (tgt := 9) C dJ17_checkIndex_1 (by decide) (by omega) ?_
  refine ww_iload_n C dJ17_checkIndex_4 rfl 0 rfl ?_
  refine ww_iload_n C dJ17_checkIndex_5 rfl 1 rfl ?_
  refine ww_icmp_lt_t (tgt := 16) C dJ17_checkIndex_6 (by decide) (nI_lt hj hm) ?_
  refine ww_iload_n C dJ17_checkIndex_16 rfl 0 rfl ?_
  exact ww_iret C dJ17_checkIndex_17 (RdP.i rfl)
theorem ct_J17_checkIndexR {l : Launch} {Γ : Gm} (hl : l.flags = flags0) (hΓ : GOK Γ) {z : ZR} {h : AH} {j m : Nat} {o : Option Nat} (hj : j < m) (hm : m < 2 ^ 31) : Ct l Γ yJ17_checkIndex cJ17_checkIndex 3 (some .int) 1 0 0 [.int (nI j), .int (nI m), va_rf o] z h (RdP z h (some (.int (nI j)))) := by
  cases o with
  | none => exact ct_J17_checkIndex hl hΓ hj hm
  | some a => exact ct_J17_checkIndexA hl hΓ hj hm
set_option maxHeartbeats 2000000 in
theorem ct_J11_checkIndex {l : Launch} {Γ : Gm} (hl : l.flags = flags0) (hΓ : GOK Γ) {z : ZR} {h : AH} {j m : Nat} (hj : j < m) (hm : m < 2 ^ 31) : Ct l Γ yJ11_checkIndex cJ11_checkIndex 2 none 2 0 0 [.int (nI j), .int (nI m)] z h (Rn (fun z' h' => z' = z ∧ h' = h)) := by
  refine Ct.of hl hΓ (by decide +kernel) (Nat.le_of_ble_eq_true rfl) (fun X e1 e2 C => ?_)
  subst e1; subst e2
  have C : Cx X cJ11_checkIndex 2 "java/lang/String" "checkIndex" none [] 2 := C
  show WW X (Rn (fun z' h' => z' = z ∧ h' = h)) z h 0 0 0 [(0, .int (nI j)), (1, .int (nI m))] []
  refine ww_iload_n C dJ11_checkIndex_0 rfl 0 rfl ?_
  refine ww_iload_n C dJ11_checkIndex_1 rfl 1 rfl ?_
  obtain ⟨sio, hsio⟩ := gs_any (Cx.ok C) (Cn := "jdk/internal/util/Preconditions") (nm := "SIOOBE_FORMATTER") (ds := "Ljava/util/function/BiFunction;") (by decide +kernel) q458 q128
  refine ww_gsv C hsio q457 (fun _ q => q) dJ11_checkIndex_2 ?_
  refine cs_J11_1059_r (As := [.int (nI j), .int (nI m), va_rf sio]) (rest := []) C dJ11_checkIndex_5 (ct_J17_checkIndexR (Cx.fl C) (Cx.ok C) hj hm) rfl rfl (Nat.le_of_ble_eq_true rfl) (by decide) (Nat.zero_le _) (Nat.zero_le _) ?_
  refine ww_pop C dJ11_checkIndex_8 rfl ?_
  exact ww_vret C dJ11_checkIndex_9 ⟨rfl, rfl⟩
set_option maxHeartbeats 2000000 in
theorem ct_J16_charAt {l : Launch} {Γ : Gm} (hl : l.flags = flags0) (hΓ : GOK Γ) {z : ZR} {h : AH} {v m j : Nat} {f : Nat → Int32} {u : Nat → Nat} (Hv : rd z h v (.inl (gA Γ 1, (m, .inl f)))) (hm : m < 2 ^ 20) (hf : ∀ i, i < m → f i = bs (u i) ∧ u i < 256) (hj : j < m) : Ct l Γ yJ16_charAt cJ16_charAt 2 (some .char) 3 0 0 [.ref v, .int (nI j)] z h (RdP z h (some (.int (nI (u j))))) := by
  refine Ct.of hl hΓ (by decide +kernel) (Nat.le_of_ble_eq_true rfl) (fun X e1 e2 C => ?_)
  subst e1; subst e2
  have C : Cx X cJ16_charAt 2 "java/lang/StringLatin1" "charAt" (some .char) [] 3 := C
  obtain ⟨f1, f2⟩ := hf j hj
  show WW X (RdP z h (some (.int (nI (u j))))) z h 0 0 0 [(0, .ref v), (1, .int (nI j))] []
  refine ww_iload_n C dJ16_charAt_0 rfl 1 rfl ?_
  refine ww_aload_n C dJ16_charAt_1 rfl 0 rfl rfl ?_
  refine ww_alen (t := 1) C dJ16_charAt_2 (by decide) Hv ?_
  refine cs_J16_9_q (As := [.int (nI j), .int (nI m)]) (rest := []) C dJ16_charAt_3 (ct_J11_checkIndex (Cx.fl C) (Cx.ok C) hj (by omega)) rfl rfl (Nat.le_of_ble_eq_true rfl) (by decide) (Nat.zero_le _) (Nat.zero_le _) (fun z1 h1 q => ?_)
  obtain ⟨hq1, hq2⟩ := q; replace hq1 := hq1.symm; subst hq1; replace hq2 := hq2.symm; subst hq2
  refine ww_aload_n C dJ16_charAt_6 rfl 0 rfl rfl ?_
  refine ww_iload_n C dJ16_charAt_7 rfl 1 rfl ?_
  refine ww_bald C dJ16_charAt_8 Hv (by omega) (by omega) ?_
  refine ww_sipush C dJ16_charAt_9 cS_255 ?_
  refine ww_iand C dJ16_charAt_12 ?_
  refine ww_i2c (v := nI (u j)) C dJ16_charAt_13 (by rw [f1, bs_and f2]; exact i2c0 _ f2) ?_
  exact ww_zret C dJ16_charAt_14 (nar_c f2) (RdP.i rfl)
set_option maxHeartbeats 2000000 in
theorem ct_J11_charAt {l : Launch} {Γ : Gm} (hl : l.flags = flags0) (hΓ : GOK Γ) {z : ZR} {h : AH} {a m : Nat} {u : Nat → Nat} {j : Nat} (hs : StU Γ z h a m u) (hj : j < m) : Ct l Γ yJ11_charAt cJ11_charAt 2 (some .char) 4 0 0 [.ref a, .int (nI j)] z h (RdP z h (some (.int (nI (u j))))) := by
  refine Ct.of hl hΓ (by decide +kernel) (Nat.le_of_ble_eq_true rfl) (fun X e1 e2 C => ?_)
  subst e1; subst e2
  have C : Cx X cJ11_charAt 2 "java/lang/String" "charAt" (some .char) [] 4 := C
  obtain ⟨v, x, y, f, Hs, Hv, hm, hf⟩ := id hs
  obtain ⟨f1, f2⟩ := hf j hj
  show WW X (RdP z h (some (.int (nI (u j))))) z h 0 0 0 [(0, .ref a), (1, .int (nI j))] []
  refine ww_aload_n C dJ11_charAt_0 rfl 0 rfl rfl ?_
  refine cv_J11_492_r (As := []) (rest := []) C dJ11_charAt_1 (ct_J11_isLatin1 (Cx.fl C) (Cx.ok C) hs) (rc_J11 (Cx.ok C) Hs) rfl rfl (Nat.le_of_ble_eq_true rfl) (by decide) (Nat.zero_le _) (Nat.zero_le _) ?_
  refine ww_if_eq_f (tgt := 16) C dJ11_charAt_4 (by decide) (fun q => by cases q) ?_
  refine ww_aload_n C dJ11_charAt_7 rfl 0 rfl rfl ?_
  refine gf_J11_9_J11 C dJ11_charAt_8 Hs rfl ?_
  refine ww_iload_n C dJ11_charAt_11 rfl 1 rfl ?_
  refine cs_J11_495_r (As := [.ref v, .int (nI j)]) (rest := []) C dJ11_charAt_12 (ct_J16_charAt (Cx.fl C) (Cx.ok C) Hv hm hf hj) rfl rfl (Nat.le_of_ble_eq_true rfl) (by decide) (Nat.zero_le _) (Nat.zero_le _) ?_
  exact ww_zret C dJ11_charAt_15 (nar_c f2) (RdP.i rfl)
set_option maxHeartbeats 2000000 in
theorem ct_J16_equals {l : Launch} {Γ : Gm} (hl : l.flags = flags0) (hΓ : GOK Γ) {z : ZR} {h : AH} {v v2 m m2 : Nat} {f g : Nat → Int32} (Hv : rd z h v (.inl (gA Γ 1, (m, .inl f)))) (Hw : rd z h v2 (.inl (gA Γ 1, (m2, .inl g)))) (hm : m < 2 ^ 20) (hm2 : m2 < 2 ^ 20) : Ct l Γ yJ16_equals cJ16_equals 3 (some .boolean) 1 0 0 [.ref v, .ref v2] z h (RdP z h (some (.int (bI (eqF f g m m2))))) := by
  refine Ct.of hl hΓ (by decide +kernel) (Nat.le_of_ble_eq_true rfl) (fun X e1 e2 C => ?_)
  subst e1; subst e2
  have C : Cx X cJ16_equals 3 "java/lang/StringLatin1" "equals" (some .boolean) [] 1 := C
  show WW X (RdP z h (some (.int (bI (eqF f g m m2))))) z h 0 0 0 [(0, .ref v), (1, .ref v2)] []
  refine ww_aload_n C dJ16_equals_0 rfl 0 rfl rfl ?_
  refine ww_alen (t := 1) C dJ16_equals_1 (by decide) Hv ?_
  refine ww_aload_n C dJ16_equals_2 rfl 1 rfl rfl ?_
  refine ww_alen (t := 1) C dJ16_equals_3 (by decide) Hw ?_
  refine ww_icmp_ne_n (tgt := 34) C dJ16_equals_4 (by decide) (by omega) (by omega) (fun c_4 => ?_) (fun c_4 => ?_)
  · skip
    refine ww_iconst C dJ16_equals_34 cI_0 ?_
    exact ww_zret C dJ16_equals_35 nar_z0 (RdP.i (by unfold eqF; rw [decide_eq_false c_4]; try rfl))
  · skip
    refine ww_iconst C dJ16_equals_7 cI_0 ?_
    refine ww_istore_n (lv' := [(2, .int (nI 0)), (0, .ref v), (1, .ref v2)]) C dJ16_equals_8 rfl (by decide) rfl ?_
    refine loop_up (N := m) (M := fun j => ff (fun j => decide (¬ f j = g j)) m 0 = ff (fun j => decide (¬ f j = g j)) (m - j) j → WW X (RdP z h (some (.int (bI (eqF f g m m2))))) z h 0 0 9 [(2, .int (nI j)), (0, .ref v), (1, .ref v2)] []) ?_ ?_ 0 (Nat.zero_le _) rfl
    · intro hv; show WW X (RdP z h (some (.int (bI (eqF f g m m2))))) z h 0 0 9 [(2, .int (nI m)), (0, .ref v), (1, .ref v2)] []
      refine ww_iload_n C dJ16_equals_9 rfl 0 rfl ?_
      refine ww_aload_n C dJ16_equals_10 rfl 1 rfl rfl ?_
      refine ww_alen (t := 1) C dJ16_equals_11 (by decide) Hv ?_
      refine ww_icmp_ge_t (tgt := 32) C dJ16_equals_12 (by decide) (nI_le (Nat.le_refl _) (by omega)) ?_
      refine ww_iconst C dJ16_equals_32 cI_1 ?_
      exact ww_zret C dJ16_equals_33 nar_z1 (RdP.i (by unfold eqF; rw [decide_eq_true c_4, hv, ff_0]; try rfl))
    · intro j hi ih hv
      show WW X (RdP z h (some (.int (bI (eqF f g m m2))))) z h 0 0 9 [(2, .int (nI j)), (0, .ref v), (1, .ref v2)] []
      refine ww_iload_n C dJ16_equals_9 rfl 0 rfl ?_
      refine ww_aload_n C dJ16_equals_10 rfl 1 rfl rfl ?_
      refine ww_alen (t := 1) C dJ16_equals_11 (by decide) Hv ?_
      refine ww_icmp_ge_f (tgt := 32) C dJ16_equals_12 (by decide) (nI_ge hi (by omega)) ?_
      refine ww_aload_n C dJ16_equals_15 rfl 1 rfl rfl ?_
      refine ww_iload_n C dJ16_equals_16 rfl 0 rfl ?_
      refine ww_bald C dJ16_equals_17 Hv (by omega) (by omega) ?_
      refine ww_aload_n C dJ16_equals_18 rfl 2 rfl rfl ?_
      refine ww_iload_n C dJ16_equals_19 rfl 0 rfl ?_
      refine ww_bald C dJ16_equals_20 Hw (by omega) (by omega) ?_
      refine ww_icmp_eq (tgt := 26) C dJ16_equals_21 (by decide) (fun c_21 => ?_) (fun c_21 => ?_)
      · skip
        have hp : (fun j => decide (¬ f j = g j)) j = false := decide_eq_false (fun q => q c_21)
        refine ww_iinc (lv' := [(2, .int (nI (j + 1))), (0, .ref v), (1, .ref v2)]) C dJ16_equals_26 0 rfl (inc_n _) (by decide) rfl ?_
        refine ww_goto (tgt := 9) C dJ16_equals_29 (by decide) ?_
        exact ih (hv.trans (ff_f hi hp))
      · skip
        have hp : (fun j => decide (¬ f j = g j)) j = true := decide_eq_true c_21
        refine ww_iconst C dJ16_equals_24 cI_0 ?_
        exact ww_zret C dJ16_equals_25 nar_z0 (RdP.i (by unfold eqF; rw [decide_eq_true c_4, hv, ff_t hi hp]; try rfl))
end JD2
