section STR3
set_option maxRecDepth 100000
/-- two texts are the same -/
def eqU (u v : Nat → Nat) (m m2 : Nat) : Bool := decide (m = m2) && (ff (fun j => decide (¬ u j = v j)) m 0).isNone
theorem eqU_iff {u v : Nat → Nat} {m m2 : Nat} : eqU u v m m2 = true ↔ m = m2 ∧ ∀ j, j < m → u j = v j := by
  unfold eqU
  rw [Bool.and_eq_true, decide_eq_true_eq, Option.isNone_iff_eq_none]
  refine and_congr_right (fun _ => ⟨fun h j hj => ?_, fun h => ?_⟩)
  · have := ff_no _ _ h j (Nat.zero_le _) (by omega)
    simpa using this
  · exact ff_none _ _ (fun j _ hj => by simpa using h j (by omega))
theorem eqU_t {u v : Nat → Nat} {m m2 : Nat} (h : m = m2) (h2 : ∀ j, j < m → u j = v j) : eqU u v m m2 = true := eqU_iff.mpr ⟨h, h2⟩
theorem eqF_U {u v : Nat → Nat} {f g : Nat → Int32} {m m2 : Nat} (hf : ∀ i, i < m → f i = bs (u i) ∧ u i < 256) (hg : ∀ i, i < m2 → g i = bs (v i) ∧ v i < 256) : eqF f g m m2 = eqU u v m m2 := by
  rw [Bool.eq_iff_iff, eqU_iff]
  unfold eqF
  rw [Bool.and_eq_true, decide_eq_true_eq, Option.isNone_iff_eq_none]
  refine and_congr_right (fun e => ⟨fun h j hj => ?_, fun h => ?_⟩)
  · have := ff_no _ _ h j (Nat.zero_le _) (by omega)
    have q : f j = g j := by simpa using this
    rw [(hf j hj).1, (hg j (by omega)).1] at q
    exact (bs_eq (hf j hj).2 (hg j (by omega)).2).mp q
  · refine ff_none _ _ (fun j _ hj => ?_)
    have q : f j = g j := by rw [(hf j (by omega)).1, (hg j (by omega)).1, h j (by omega)]
    simpa using q
set_option maxHeartbeats 2000000 in
theorem ct_J11_equals {l : Launch} {Γ : Gm} (hl : l.flags = flags0) (hΓ : GOK Γ) {z : ZR} {h : AH} {a b m m2 : Nat} {u u2 : Nat → Nat} (hs : StU Γ z h a m u) (hs2 : StU Γ z h b m2 u2) (hab : a = b → m = m2 ∧ ∀ i, i < m → u i = u2 i) : Ct l Γ yJ11_equals cJ11_equals 3 (some .boolean) 2 0 0 [.ref a, .ref b] z h (RdP z h (some (.int (bI (eqU u u2 m m2))))) := by
  refine Ct.of hl hΓ (by decide +kernel) (Nat.le_of_ble_eq_true rfl) (fun X e1 e2 C => ?_)
  subst e1; subst e2
  have C : Cx X cJ11_equals 3 "java/lang/String" "equals" (some .boolean) [] 2 := C
  obtain ⟨v, x, y, f, Hs, Hv, hm, hf⟩ := id hs
  obtain ⟨v2, x2, y2, f2, Hs2, Hv2, hm2, hf2⟩ := id hs2
  show WW X (RdP z h (some (.int (bI (eqU u u2 m m2))))) z h 0 0 0 [(0, .ref a), (1, .ref b)] []
  refine ww_aload_n C dJ11_equals_0 rfl 0 rfl rfl ?_
  refine ww_aload_n C dJ11_equals_1 rfl 1 rfl rfl ?_
  refine ww_acmp_ne (rx := (some a)) (ry := (some b)) (tgt := 7) C dJ11_equals_2 (by decide) (fun c_2 => ?_) (fun c_2 => ?_)
  · skip
    refine ww_aload_n C dJ11_equals_7 rfl 1 rfl rfl ?_
    refine ww_instS (ci := 25) C q699 rfl dJ11_equals_8 (rc_J11 (Cx.ok C) Hs2) ?_
    refine ww_if_eq_f (tgt := 54) C dJ11_equals_11 (by decide) (nI_ne0 (by decide) (by decide)) ?_
    refine ww_aload_n C dJ11_equals_14 rfl 1 rfl rfl ?_
    refine ww_castS (ci := 25) C q699 rfl dJ11_equals_15 (rc_J11 (Cx.ok C) Hs2) ?_
    refine ww_astore_n (lv' := [(2, .ref b), (0, .ref a), (1, .ref b)]) C dJ11_equals_18 rfl (by decide) rfl rfl ?_
    refine ww_gsv C (si_0 (Cx.ok C)) q621 (fun _ q => q) dJ11_equals_19 ?_
    refine ww_if_eq_f (tgt := 36) C dJ11_equals_22 (by decide) (nI_ne0 (by decide) (by decide)) ?_
    refine ww_aload_n C dJ11_equals_25 rfl 1 rfl rfl ?_
    refine gf_J11_15_J11 C dJ11_equals_26 Hs rfl ?_
    refine ww_aload_n C dJ11_equals_29 rfl 0 rfl rfl ?_
    refine gf_J11_15_J11 C dJ11_equals_30 Hs2 rfl ?_
    refine ww_icmp_ne_f (tgt := 54) C dJ11_equals_33 (by decide) rfl ?_
    refine ww_aload_n C dJ11_equals_36 rfl 1 rfl rfl ?_
    refine gf_J11_9_J11 C dJ11_equals_37 Hs rfl ?_
    refine ww_aload_n C dJ11_equals_40 rfl 0 rfl rfl ?_
    refine gf_J11_9_J11 C dJ11_equals_41 Hs2 rfl ?_
    refine cs_J11_541_r (As := [.ref v, .ref v2]) (rest := []) C dJ11_equals_44 (ct_J16_equals (Cx.fl C) (Cx.ok C) Hv Hv2 hm hm2) rfl rfl (Nat.le_of_ble_eq_true rfl) (by decide) (Nat.zero_le _) (Nat.zero_le _) ?_
    refine ww_tern_eq_b C dJ11_equals_47 dJ11_equals_50 dJ11_equals_51 dJ11_equals_54 ?_
    exact ww_zret C dJ11_equals_55 (nar_bI _) (RdP.i (by rw [eqF_U hf hf2]))
  · skip
    refine ww_iconst C dJ11_equals_5 cI_1 ?_
    exact ww_zret C dJ11_equals_6 nar_z1 (RdP.i (by have e9 := hab (by first | exact Option.some.inj c_2 | exact Option.some.inj (Classical.not_not.mp c_2)); rw [eqU_t e9.1 e9.2]; try rfl))
set_option maxHeartbeats 2000000 in
theorem ct_J16_canEncode_2 {l : Launch} {Γ : Gm} (hl : l.flags = flags0) (hΓ : GOK Γ) {z : ZR} {h : AH} {c : Nat} (hc : c < 256) : Ct l Γ yJ16_canEncode_2 cJ16_canEncode_2 1 (some .boolean) 1 0 0 [.int (nI c)] z h (RdP z h (some (.int (bI true)))) := by
  refine Ct.of hl hΓ (by decide +kernel) (Nat.le_of_ble_eq_true rfl) (fun X e1 e2 C => ?_)
  subst e1; subst e2
  have C : Cx X cJ16_canEncode_2 1 "java/lang/StringLatin1" "canEncode" (some .boolean) [] 1 := C
  show WW X (RdP z h (some (.int (bI true)))) z h 0 0 0 [(0, .int (nI c))] []
  refine ww_iload_n C dJ16_canEncode_2_0 rfl 0 rfl ?_
  refine ww_if_lt_n (tgt := 15) C dJ16_canEncode_2_1 (by decide) (by omega) ?_
  refine ww_iload_n C dJ16_canEncode_2_4 rfl 0 rfl ?_
  refine ww_sipush C dJ16_canEncode_2_5 cS_255 ?_
  refine ww_tern_icmp_gt_n C dJ16_canEncode_2_8 dJ16_canEncode_2_11 dJ16_canEncode_2_12 dJ16_canEncode_2_15 (by omega) (by decide) ?_
  exact ww_zret C dJ16_canEncode_2_16 (nar_bI _) (RdP.i (by rw [decide_eq_true (by omega)]))
set_option maxHeartbeats 2000000 in
theorem ct_J16_indexOfChar {l : Launch} {Γ : Gm} (hl : l.flags = flags0) (hΓ : GOK Γ) {z : ZR} {h : AH} {v m c : Nat} {f : Nat → Int32} {u : Nat → Nat} (Hv : rd z h v (.inl (gA Γ 1, (m, .inl f)))) (hm : m < 2 ^ 20) (hf : ∀ i, i < m → f i = bs (u i) ∧ u i < 256) (hc : c < 256) : Ct l Γ yJ16_indexOfChar cJ16_indexOfChar 6 (some .int) 1 0 0 [.ref v, .int (nI c), .int (nI 0), .int (nI m)] z h (RdP z h (some (.int (oI (ff (fun j => decide (u j = c)) m 0))))) := by
  refine Ct.of hl hΓ (by decide +kernel) (Nat.le_of_ble_eq_true rfl) (fun X e1 e2 C => ?_)
  subst e1; subst e2
  have C : Cx X cJ16_indexOfChar 6 "java/lang/StringLatin1" "indexOfChar" (some .int) [] 1 := C
  show WW X (RdP z h (some (.int (oI (ff (fun j => decide (u j = c)) m 0))))) z h 0 0 0 [(0, .ref v), (1, .int (nI c)), (2, .int (nI 0)), (3, .int (nI m))] []
  refine ww_iload_n C dJ16_indexOfChar_0 rfl 1 rfl ?_
  refine ww_i2b (v := bs c) C dJ16_indexOfChar_1 (by rfl) ?_
  refine ww_istore (lv' := [(4, .int (bs c)), (0, .ref v), (1, .int (nI c)), (2, .int (nI 0)), (3, .int (nI m))]) C dJ16_indexOfChar_2 (by decide) rfl ?_
  refine ww_iload_n C dJ16_indexOfChar_4 rfl 3 rfl ?_
  refine ww_istore (lv' := [(5, .int (nI 0)), (4, .int (bs c)), (0, .ref v), (1, .int (nI c)), (2, .int (nI 0)), (3, .int (nI m))]) C dJ16_indexOfChar_5 (by decide) rfl ?_
  refine ww_sub [0, 1, 2, 5] rfl ?_
  refine loop_up (N := m) (M := fun j => ff (fun j => decide (u j = c)) m 0 = ff (fun j => decide (u j = c)) (m - j) j → WW X (RdP z h (some (.int (oI (ff (fun j => decide (u j = c)) m 0))))) z h 0 0 7 [(5, .int (nI j)), (4, .int (bs c)), (0, .ref v), (3, .int (nI m))] []) ?_ ?_ 0 (Nat.zero_le _) rfl
  · intro hv; show WW X (RdP z h (some (.int (oI (ff (fun j => decide (u j = c)) m 0))))) z h 0 0 7 [(5, .int (nI m)), (4, .int (bs c)), (0, .ref v), (3, .int (nI m))] []
    refine ww_iload C dJ16_indexOfChar_7 0 rfl ?_
    refine ww_iload_n C dJ16_indexOfChar_9 rfl 3 rfl ?_
    refine ww_icmp_ge_t (tgt := 31) C dJ16_indexOfChar_10 (by decide) (nI_le (Nat.le_refl _) (by omega)) ?_
    refine ww_iconst C dJ16_indexOfChar_31 cI_m1 ?_
    exact ww_iret C dJ16_indexOfChar_32 (RdP.i (by rw [hv, ff_0]; try rfl))
  · intro j hi ih hv
    show WW X (RdP z h (some (.int (oI (ff (fun j => decide (u j = c)) m 0))))) z h 0 0 7 [(5, .int (nI j)), (4, .int (bs c)), (0, .ref v), (3, .int (nI m))] []
    obtain ⟨f1, f2⟩ := hf j hi
    refine ww_iload C dJ16_indexOfChar_7 0 rfl ?_
    refine ww_iload_n C dJ16_indexOfChar_9 rfl 3 rfl ?_
    refine ww_icmp_ge_f (tgt := 31) C dJ16_indexOfChar_10 (by decide) (nI_ge hi (by omega)) ?_
    refine ww_aload_n C dJ16_indexOfChar_13 rfl 2 rfl rfl ?_
    refine ww_iload C dJ16_indexOfChar_14 0 rfl ?_
    refine ww_bald C dJ16_indexOfChar_16 Hv (by omega) (by omega) ?_
    refine ww_iload C dJ16_indexOfChar_17 1 rfl ?_
    refine ww_icmp_ne (tgt := 25) C dJ16_indexOfChar_19 (by decide) (fun c_19 => ?_) (fun c_19 => ?_)
    · skip
      have hp : (fun j => decide (u j = c)) j = false := decide_eq_false (fun q => c_19 (by rw [f1, q]))
      refine ww_iinc (lv' := [(5, .int (nI (j + 1))), (4, .int (bs c)), (0, .ref v), (3, .int (nI m))]) C dJ16_indexOfChar_25 0 rfl (inc_n _) (by decide) rfl ?_
      refine ww_goto (tgt := 7) C dJ16_indexOfChar_28 (by decide) ?_
      exact ih (hv.trans (ff_f hi hp))
    · skip
      have hp : (fun j => decide (u j = c)) j = true := decide_eq_true ((bs_eq f2 hc).mp (by first | (rw [← f1]; exact c_19) | (rw [← f1]; exact Classical.not_not.mp c_19)))
      refine ww_iload C dJ16_indexOfChar_22 0 rfl ?_
      exact ww_iret C dJ16_indexOfChar_24 (RdP.i (by rw [hv, ff_t hi hp]; try rfl))
set_option maxHeartbeats 2000000 in
theorem ct_J16_indexOf {l : Launch} {Γ : Gm} (hl : l.flags = flags0) (hΓ : GOK Γ) {z : ZR} {h : AH} {v m c : Nat} {f : Nat → Int32} {u : Nat → Nat} (Hv : rd z h v (.inl (gA Γ 1, (m, .inl f)))) (hm : m < 2 ^ 20) (hm1 : 0 < m) (hf : ∀ i, i < m → f i = bs (u i) ∧ u i < 256) (hc : c < 256) : Ct l Γ yJ16_indexOf cJ16_indexOf 4 (some .int) 2 0 0 [.ref v, .int (nI c), .int (nI 0), .int (nI m)] z h (RdP z h (some (.int (oI (ff (fun j => decide (u j = c)) m 0))))) := by
  refine Ct.of hl hΓ (by decide +kernel) (Nat.le_of_ble_eq_true rfl) (fun X e1 e2 C => ?_)
  subst e1; subst e2
  have C : Cx X cJ16_indexOf 4 "java/lang/StringLatin1" "indexOf" (some .int) [] 2 := C
  show WW X (RdP z h (some (.int (oI (ff (fun j => decide (u j = c)) m 0))))) z h 0 0 0 [(0, .ref v), (1, .int (nI c)), (2, .int (nI 0)), (3, .int (nI m))] []
  refine ww_iload_n C dJ16_indexOf_0 rfl 1 rfl ?_
  refine cs_J16_88_r (As := [.int (nI c)]) (rest := []) C dJ16_indexOf_1 (ct_J16_canEncode_2 (Cx.fl C) (Cx.ok C) hc) rfl rfl (Nat.le_of_ble_eq_true rfl) (by decide) (Nat.zero_le _) (Nat.zero_le _) ?_
  refine ww_if_ne_t (tgt := 9) C dJ16_indexOf_4 (by decide) (fun q => by cases q) ?_
  refine ww_iload_n C dJ16_indexOf_9 rfl 2 rfl ?_
  refine ww_iconst C dJ16_indexOf_10 cI_0 ?_
  refine cs_J16_92_r (As := [.int (nI 0), .int (nI 0)]) (rest := []) C dJ16_indexOf_11 (ct_J14_max (Cx.fl C) (Cx.ok C) (a := 0) (b := 0) (by omega) (by omega)) rfl rfl (Nat.le_of_ble_eq_true rfl) (by decide) (Nat.zero_le _) (Nat.zero_le _) ?_
  refine ww_st (st' := [.int (nI 0)]) (by rfl) ?_
  refine ww_istore_n (lv' := [(2, .int (nI 0)), (0, .ref v), (1, .int (nI c)), (3, .int (nI m))]) C dJ16_indexOf_14 rfl (by decide) rfl ?_
  refine ww_iload_n C dJ16_indexOf_15 rfl 3 rfl ?_
  refine ww_aload_n C dJ16_indexOf_16 rfl 1 rfl rfl ?_
  refine ww_alen (t := 1) C dJ16_indexOf_17 (by decide) Hv ?_
  refine cs_J16_38_r (As := [.int (nI m), .int (nI m)]) (rest := []) C dJ16_indexOf_18 (ct_J14_min (Cx.fl C) (Cx.ok C) (a := m) (b := m) (by omega) (by omega)) rfl rfl (Nat.le_of_ble_eq_true rfl) (by decide) (Nat.zero_le _) (Nat.zero_le _) ?_
  refine ww_st (st' := [.int (nI m)]) (by rw [Nat.min_self]) ?_
  refine ww_istore_n (lv' := [(3, .int (nI m)), (2, .int (nI 0)), (0, .ref v), (1, .int (nI c))]) C dJ16_indexOf_21 rfl (by decide) rfl ?_
  refine ww_iload_n C dJ16_indexOf_22 rfl 1 rfl ?_
  refine ww_iload_n C dJ16_indexOf_23 rfl 0 rfl ?_
  refine ww_icmp_lt_t (tgt := 29) C dJ16_indexOf_24 (by decide) (nI_lt hm1 (by omega)) ?_
  refine ww_aload_n C dJ16_indexOf_29 rfl 2 rfl rfl ?_
  refine ww_iload_n C dJ16_indexOf_30 rfl 3 rfl ?_
  refine ww_iload_n C dJ16_indexOf_31 rfl 1 rfl ?_
  refine ww_iload_n C dJ16_indexOf_32 rfl 0 rfl ?_
  refine cs_J16_95_r (As := [.ref v, .int (nI c), .int (nI 0), .int (nI m)]) (rest := []) C dJ16_indexOf_33 (ct_J16_indexOfChar (Cx.fl C) (Cx.ok C) Hv hm hf hc) rfl rfl (Nat.le_of_ble_eq_true rfl) (by decide) (Nat.zero_le _) (Nat.zero_le _) ?_
  exact ww_iret C dJ16_indexOf_36 (RdP.i rfl)
set_option maxHeartbeats 2000000 in
theorem ct_J11_indexOf_2 {l : Launch} {Γ : Gm} (hl : l.flags = flags0) (hΓ : GOK Γ) {z : ZR} {h : AH} {a m c : Nat} {u : Nat → Nat} (hs : StU Γ z h a m u) (hm1 : 0 < m) (hc : c < 256) : Ct l Γ yJ11_indexOf_2 cJ11_indexOf_2 3 (some .int) 3 0 0 [.ref a, .int (nI c), .int (nI 0)] z h (RdP z h (some (.int (oI (ff (fun j => decide (u j = c)) m 0))))) := by
  refine Ct.of hl hΓ (by decide +kernel) (Nat.le_of_ble_eq_true rfl) (fun X e1 e2 C => ?_)
  subst e1; subst e2
  have C : Cx X cJ11_indexOf_2 3 "java/lang/String" "indexOf" (some .int) [] 3 := C
  obtain ⟨v, x, y, f, Hs, Hv, hm, hf⟩ := id hs
  show WW X (RdP z h (some (.int (oI (ff (fun j => decide (u j = c)) m 0))))) z h 0 0 0 [(0, .ref a), (1, .int (nI c)), (2, .int (nI 0))] []
  refine ww_aload_n C dJ11_indexOf_2_0 rfl 0 rfl rfl ?_
  refine cv_J11_492_r (As := []) (rest := []) C dJ11_indexOf_2_1 (ct_J11_isLatin1 (Cx.fl C) (Cx.ok C) hs) (rc_J11 (Cx.ok C) Hs) rfl rfl (Nat.le_of_ble_eq_true rfl) (by decide) (Nat.zero_le _) (Nat.zero_le _) ?_
  refine ww_if_eq_f (tgt := 23) C dJ11_indexOf_2_4 (by decide) (fun q => by cases q) ?_
  refine ww_aload_n C dJ11_indexOf_2_7 rfl 0 rfl rfl ?_
  refine gf_J11_9_J11 C dJ11_indexOf_2_8 Hs rfl ?_
  refine ww_iload_n C dJ11_indexOf_2_11 rfl 1 rfl ?_
  refine ww_iload_n C dJ11_indexOf_2_12 rfl 2 rfl ?_
  refine ww_aload_n C dJ11_indexOf_2_13 rfl 0 rfl rfl ?_
  refine cv_J11_505_r (As := []) (rest := [.int (nI 0), .int (nI c), .ref v]) C dJ11_indexOf_2_14 (ct_J11_length (Cx.fl C) (Cx.ok C) hs) (rc_J11 (Cx.ok C) Hs) rfl rfl (Nat.le_of_ble_eq_true rfl) (by decide) (Nat.zero_le _) (Nat.zero_le _) ?_
  refine cs_J11_637_r (As := [.ref v, .int (nI c), .int (nI 0), .int (nI m)]) (rest := []) C dJ11_indexOf_2_17 (ct_J16_indexOf (Cx.fl C) (Cx.ok C) Hv hm hm1 hf hc) rfl rfl (Nat.le_of_ble_eq_true rfl) (by decide) (Nat.zero_le _) (Nat.zero_le _) ?_
  refine ww_goto (tgt := 36) C dJ11_indexOf_2_20 (by decide) ?_
  exact ww_iret C dJ11_indexOf_2_36 (RdP.i rfl)
set_option maxHeartbeats 2000000 in
theorem ct_J11_indexOf {l : Launch} {Γ : Gm} (hl : l.flags = flags0) (hΓ : GOK Γ) {z : ZR} {h : AH} {a m c : Nat} {u : Nat → Nat} (hs : StU Γ z h a m u) (hm1 : 0 < m) (hc : c < 256) : Ct l Γ yJ11_indexOf cJ11_indexOf 2 (some .int) 4 0 0 [.ref a, .int (nI c)] z h (RdP z h (some (.int (oI (ff (fun j => decide (u j = c)) m 0))))) := by
  refine Ct.of hl hΓ (by decide +kernel) (Nat.le_of_ble_eq_true rfl) (fun X e1 e2 C => ?_)
  subst e1; subst e2
  have C : Cx X cJ11_indexOf 2 "java/lang/String" "indexOf" (some .int) [] 4 := C
  obtain ⟨v, x, y, f, Hs, Hv, hm, hf⟩ := id hs
  show WW X (RdP z h (some (.int (oI (ff (fun j => decide (u j = c)) m 0))))) z h 0 0 0 [(0, .ref a), (1, .int (nI c))] []
  refine ww_aload_n C dJ11_indexOf_0 rfl 0 rfl rfl ?_
  refine ww_iload_n C dJ11_indexOf_1 rfl 1 rfl ?_
  refine ww_iconst C dJ11_indexOf_2 cI_0 ?_
  refine cv_J11_633_r (As := [.int (nI c), .int (nI 0)]) (rest := []) C dJ11_indexOf_3 (ct_J11_indexOf_2 (Cx.fl C) (Cx.ok C) hs hm1 hc) (rc_J11 (Cx.ok C) Hs) rfl rfl (Nat.le_of_ble_eq_true rfl) (by decide) (Nat.zero_le _) (Nat.zero_le _) ?_
  exact ww_iret C dJ11_indexOf_6 (RdP.i rfl)
end STR3
