section SB2
set_option maxRecDepth 100000
theorem SbI.nw {Γ : Gm} {h0 h : AH} {a m cap s : Nat} {u : Nat → Nat} {e : va_E} (hS : SbI Γ h0 h a m cap u) (hs : h s = none) : SbI Γ h0 (up h s e) a m cap u := by
  obtain ⟨v, f, y, hl0, a0, v0, Ha, Hv, r⟩ := hS
  have k : ∀ q e', h q = some e' → up h s e q = some e' := fun q e' hq => by
    rw [up_n (ne_nw hq hs)]; exact hq
  exact ⟨v, f, y, fun q e' hq => k q e' (hl0 q e' hq), a0, v0, k _ _ Ha, k _ _ Hv, r⟩
set_option maxHeartbeats 2000000 in
theorem ct_J15_checkLength {l : Launch} {Γ : Gm} (hl : l.flags = flags0) (hΓ : GOK Γ) {z : ZR} {h : AH} {m : Nat} (hm : m < 2 ^ 20) : Ct l Γ yJ15_checkLength cJ15_checkLength 2 none 1 0 0 [.int (nI 0), .int (nI m)] z h (Rn (fun z' h' => z' = z ∧ h' = h)) := by
  refine Ct.of hl hΓ (by decide +kernel) (Nat.le_of_ble_eq_true rfl) (fun X e1 e2 C => ?_)
  subst e1; subst e2
  have C : Cx X cJ15_checkLength 2 "java/util/Arrays" "checkLength" none [] 1 := C
  show WW X (Rn (fun z' h' => z' = z ∧ h' = h)) z h 0 0 0 [(0, .int (nI 0)), (1, .int (nI m))] []
  refine ww_iload_n C dJ15_checkLength_0 rfl 1 rfl ?_
  refine ww_iload_n C dJ15_checkLength_1 rfl 0 rfl ?_
  refine ww_icmp_ge_n (tgt := 37) C dJ15_checkLength_2 (by decide) (by omega) (by decide) (fun c_2 => ?_) (fun c_2 => ?_)
  · skip
    exact ww_vret C dJ15_checkLength_37 ⟨rfl, rfl⟩
  · skip
    omega
set_option maxHeartbeats 2000000 in
theorem ct_J15_copyOfRangeByte {l : Launch} {Γ : Gm} (hl : l.flags = flags0) (hΓ : GOK Γ) {z : ZR} {h : AH} {a cap m : Nat} {f : Nat → Int32} (Ha : h a = some (.inl (gA Γ 1, (cap, .inl f)))) (hn : cap < 2 ^ 20) (hm : m ≤ cap) (hf : ∀ i, i < cap → fits .byte (.int (f i)) = true) : Ct l Γ yJ15_copyOfRangeByte cJ15_copyOfRangeByte 5 (some (.array .byte)) 3 1 m [.ref a, .int (nI 0), .int (nI m)] z h (Rv (fun v z' h' => ∃ b g, v = .ref b ∧ h b = none ∧ (∀ e, ¬ z b e) ∧ z' = z ∧ h' = up h b (.inl (gA Γ 1, (m, .inl g))) ∧ ∀ i, i < m → g i = f i)) := by
  refine Ct.of hl hΓ (by decide +kernel) (Nat.le_of_ble_eq_true rfl) (fun X e1 e2 C => ?_)
  subst e1; subst e2
  have C : Cx X cJ15_copyOfRangeByte 5 "java/util/Arrays" "copyOfRangeByte" (some (.array .byte)) [] 3 := C
  show WW X (Rv (fun v z' h' => ∃ b g, v = .ref b ∧ h b = none ∧ (∀ e, ¬ z b e) ∧ z' = z ∧ h' = up h b (.inl (gA (xG X) 1, (m, .inl g))) ∧ ∀ i, i < m → g i = f i)) z h 1 m 0 [(0, .ref a), (1, .int (nI 0)), (2, .int (nI m))] []
  refine ww_iload_n C dJ15_copyOfRangeByte_0 rfl 1 rfl ?_
  refine ww_iload_n C dJ15_copyOfRangeByte_1 rfl 2 rfl ?_
  refine cs_J15_343_q (As := [.int (nI 0), .int (nI m)]) (rest := []) C dJ15_copyOfRangeByte_2 (ct_J15_checkLength (Cx.fl C) (Cx.ok C) (by omega)) rfl rfl (Nat.le_of_ble_eq_true rfl) (by decide) (Nat.zero_le _) (Nat.zero_le _) (fun z1 k1 q => ?_)
  obtain ⟨hq1, hq2⟩ := q; replace hq1 := hq1.symm; subst hq1; replace hq2 := hq2.symm; subst hq2
  refine ww_iload_n C dJ15_copyOfRangeByte_5 rfl 2 rfl ?_
  refine ww_iload_n C dJ15_copyOfRangeByte_6 rfl 1 rfl ?_
  refine ww_isubn C dJ15_copyOfRangeByte_7 (by omega) ?_
  refine ww_st (st' := [.int (nI m)]) (by rw [Nat.sub_zero]) ?_
  refine ww_istore_n (lv' := [(3, .int (nI m)), (0, .ref a), (1, .int (nI 0)), (2, .int (nI m))]) C dJ15_copyOfRangeByte_8 rfl (by decide) rfl ?_
  refine ww_iload_n C dJ15_copyOfRangeByte_9 rfl 0 rfl ?_
  refine ww_newa (t := 1) (n := m) (a0 := (m, .inl (fun _ => 0))) C dJ15_copyOfRangeByte_10 (by decide) rfl q189 (fun cA => vp_cell_el cA _) (by omega) (by decide) (by omega) (fun b b_n b_z b_g => ?_)
  refine ww_gen (fun h1 hE1 => ?_)
  have Ha_h1 : h1 a = some (.inl (gA (xG X) 1, (cap, .inl f))) := by rw [hE1, up_n (ne_nw Ha b_n)]; exact Ha
  have N1_h1 : h1 b = some (.inl (gA (xG X) 1, (m, .inl (fun _ => 0)))) := by rw [hE1]; exact up_s
  refine ww_astore (lv' := [(4, .ref b), (3, .int (nI m)), (0, .ref a), (1, .int (nI 0)), (2, .int (nI m))]) C dJ15_copyOfRangeByte_12 (by decide) rfl rfl ?_
  refine ww_aload_n C dJ15_copyOfRangeByte_14 rfl 2 rfl rfl ?_
  refine ww_iload_n C dJ15_copyOfRangeByte_15 rfl 3 rfl ?_
  refine ww_aload C dJ15_copyOfRangeByte_16 0 rfl rfl ?_
  refine ww_iconst C dJ15_copyOfRangeByte_18 cI_0 ?_
  refine ww_aload_n C dJ15_copyOfRangeByte_19 rfl 2 rfl rfl ?_
  refine ww_alen (t := 1) C dJ15_copyOfRangeByte_20 (by decide) (Or.inl Ha_h1) ?_
  refine ww_iload_n C dJ15_copyOfRangeByte_21 rfl 3 rfl ?_
  refine ww_isubn C dJ15_copyOfRangeByte_22 (by omega) ?_
  refine ww_st (st' := [.int (nI cap), .int (nI 0), .ref b, .int (nI 0), .ref a]) (by rw [Nat.sub_zero]) ?_
  refine ww_iload_n C dJ15_copyOfRangeByte_23 rfl 1 rfl ?_
  refine cs_J15_304_r (As := [.int (nI cap), .int (nI m)]) (rest := [.int (nI 0), .ref b, .int (nI 0), .ref a]) C dJ15_copyOfRangeByte_24 (ct_J14_min (Cx.fl C) (Cx.ok C) (a := cap) (b := m) (by omega) (by omega)) rfl rfl (Nat.le_of_ble_eq_true rfl) (by decide) (Nat.zero_le _) (Nat.zero_le _) ?_
  refine ww_st (st' := [.int (nI m), .int (nI 0), .ref b, .int (nI 0), .ref a]) (by rw [show min cap m = m by omega]) ?_
  refine ww_copyi (t := 1) (n := m) (sp := 0) (dp := 0) (n0 := cap) (n1 := m) C q427 q429 q428 q126 dJ15_copyOfRangeByte_27 (by decide) (by decide +kernel) Ha_h1 N1_h1 (by omega) (by omega) (by omega) (by omega) (fun i hi => by rw [Nat.zero_add]; exact hf i (by omega)) (by omega) (Nat.le_of_ble_eq_true rfl) ?_
  refine ww_gen (fun h2 hE2 => ?_)
  have Ha_h2 : h2 a = some (.inl (gA (xG X) 1, (cap, .inl f))) := by rw [hE2, up_n (ne_nw Ha b_n)]; exact Ha_h1
  have N1_h2 : h2 b = some (.inl (gA (xG X) 1, (m, .inl (va_cpy f (fun _ => 0) 0 0 m)))) := by rw [hE2]; exact up_s
  refine ww_aload C dJ15_copyOfRangeByte_30 0 rfl rfl ?_
  exact ww_aret C (Or.inr ⟨_, rfl⟩) dJ15_copyOfRangeByte_32 rfl ⟨b, _, rfl, b_n, b_z, rfl, by rw [hE2, hE1, up_up], fun i hi => cpy_in hi⟩
set_option maxHeartbeats 2000000 in
theorem ct_J15_copyOfRange {l : Launch} {Γ : Gm} (hl : l.flags = flags0) (hΓ : GOK Γ) {z : ZR} {h : AH} {a cap m : Nat} {f : Nat → Int32} (Ha : h a = some (.inl (gA Γ 1, (cap, .inl f)))) (hn : cap < 2 ^ 20) (hm : m ≤ cap) (hf : ∀ i, i < cap → fits .byte (.int (f i)) = true) : Ct l Γ yJ15_copyOfRange cJ15_copyOfRange 3 (some (.array .byte)) 4 1 m [.ref a, .int (nI 0), .int (nI m)] z h (Rv (fun v z' h' => ∃ b g, v = .ref b ∧ h b = none ∧ (∀ e, ¬ z b e) ∧ z' = z ∧ h' = up h b (.inl (gA Γ 1, (m, .inl g))) ∧ ∀ i, i < m → g i = f i)) := by
  refine Ct.of hl hΓ (by decide +kernel) (Nat.le_of_ble_eq_true rfl) (fun X e1 e2 C => ?_)
  subst e1; subst e2
  have C : Cx X cJ15_copyOfRange 3 "java/util/Arrays" "copyOfRange" (some (.array .byte)) [] 4 := C
  show WW X (Rv (fun v z' h' => ∃ b g, v = .ref b ∧ h b = none ∧ (∀ e, ¬ z b e) ∧ z' = z ∧ h' = up h b (.inl (gA (xG X) 1, (m, .inl g))) ∧ ∀ i, i < m → g i = f i)) z h 1 m 0 [(0, .ref a), (1, .int (nI 0)), (2, .int (nI m))] []
  refine ww_iload_n C dJ15_copyOfRange_0 rfl 1 rfl ?_
  refine ww_if_ne_f (tgt := 10) C dJ15_copyOfRange_1 (by decide) rfl ?_
  refine ww_iload_n C dJ15_copyOfRange_4 rfl 2 rfl ?_
  refine ww_aload_n C dJ15_copyOfRange_5 rfl 0 rfl rfl ?_
  refine ww_alen (t := 1) C dJ15_copyOfRange_6 (by decide) (Or.inl Ha) ?_
  refine ww_icmp_eq_n (tgt := 17) C dJ15_copyOfRange_7 (by decide) (by omega) (by omega) (fun c_7 => ?_) (fun c_7 => ?_)
  · skip
    have hmc : m = cap := c_7
    subst hmc
    refine ww_aload_n C dJ15_copyOfRange_17 rfl 0 rfl rfl ?_
    refine ww_clone (n := m) (f := f) C q417 dJ15_copyOfRange_18 Ha hf (by decide) (Nat.le_of_ble_eq_true rfl) (by decide) (Nat.le_refl _) (fun b b_n b_z b_g => ?_)
    refine ww_gen (fun h1 hE1 => ?_)
    have Ha_h1 : h1 a = some (.inl (gA (xG X) 1, (m, .inl f))) := by rw [hE1, up_n (ne_nw Ha b_n)]; exact Ha
    have N1_h1 : h1 b = some (.inl (gA (xG X) 1, (m, .inl f))) := by rw [hE1]; exact up_s
    refine ww_castB C q423 dJ15_copyOfRange_21 N1_h1 ?_
    exact ww_aret C (Or.inr ⟨_, rfl⟩) dJ15_copyOfRange_24 rfl ⟨b, f, rfl, b_n, b_z, rfl, hE1, fun _ _ => rfl⟩
  · skip
    refine ww_aload_n C dJ15_copyOfRange_10 rfl 0 rfl rfl ?_
    refine ww_iload_n C dJ15_copyOfRange_11 rfl 1 rfl ?_
    refine ww_iload_n C dJ15_copyOfRange_12 rfl 2 rfl ?_
    refine cs_J15_339_q (As := [.ref a, .int (nI 0), .int (nI m)]) (rest := []) C dJ15_copyOfRange_13 (ct_J15_copyOfRangeByte (Cx.fl C) (Cx.ok C) Ha hn hm hf) rfl rfl (Nat.le_of_ble_eq_true rfl) (by decide) (Nat.le_refl _) (Nat.le_refl _) (fun v z1 k1 q => ?_)
    obtain ⟨b, g, hv, hq⟩ := q; subst hv
    exact ww_aret C (Or.inr ⟨_, rfl⟩) dJ15_copyOfRange_16 rfl ⟨b, g, rfl, hq⟩
set_option maxHeartbeats 2000000 in
theorem ct_J10_length {l : Launch} {Γ : Gm} (hl : l.flags = flags0) (hΓ : GOK Γ) {z : ZR} {h : AH} {b v m : Nat} {y : Int32} (Hb : h b = some (.inr (24, [.ref v, .int (nI 0), .int y, .int (nI m)]))) : Ct l Γ yJ10_length cJ10_length 1 (some .int) 2 0 0 [.ref b] z h (RdP z h (some (.int (nI m)))) := by
  refine Ct.of hl hΓ (by decide +kernel) (Nat.le_of_ble_eq_true rfl) (fun X e1 e2 C => ?_)
  subst e1; subst e2
  have C : Cx X cJ10_length 1 "java/lang/StringBuilder" "length" (some .int) [] 2 := C
  show WW X (RdP z h (some (.int (nI m)))) z h 0 0 0 [(0, .ref b)] []
  refine ww_aload_n C dJ10_length_0 rfl 0 rfl rfl ?_
  refine cu_J10_343_r (As := []) (rest := []) C dJ10_length_1 (ct_J9_length (Cx.fl C) (Cx.ok C) Hb) (rc_J10 (Cx.ok C) (Or.inl Hb)) rfl rfl (Nat.le_of_ble_eq_true rfl) (by decide) (Nat.zero_le _) (Nat.zero_le _) ?_
  exact ww_iret C dJ10_length_4 (RdP.i rfl)
set_option maxHeartbeats 2000000 in
theorem ct_J11_init_2 {l : Launch} {Γ : Gm} (hl : l.flags = flags0) (hΓ : GOK Γ) {z : ZR} {h : AH} {a b m cap : Nat} {u : Nat → Nat} {h0 : AH} {e : Value} {c x k : Int32} (Ha : h a = some (.inr (25, [e, .int c, .int x, .int k]))) (hS : SbI Γ h0 h b m cap u) (hcap : cap < 2 ^ 18) : Ct l Γ yJ11_init_2 cJ11_init_2 5 none 5 1 m [.ref a, .ref b, .null] z h (Rn (fun z' h' => z' = z ∧ ∃ w g, h w = none ∧ (∀ e, ¬ z w e) ∧ (∀ i, i < m → g i = bs (u i) ∧ u i < 256) ∧ h' = up (up h w (.inl (gA Γ 1, (m, .inl g)))) a (.inr (25, [.ref w, .int (nI 0), .int x, .int k])))) := by
  refine Ct.of hl hΓ (by decide +kernel) (Nat.le_of_ble_eq_true rfl) (fun X e1 e2 C => ?_)
  subst e1; subst e2
  have C : Cx X cJ11_init_2 5 "java/lang/String" "<init>" none [] 5 := C
  obtain ⟨v, f, y, hl0, b0, v0, Hb, Hv, hm, hu, hz⟩ := id hS
  have Hv : h v = some (.inl (gA (xG X) 1, (cap, .inl f))) := Hv
  have hf : ∀ i, i < cap → fits .byte (.int (f i)) = true := fun i hi => sb_fit hu hz hi
  show WW X (Rn (fun z' h' => z' = z ∧ ∃ w g, h w = none ∧ (∀ e, ¬ z w e) ∧ (∀ i, i < m → g i = bs (u i) ∧ u i < 256) ∧ h' = up (up h w (.inl (gA (xG X) 1, (m, .inl g)))) a (.inr (25, [.ref w, .int (nI 0), .int x, .int k])))) z h 1 m 0 [(0, .ref a), (1, .ref b), (2, .null)] []
  refine ww_aload_n C dJ11_init_2_0 rfl 0 rfl rfl ?_
  refine ww_objInit C q495 q172 q173 dJ11_init_2_1 (by decide) (Nat.le_of_ble_eq_true rfl) ?_
  refine ww_aload_n C dJ11_init_2_4 rfl 1 rfl rfl ?_
  refine ca_J11_552_J10_r (As := []) (rest := []) C dJ11_init_2_5 (ct_J9_getValue (Cx.fl C) (Cx.ok C) Hb) (rc_J10 (Cx.ok C) (Or.inl Hb)) rfl rfl (Nat.le_of_ble_eq_true rfl) (by decide) (Nat.zero_le _) (Nat.zero_le _) ?_
  refine ww_astore_n (lv' := [(3, .ref v), (0, .ref a), (1, .ref b), (2, .null)]) C dJ11_init_2_8 rfl (by decide) rfl rfl ?_
  refine ww_aload_n C dJ11_init_2_9 rfl 2 rfl rfl ?_
  refine ca_J11_549_J10_r (As := []) (rest := []) C dJ11_init_2_10 (ct_J10_length (Cx.fl C) (Cx.ok C) Hb) (rc_J10 (Cx.ok C) (Or.inl Hb)) rfl rfl (Nat.le_of_ble_eq_true rfl) (by decide) (Nat.zero_le _) (Nat.zero_le _) ?_
  refine ww_istore (lv' := [(4, .int (nI m)), (3, .ref v), (0, .ref a), (1, .ref b), (2, .null)]) C dJ11_init_2_13 (by decide) rfl ?_
  refine ww_aload_n C dJ11_init_2_15 rfl 3 rfl rfl ?_
  refine ca_J11_1047_J10_r (As := []) (rest := []) C dJ11_init_2_16 (ct_J9_isLatin1 (Cx.fl C) (Cx.ok C) Hb) (rc_J10 (Cx.ok C) (Or.inl Hb)) rfl rfl (Nat.le_of_ble_eq_true rfl) (by decide) (Nat.zero_le _) (Nat.zero_le _) ?_
  refine ww_if_eq_f (tgt := 41) C dJ11_init_2_19 (by decide) (fun q => by cases q) ?_
  refine ww_aload_n C dJ11_init_2_22 rfl 2 rfl rfl ?_
  refine ww_iconst C dJ11_init_2_23 cI_0 ?_
  refine pf_J11_15_J11 (fs' := [e, .int (nI 0), .int x, .int k]) C dJ11_init_2_24 Ha rfl (by decide +kernel) (Nat.le_of_ble_eq_true rfl) rfl ?_
  refine ww_gen (fun h1 hE1 => ?_)
  have Hb_h1 : h1 b = some (.inr (24, [.ref v, .int (nI 0), .int y, .int (nI m)])) := by rw [hE1, up_n (ne_ob Hb Ha (by simp))]; exact Hb
  have Hv_h1 : h1 v = some (.inl (gA (xG X) 1, (cap, .inl f))) := by rw [hE1, up_n (ne_ob Hv Ha (by simp))]; exact Hv
  have Ha_h1 : h1 a = some (.inr (25, [e, .int (nI 0), .int x, .int k])) := by rw [hE1]; exact up_s
  refine ww_aload_n C dJ11_init_2_27 rfl 2 rfl rfl ?_
  refine ww_aload_n C dJ11_init_2_28 rfl 1 rfl rfl ?_
  refine ww_iconst C dJ11_init_2_29 cI_0 ?_
  refine ww_iload C dJ11_init_2_30 0 rfl ?_
  refine cs_J11_54_q (As := [.ref v, .int (nI 0), .int (nI m)]) (rest := [.ref a]) C dJ11_init_2_32 (ct_J15_copyOfRange (Cx.fl C) (Cx.ok C) Hv_h1 (by omega) hm hf) rfl rfl (Nat.le_of_ble_eq_true rfl) (by decide) (Nat.le_refl _) (Nat.le_refl _) (fun vv z1 k1 q => ?_)
  obtain ⟨w, g, hv, w_n, w_z, hq1, hK, hg⟩ := q; subst hv; replace hq1 := hq1.symm; subst hq1
  have haw : a ≠ w := ne_nw Ha_h1 w_n
  have Ha2 : k1 a = some (.inr (25, [e, .int (nI 0), .int x, .int k])) := by rw [hK, up_n haw]; exact Ha_h1
  refine pf_J11_9_J11 (fs' := [.ref w, .int (nI 0), .int x, .int k]) C dJ11_init_2_35 Ha2 rfl rfl (Nat.le_of_ble_eq_true rfl) rfl ?_
  refine ww_gen (fun h2 hE2 => ?_)
  have Ha2_h2 : h2 a = some (.inr (25, [.ref w, .int (nI 0), .int x, .int k])) := by rw [hE2]; exact up_s
  refine ww_goto (tgt := 97) C dJ11_init_2_38 (by decide) ?_
  have w_n0 : h w = none := by rw [hE1, up_n (Ne.symm haw)] at w_n; exact w_n
  exact ww_vret C dJ11_init_2_97 ⟨rfl, w, g, w_n0, w_z, fun i hi => by rw [hg i hi]; exact hu i hi, by rw [hE2, hK, hE1, up_cm haw, up_up]⟩
set_option maxHeartbeats 2000000 in
theorem ct_J11_init {l : Launch} {Γ : Gm} (hl : l.flags = flags0) (hΓ : GOK Γ) {z : ZR} {h : AH} {a b m cap : Nat} {u : Nat → Nat} {h0 : AH} {e : Value} {c x k : Int32} (Ha : h a = some (.inr (25, [e, .int c, .int x, .int k]))) (hS : SbI Γ h0 h b m cap u) (hcap : cap < 2 ^ 18) : Ct l Γ yJ11_init cJ11_init 2 none 6 1 m [.ref a, .ref b] z h (Rn (fun z' h' => z' = z ∧ ∃ w g, h w = none ∧ (∀ e, ¬ z w e) ∧ (∀ i, i < m → g i = bs (u i) ∧ u i < 256) ∧ h' = up (up h w (.inl (gA Γ 1, (m, .inl g)))) a (.inr (25, [.ref w, .int (nI 0), .int x, .int k])))) := by
  refine Ct.of hl hΓ (by decide +kernel) (Nat.le_of_ble_eq_true rfl) (fun X e1 e2 C => ?_)
  subst e1; subst e2
  have C : Cx X cJ11_init 2 "java/lang/String" "<init>" none [] 6 := C
  show WW X (Rn (fun z' h' => z' = z ∧ ∃ w g, h w = none ∧ (∀ e, ¬ z w e) ∧ (∀ i, i < m → g i = bs (u i) ∧ u i < 256) ∧ h' = up (up h w (.inl (gA (xG X) 1, (m, .inl g)))) a (.inr (25, [.ref w, .int (nI 0), .int x, .int k])))) z h 1 m 0 [(0, .ref a), (1, .ref b)] []
  refine ww_aload_n C dJ11_init_0 rfl 0 rfl rfl ?_
  refine ww_aload_n C dJ11_init_1 rfl 1 rfl rfl ?_
  refine ww_null C dJ11_init_2 ?_
  refine ci_J11_489_q (As := [.ref b, .null]) (rest := []) C dJ11_init_3 (ct_J11_init_2 (Cx.fl C) (Cx.ok C) Ha hS hcap) rfl rfl (Nat.le_of_ble_eq_true rfl) (by decide) (Nat.le_refl _) (Nat.le_refl _) (fun z1 k1 q => ?_)
  obtain ⟨hq1, hq2⟩ := q; replace hq1 := hq1.symm; subst hq1
  exact ww_vret C dJ11_init_6 ⟨rfl, hq2⟩
set_option maxHeartbeats 2000000 in
theorem ct_J10_toString {l : Launch} {Γ : Gm} (hl : l.flags = flags0) (hΓ : GOK Γ) {z : ZR} {h : AH} {b m cap : Nat} {u : Nat → Nat} {h0 : AH} (hS : SbI Γ h0 h b m cap u) (hcap : cap < 2 ^ 18) : Ct l Γ yJ10_toString cJ10_toString 1 (some (.object "java/lang/String")) 7 2 (4 + m) [.ref b] z h (Rv (fun v z' h' => z' = z ∧ ∃ s w g, v = .ref s ∧ s ≠ w ∧ h s = none ∧ h w = none ∧ (∀ e, ¬ z s e) ∧ (∀ e, ¬ z w e) ∧ (∀ i, i < m → g i = bs (u i) ∧ u i < 256) ∧ h' = up (up h w (.inl (gA Γ 1, (m, .inl g)))) s (.inr (25, [.ref w, .int (nI 0), .int (nI 0), .int (nI 0)])))) := by
  refine Ct.of hl hΓ (by decide +kernel) (Nat.le_of_ble_eq_true rfl) (fun X e1 e2 C => ?_)
  subst e1; subst e2
  have C : Cx X cJ10_toString 1 "java/lang/StringBuilder" "toString" (some (.object "java/lang/String")) [] 7 := C
  show WW X (Rv (fun v z' h' => z' = z ∧ ∃ s w g, v = .ref s ∧ s ≠ w ∧ h s = none ∧ h w = none ∧ (∀ e, ¬ z s e) ∧ (∀ e, ¬ z w e) ∧ (∀ i, i < m → g i = bs (u i) ∧ u i < 256) ∧ h' = up (up h w (.inl (gA (xG X) 1, (m, .inl g)))) s (.inr (25, [.ref w, .int (nI 0), .int (nI 0), .int (nI 0)])))) z h 2 (4 + m) 0 [(0, .ref b)] []
  refine nw_J10_18 C dJ10_toString_0 (by decide) (by omega) (fun s s_n s_z s_g => ?_)
  refine ww_gen (fun h1 hE1 => ?_)
  have N1_h1 : h1 s = some (.inr (25, [.null, .int (nI 0), .int (nI 0), .int (nI 0)])) := by rw [hE1]; exact up_s
  refine ww_dup C dJ10_toString_3 rfl ?_
  refine ww_aload_n C dJ10_toString_4 rfl 0 rfl rfl ?_
  have hS1 : SbI (xG X) h0 h1 b m cap u := by rw [hE1]; exact hS.nw s_n
  refine ci_J10_137_q (As := [.ref b]) (rest := [.ref s]) C dJ10_toString_5 (ct_J11_init (Cx.fl C) (Cx.ok C) N1_h1 hS1 hcap) rfl rfl (Nat.le_of_ble_eq_true rfl) (by decide) (by decide) (by omega) (fun z1 k1 q => ?_)
  obtain ⟨hq1, w, g, w_n, w_z, hg, hK⟩ := q; replace hq1 := hq1.symm; subst hq1
  have hsw : s ≠ w := ne_nw N1_h1 w_n
  have w_n0 : h w = none := by rw [hE1, up_n (Ne.symm hsw)] at w_n; exact w_n
  exact ww_aret C (Or.inl ⟨_, rfl⟩) dJ10_toString_8 rfl ⟨rfl, s, w, g, rfl, hsw, s_n, w_n0, s_z, w_z, hg, by rw [hK, hE1, up_cm hsw, up_up]⟩
end SB2
