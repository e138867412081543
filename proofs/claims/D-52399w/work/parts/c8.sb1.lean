section SB1
set_option maxRecDepth 100000
theorem sub_le0 {a b : Nat} (h : a ≤ b) (hb : b < 2 ^ 20) : nI a - nI b ≤ 0 := by
  rw [Int32.le_iff_toInt_le, Int32.toInt_sub]
  rw [nn_toInt (nI_pos (by omega)), nn_toInt (nI_pos (by omega)), nI_clamp (by omega), nI_clamp (by omega)]
  show Int.bmod ((a : Int) - (b : Int)) (2 ^ 32) ≤ 0
  rw [Int.bmod_eq_of_le (by omega) (by omega)]
  omega
theorem up_same2 {h : AH} {a b : Nat} {e f : va_E} (ha : h a = some e) (hb : h b = some f) : up (up h b f) a e = h := by
  funext q
  unfold up
  split
  · rename_i w; rw [w, ha]
  · split
    · rename_i w; rw [w, hb]
    · rfl
theorem cpy_in {f g : Nat → Int32} {n i : Nat} (hi : i < n) : va_cpy f g 0 0 n i = f i := by
  simp [va_cpy, hi]
theorem cpy_out {f g : Nat → Int32} {n i : Nat} (hi : n ≤ i) : va_cpy f g 0 0 n i = g i := by
  have : ¬ i < n := by omega
  simp [va_cpy, this]
def sbN (m cap : Nat) : Nat := if m < cap then cap else 2 * cap + 2
/-- the StringBuilder a holds m chars u; its cells are not in h0, that is kept -/
def SbI (Γ : Gm) (h0 h : AH) (a m cap : Nat) (u : Nat → Nat) : Prop := ∃ (v : Nat) (f : Nat → Int32) (y : Int32), (∀ q e, h0 q = some e → h q = some e) ∧ h0 a = none ∧ h0 v = none ∧ h a = some (.inr (24, [.ref v, .int (nI 0), .int y, .int (nI m)])) ∧ h v = some (.inl (gA Γ 1, (cap, .inl f))) ∧ m ≤ cap ∧ (∀ i, i < m → f i = bs (u i) ∧ u i < 256) ∧ ∀ i, m ≤ i → i < cap → f i = 0
theorem bs_fit0 : ∀ c, c < 256 → fits .byte (.int (bs c)) = true := by decide +kernel
theorem bs_id0 : ∀ c, c < 256 → (bs c).toInt8.toInt32 = bs c := by decide +kernel
theorem sb_fit {m cap : Nat} {f : Nat → Int32} {u : Nat → Nat} (hu : ∀ i, i < m → f i = bs (u i) ∧ u i < 256) (hz : ∀ i, m ≤ i → i < cap → f i = 0) {i : Nat} (hi : i < cap) : fits .byte (.int (f i)) = true := by
  rcases Nat.lt_or_ge i m with q | q
  · rw [(hu i q).1]; exact bs_fit0 _ (hu i q).2
  · rw [hz i q hi]; decide +kernel
theorem sb_add {m cap cap' c : Nat} {f f' : Nat → Int32} {u : Nat → Nat} (hm : m ≤ cap) (hu : ∀ i, i < m → f i = bs (u i) ∧ u i < 256) (hz : ∀ i, m ≤ i → i < cap → f i = 0) (e1 : ∀ i, i < cap → f' i = f i) (e2 : ∀ i, cap ≤ i → i < cap' → f' i = 0) (hc : c < 256) : (∀ i, i < m + 1 → upd f' m ((bs c).toInt8.toInt32) i = bs (va_up u m c i) ∧ va_up u m c i < 256) ∧ ∀ i, m + 1 ≤ i → i < cap' → upd f' m ((bs c).toInt8.toInt32) i = 0 := by
  refine ⟨fun i hi => ?_, fun i h1 h2 => ?_⟩
  · by_cases e : i = m
    · rw [e, upd_eq, va_eq]; exact ⟨bs_id0 c hc, hc⟩
    · rw [upd_ne e, va_ne e, e1 i (by omega)]; exact hu i (by omega)
  · rw [upd_ne (by omega)]
    rcases Nat.lt_or_ge i cap with q | q
    · rw [e1 i q]; exact hz i (by omega) q
    · exact e2 i q h2
theorem shl0 {n : Nat} (h : n < 2 ^ 20) : nI n <<< (nI 0 &&& 31) = nI n := by
  rw [show (nI 0 &&& 31 : Int32) = 0 by decide]
  apply Int32.toBitVec_inj.mp
  rw [Int32.toBitVec_shiftLeft]
  simp
set_option maxHeartbeats 2000000 in
theorem ct_J9_isLatin1 {l : Launch} {Γ : Gm} (hl : l.flags = flags0) (hΓ : GOK Γ) {z : ZR} {h : AH} {a v m : Nat} {y : Int32} (Ha : h a = some (.inr (24, [.ref v, .int (nI 0), .int y, .int (nI m)]))) : Ct l Γ yJ9_isLatin1 cJ9_isLatin1 1 (some .boolean) 1 0 0 [.ref a] z h (RdP z h (some (.int (bI true)))) := by
  refine Ct.of hl hΓ (by decide +kernel) (Nat.le_of_ble_eq_true rfl) (fun X e1 e2 C => ?_)
  subst e1; subst e2
  have C : Cx X cJ9_isLatin1 1 "java/lang/AbstractStringBuilder" "isLatin1" (some .boolean) [] 1 := C
  show WW X (RdP z h (some (.int (bI true)))) z h 0 0 0 [(0, .ref a)] []
  refine ww_gsv C (si_0 (Cx.ok C)) q365 (fun _ q => q) dJ9_isLatin1_0 ?_
  refine ww_if_eq_f (tgt := 17) C dJ9_isLatin1_3 (by decide) (nI_ne0 (by decide) (by decide)) ?_
  refine ww_aload_n C dJ9_isLatin1_6 rfl 0 rfl rfl ?_
  refine gf_J9_22_J10 C dJ9_isLatin1_7 (Or.inl Ha) rfl ?_
  refine ww_tern_if_ne_n C dJ9_isLatin1_10 dJ9_isLatin1_13 dJ9_isLatin1_14 dJ9_isLatin1_17 (by decide) ?_
  exact ww_zret C dJ9_isLatin1_18 (nar_bI _) (RdP.i (by rfl))
set_option maxHeartbeats 2000000 in
theorem ct_J9_getValue {l : Launch} {Γ : Gm} (hl : l.flags = flags0) (hΓ : GOK Γ) {z : ZR} {h : AH} {a v m : Nat} {y : Int32} (Ha : h a = some (.inr (24, [.ref v, .int (nI 0), .int y, .int (nI m)]))) : Ct l Γ yJ9_getValue cJ9_getValue 1 (some (.array .byte)) 1 0 0 [.ref a] z h (RdP z h (some (.ref v))) := by
  refine Ct.of hl hΓ (by decide +kernel) (Nat.le_of_ble_eq_true rfl) (fun X e1 e2 C => ?_)
  subst e1; subst e2
  have C : Cx X cJ9_getValue 1 "java/lang/AbstractStringBuilder" "getValue" (some (.array .byte)) [] 1 := C
  show WW X (RdP z h (some (.ref v))) z h 0 0 0 [(0, .ref a)] []
  refine ww_aload_n C dJ9_getValue_0 rfl 0 rfl rfl ?_
  refine gf_J9_15_J10 C dJ9_getValue_1 (Or.inl Ha) rfl ?_
  exact ww_aret C (Or.inr ⟨_, rfl⟩) dJ9_getValue_4 rfl (RdP.v rfl)
set_option maxHeartbeats 2000000 in
theorem ct_J9_length {l : Launch} {Γ : Gm} (hl : l.flags = flags0) (hΓ : GOK Γ) {z : ZR} {h : AH} {a v m : Nat} {y : Int32} (Ha : h a = some (.inr (24, [.ref v, .int (nI 0), .int y, .int (nI m)]))) : Ct l Γ yJ9_length cJ9_length 1 (some .int) 1 0 0 [.ref a] z h (RdP z h (some (.int (nI m)))) := by
  refine Ct.of hl hΓ (by decide +kernel) (Nat.le_of_ble_eq_true rfl) (fun X e1 e2 C => ?_)
  subst e1; subst e2
  have C : Cx X cJ9_length 1 "java/lang/AbstractStringBuilder" "length" (some .int) [] 1 := C
  show WW X (RdP z h (some (.int (nI m)))) z h 0 0 0 [(0, .ref a)] []
  refine ww_aload_n C dJ9_length_0 rfl 0 rfl rfl ?_
  refine gf_J9_79_J10 C dJ9_length_1 (Or.inl Ha) rfl ?_
  exact ww_iret C dJ9_length_4 (RdP.i rfl)
set_option maxHeartbeats 2000000 in
theorem ct_J16_canEncode {l : Launch} {Γ : Gm} (hl : l.flags = flags0) (hΓ : GOK Γ) {z : ZR} {h : AH} {c : Nat} (hc : c < 256) : Ct l Γ yJ16_canEncode cJ16_canEncode 1 (some .boolean) 1 0 0 [.int (nI c)] z h (RdP z h (some (.int (bI true)))) := by
  refine Ct.of hl hΓ (by decide +kernel) (Nat.le_of_ble_eq_true rfl) (fun X e1 e2 C => ?_)
  subst e1; subst e2
  have C : Cx X cJ16_canEncode 1 "java/lang/StringLatin1" "canEncode" (some .boolean) [] 1 := C
  show WW X (RdP z h (some (.int (bI true)))) z h 0 0 0 [(0, .int (nI c))] []
  refine ww_iload_n C dJ16_canEncode_0 rfl 0 rfl ?_
  refine ww_sipush C dJ16_canEncode_1 cS_255 ?_
  refine ww_tern_icmp_gt_n C dJ16_canEncode_4 dJ16_canEncode_7 dJ16_canEncode_8 dJ16_canEncode_11 (by omega) (by decide) ?_
  exact ww_zret C dJ16_canEncode_12 (nar_bI _) (RdP.i (by rw [decide_eq_true (by omega)]))
set_option maxHeartbeats 2000000 in
theorem ct_J9_init {l : Launch} {Γ : Gm} (hl : l.flags = flags0) (hΓ : GOK Γ) {z : ZR} {h : AH} {a : Nat} {e : Value} {x y k : Int32} (Ha : h a = some (.inr (24, [e, .int x, .int y, .int k]))) : Ct l Γ yJ9_init cJ9_init 2 none 2 1 16 [.ref a, .int (nI 16)] z h (Rn (fun z' h' => z' = z ∧ ∃ b, h b = none ∧ (∀ e, ¬ z b e) ∧ h' = up (up h b (.inl (gA Γ 1, (16, .inl (fun _ => 0))))) a (.inr (24, [.ref b, .int (nI 0), .int y, .int k])))) := by
  refine Ct.of hl hΓ (by decide +kernel) (Nat.le_of_ble_eq_true rfl) (fun X e1 e2 C => ?_)
  subst e1; subst e2
  have C : Cx X cJ9_init 2 "java/lang/AbstractStringBuilder" "<init>" none [] 2 := C
  show WW X (Rn (fun z' h' => z' = z ∧ ∃ b, h b = none ∧ (∀ e, ¬ z b e) ∧ h' = up (up h b (.inl (gA (xG X) 1, (16, .inl (fun _ => 0))))) a (.inr (24, [.ref b, .int (nI 0), .int y, .int k])))) z h 1 16 0 [(0, .ref a), (1, .int (nI 16))] []
  refine ww_aload_n C dJ9_init_0 rfl 0 rfl rfl ?_
  refine ww_objInit C q364 q172 q173 dJ9_init_1 (by decide) (Nat.le_of_ble_eq_true rfl) ?_
  refine ww_gsv C (si_0 (Cx.ok C)) q365 (fun _ q => q) dJ9_init_4 ?_
  refine ww_if_eq_f (tgt := 25) C dJ9_init_7 (by decide) (nI_ne0 (by decide) (by decide)) ?_
  refine ww_aload_n C dJ9_init_10 rfl 0 rfl rfl ?_
  refine ww_iload_n C dJ9_init_11 rfl 1 rfl ?_
  refine ww_newa (t := 1) (n := 16) (a0 := (16, .inl (fun _ => 0))) C dJ9_init_12 (by decide) rfl q189 (fun cA => vp_cell_el cA _) (by decide) (by decide) (by decide) (fun b b_n b_z b_g => ?_)
  refine ww_gen (fun h1 hE1 => ?_)
  have Ha_h1 : h1 a = some (.inr (24, [e, .int x, .int y, .int k])) := by rw [hE1, up_n (ne_nw Ha b_n)]; exact Ha
  have N1_h1 : h1 b = some (.inl (gA (xG X) 1, (16, .inl (fun _ => 0)))) := by rw [hE1]; exact up_s
  refine pf_J9_15_J10 (fs' := [.ref b, .int x, .int y, .int k]) C dJ9_init_14 Ha_h1 rfl rfl (Nat.le_of_ble_eq_true rfl) rfl ?_
  refine ww_gen (fun h2 hE2 => ?_)
  have N1_h2 : h2 b = some (.inl (gA (xG X) 1, (16, .inl (fun _ => 0)))) := by rw [hE2, up_n (ne_ob N1_h1 Ha_h1 (by simp))]; exact N1_h1
  have Ha_h2 : h2 a = some (.inr (24, [.ref b, .int x, .int y, .int k])) := by rw [hE2]; exact up_s
  refine ww_aload_n C dJ9_init_17 rfl 0 rfl rfl ?_
  refine ww_iconst C dJ9_init_18 cI_0 ?_
  refine pf_J9_22_J10 (fs' := [.ref b, .int (nI 0), .int y, .int k]) C dJ9_init_19 Ha_h2 rfl (by decide +kernel) (Nat.le_of_ble_eq_true rfl) rfl ?_
  refine ww_gen (fun h3 hE3 => ?_)
  have N1_h3 : h3 b = some (.inl (gA (xG X) 1, (16, .inl (fun _ => 0)))) := by rw [hE3, up_n (ne_ob N1_h2 Ha_h2 (by simp))]; exact N1_h2
  have Ha_h3 : h3 a = some (.inr (24, [.ref b, .int (nI 0), .int y, .int k])) := by rw [hE3]; exact up_s
  refine ww_goto (tgt := 38) C dJ9_init_22 (by decide) ?_
  exact ww_vret C dJ9_init_38 ⟨rfl, b, b_n, b_z, by rw [hE3, hE2, hE1, up_up]⟩
set_option maxHeartbeats 2000000 in
theorem ct_J10_init {l : Launch} {Γ : Gm} (hl : l.flags = flags0) (hΓ : GOK Γ) {z : ZR} {h : AH} {a : Nat} {e : Value} {x y k : Int32} (Ha : h a = some (.inr (24, [e, .int x, .int y, .int k]))) : Ct l Γ yJ10_init cJ10_init 1 none 3 1 16 [.ref a] z h (Rn (fun z' h' => z' = z ∧ ∃ b, h b = none ∧ (∀ e, ¬ z b e) ∧ h' = up (up h b (.inl (gA Γ 1, (16, .inl (fun _ => 0))))) a (.inr (24, [.ref b, .int (nI 0), .int y, .int k])))) := by
  refine Ct.of hl hΓ (by decide +kernel) (Nat.le_of_ble_eq_true rfl) (fun X e1 e2 C => ?_)
  subst e1; subst e2
  have C : Cx X cJ10_init 1 "java/lang/StringBuilder" "<init>" none [] 3 := C
  show WW X (Rn (fun z' h' => z' = z ∧ ∃ b, h b = none ∧ (∀ e, ¬ z b e) ∧ h' = up (up h b (.inl (gA (xG X) 1, (16, .inl (fun _ => 0))))) a (.inr (24, [.ref b, .int (nI 0), .int y, .int k])))) z h 1 16 0 [(0, .ref a)] []
  refine ww_aload_n C dJ10_init_0 rfl 0 rfl rfl ?_
  refine ww_bipush C dJ10_init_1 cB_16 ?_
  refine ci_J10_1_q (As := [.int (nI 16)]) (rest := []) C dJ10_init_3 (ct_J9_init (Cx.fl C) (Cx.ok C) Ha) rfl rfl (Nat.le_of_ble_eq_true rfl) (by decide) (Nat.le_refl _) (Nat.le_refl _) (fun z1 k1 q => ?_)
  obtain ⟨hq1, hq2⟩ := q; replace hq1 := hq1.symm; subst hq1
  exact ww_vret C dJ10_init_6 ⟨rfl, hq2⟩
set_option maxHeartbeats 2000000 in
theorem ct_J15_copyOf {l : Launch} {Γ : Gm} (hl : l.flags = flags0) (hΓ : GOK Γ) {z : ZR} {h : AH} {a n0 m : Nat} {f : Nat → Int32} (Ha : h a = some (.inl (gA Γ 1, (n0, .inl f)))) (hn : n0 < 2 ^ 20) (hm : m < 2 ^ 20) (hnm : m ≠ n0) (hf : ∀ i, i < n0 → fits .byte (.int (f i)) = true) : Ct l Γ yJ15_copyOf cJ15_copyOf 3 (some (.array .byte)) 3 1 m [.ref a, .int (nI m)] z h (Rv (fun v z' h' => ∃ b, v = .ref b ∧ h b = none ∧ (∀ e, ¬ z b e) ∧ z' = z ∧ h' = up h b (.inl (gA Γ 1, (m, .inl (va_cpy f (fun _ => 0) 0 0 (min n0 m))))))) := by
  refine Ct.of hl hΓ (by decide +kernel) (Nat.le_of_ble_eq_true rfl) (fun X e1 e2 C => ?_)
  subst e1; subst e2
  have C : Cx X cJ15_copyOf 3 "java/util/Arrays" "copyOf" (some (.array .byte)) [] 3 := C
  show WW X (Rv (fun v z' h' => ∃ b, v = .ref b ∧ h b = none ∧ (∀ e, ¬ z b e) ∧ z' = z ∧ h' = up h b (.inl (gA (xG X) 1, (m, .inl (va_cpy f (fun _ => 0) 0 0 (min n0 m))))))) z h 1 m 0 [(0, .ref a), (1, .int (nI m))] []
  refine ww_iload_n C dJ15_copyOf_0 rfl 1 rfl ?_
  refine ww_aload_n C dJ15_copyOf_1 rfl 0 rfl rfl ?_
  refine ww_alen (t := 1) C dJ15_copyOf_2 (by decide) (Or.inl Ha) ?_
  refine ww_icmp_ne_n (tgt := 14) C dJ15_copyOf_3 (by decide) (by omega) (by omega) (fun c_3 => ?_) (fun c_3 => ?_)
  · skip
    refine ww_iload_n C dJ15_copyOf_14 rfl 1 rfl ?_
    refine ww_newa (t := 1) (n := m) (a0 := (m, .inl (fun _ => 0))) C dJ15_copyOf_15 (by decide) rfl q189 (fun cA => vp_cell_el cA _) (by omega) (by decide) (by omega) (fun b b_n b_z b_g => ?_)
    refine ww_gen (fun h1 hE1 => ?_)
    have Ha_h1 : h1 a = some (.inl (gA (xG X) 1, (n0, .inl f))) := by rw [hE1, up_n (ne_nw Ha b_n)]; exact Ha
    have N1_h1 : h1 b = some (.inl (gA (xG X) 1, (m, .inl (fun _ => 0)))) := by rw [hE1]; exact up_s
    refine ww_astore_n (lv' := [(2, .ref b), (0, .ref a), (1, .int (nI m))]) C dJ15_copyOf_17 rfl (by decide) rfl rfl ?_
    refine ww_aload_n C dJ15_copyOf_18 rfl 1 rfl rfl ?_
    refine ww_iconst C dJ15_copyOf_19 cI_0 ?_
    refine ww_aload_n C dJ15_copyOf_20 rfl 0 rfl rfl ?_
    refine ww_iconst C dJ15_copyOf_21 cI_0 ?_
    refine ww_aload_n C dJ15_copyOf_22 rfl 1 rfl rfl ?_
    refine ww_alen (t := 1) C dJ15_copyOf_23 (by decide) (Or.inl Ha_h1) ?_
    refine ww_iload_n C dJ15_copyOf_24 rfl 2 rfl ?_
    refine cs_J15_304_r (As := [.int (nI n0), .int (nI m)]) (rest := [.int (nI 0), .ref b, .int (nI 0), .ref a]) C dJ15_copyOf_25 (ct_J14_min (Cx.fl C) (Cx.ok C) (a := n0) (b := m) (by omega) (by omega)) rfl rfl (Nat.le_of_ble_eq_true rfl) (by decide) (Nat.zero_le _) (Nat.zero_le _) ?_
    refine ww_copyi (t := 1) (n := (min n0 m)) (sp := 0) (dp := 0) (n0 := n0) (n1 := m) C q427 q429 q428 q126 dJ15_copyOf_28 (by decide) (by decide +kernel) Ha_h1 N1_h1 (by omega) (by omega) (by omega) (by omega) (fun i hi => by rw [Nat.zero_add]; exact hf i (by omega)) (by omega) (Nat.le_of_ble_eq_true rfl) ?_
    refine ww_gen (fun h2 hE2 => ?_)
    have Ha_h2 : h2 a = some (.inl (gA (xG X) 1, (n0, .inl f))) := by rw [hE2, up_n (ne_nw Ha b_n)]; exact Ha_h1
    have N1_h2 : h2 b = some (.inl (gA (xG X) 1, (m, .inl (va_cpy f (fun _ => 0) 0 0 (min n0 m))))) := by rw [hE2]; exact up_s
    refine ww_aload_n C dJ15_copyOf_31 rfl 0 rfl rfl ?_
    exact ww_aret C (Or.inr ⟨_, rfl⟩) dJ15_copyOf_32 rfl ⟨b, rfl, b_n, b_z, rfl, by rw [hE2, hE1, up_up]⟩
  · skip
    omega
set_option maxHeartbeats 2000000 in
theorem ct_J9_newCapacity {l : Launch} {Γ : Gm} (hl : l.flags = flags0) (hΓ : GOK Γ) {z : ZR} {h : AH} {a v m : Nat} {y : Int32} {f : Nat → Int32} {cap k : Nat} (Ha : h a = some (.inr (24, [.ref v, .int (nI 0), .int y, .int (nI m)]))) (Hv : h v = some (.inl (gA Γ 1, (cap, .inl f)))) (hk : cap < k) (hk2 : k ≤ 2 * cap + 2) (hc : cap < 2 ^ 18) : Ct l Γ yJ9_newCapacity cJ9_newCapacity 6 (some .int) 4 0 0 [.ref a, .int (nI k)] z h (RdP z h (some (.int (nI (2 * cap + 2))))) := by
  refine Ct.of hl hΓ (by decide +kernel) (Nat.le_of_ble_eq_true rfl) (fun X e1 e2 C => ?_)
  subst e1; subst e2
  have C : Cx X cJ9_newCapacity 6 "java/lang/AbstractStringBuilder" "newCapacity" (some .int) [] 4 := C
  show WW X (RdP z h (some (.int (nI (2 * cap + 2))))) z h 0 0 0 [(0, .ref a), (1, .int (nI k))] []
  refine ww_aload_n C dJ9_newCapacity_0 rfl 0 rfl rfl ?_
  refine gf_J9_15_J10 C dJ9_newCapacity_1 (Or.inl Ha) rfl ?_
  refine ww_alen (t := 1) C dJ9_newCapacity_4 (by decide) (Or.inl Hv) ?_
  refine ww_istore_n (lv' := [(2, .int (nI cap)), (0, .ref a), (1, .int (nI k))]) C dJ9_newCapacity_5 rfl (by decide) rfl ?_
  refine ww_iload_n C dJ9_newCapacity_6 rfl 2 rfl ?_
  refine ww_aload_n C dJ9_newCapacity_7 rfl 1 rfl rfl ?_
  refine gf_J9_22_J10 C dJ9_newCapacity_8 (Or.inl Ha) rfl ?_
  refine ww_ishl C dJ9_newCapacity_11 ?_
  refine ww_st (st' := [.int (nI k)]) (by rw [shl0 (by omega)]) ?_
  refine ww_istore_n (lv' := [(3, .int (nI k)), (2, .int (nI cap)), (0, .ref a), (1, .int (nI k))]) C dJ9_newCapacity_12 rfl (by decide) rfl ?_
  refine ww_iload_n C dJ9_newCapacity_13 rfl 0 rfl ?_
  refine ww_iload_n C dJ9_newCapacity_14 rfl 1 rfl ?_
  refine ww_isubn C dJ9_newCapacity_15 (by omega) ?_
  refine ww_istore (lv' := [(4, .int (nI (k - cap))), (3, .int (nI k)), (2, .int (nI cap)), (0, .ref a), (1, .int (nI k))]) C dJ9_newCapacity_16 (by decide) rfl ?_
  refine ww_iload_n C dJ9_newCapacity_18 rfl 2 rfl ?_
  refine ww_iload C dJ9_newCapacity_19 0 rfl ?_
  refine ww_iload_n C dJ9_newCapacity_21 rfl 2 rfl ?_
  refine ww_iconst C dJ9_newCapacity_22 cI_2 ?_
  refine ww_aload_n C dJ9_newCapacity_23 rfl 3 rfl rfl ?_
  refine gf_J9_22_J10 C dJ9_newCapacity_24 (Or.inl Ha) rfl ?_
  refine ww_ishl C dJ9_newCapacity_27 ?_
  refine ww_st (st' := [.int (nI 2), .int (nI cap), .int (nI (k - cap)), .int (nI cap)]) (by rw [shl0 (by omega)]) ?_
  refine ww_iaddn C dJ9_newCapacity_28 ?_
  refine cs_J9_114_r (As := [.int (nI cap), .int (nI (k - cap)), .int (nI (cap + 2))]) (rest := []) C dJ9_newCapacity_29 (ct_J13_newLength (Cx.fl C) (Cx.ok C) (a := cap) (b := k - cap) (c := cap + 2) (by omega) (by omega)) rfl rfl (Nat.le_of_ble_eq_true rfl) (by decide) (Nat.zero_le _) (Nat.zero_le _) ?_
  refine ww_st (st' := [.int (nI (2 * cap + 2))]) (by rw [show cap + max (k - cap) (cap + 2) = 2 * cap + 2 by omega]) ?_
  refine ww_istore (lv' := [(5, .int (nI (2 * cap + 2))), (4, .int (nI (k - cap))), (3, .int (nI k)), (2, .int (nI cap)), (0, .ref a), (1, .int (nI k))]) C dJ9_newCapacity_32 (by decide) rfl ?_
  refine ww_iload C dJ9_newCapacity_34 0 rfl ?_
  refine ww_ldc C q413 dJ9_newCapacity_36 ?_
  refine ww_icmp_ne_n (tgt := 51) C dJ9_newCapacity_38 (by decide) (by omega) (by decide) (fun c_38 => ?_) (fun c_38 => ?_)
  · skip
    refine ww_iload C dJ9_newCapacity_51 0 rfl ?_
    refine ww_aload_n C dJ9_newCapacity_53 rfl 4 rfl rfl ?_
    refine gf_J9_22_J10 C dJ9_newCapacity_54 (Or.inl Ha) rfl ?_
    refine ww_ishr C dJ9_newCapacity_57 ?_
    exact ww_iret C dJ9_newCapacity_58 (RdP.i (by rw [shr0 (by omega)]))
  · skip
    have c9 : 2 * cap + 2 = 2147483647 := c_38
    omega
set_option maxHeartbeats 2000000 in
theorem ct_J9_ensureCapacityInternal {l : Launch} {Γ : Gm} (hl : l.flags = flags0) (hΓ : GOK Γ) {z : ZR} {h : AH} {a v m : Nat} {y : Int32} {f : Nat → Int32} {cap : Nat} (Ha : h a = some (.inr (24, [.ref v, .int (nI 0), .int y, .int (nI m)]))) (Hv : h v = some (.inl (gA Γ 1, (cap, .inl f)))) (hc : cap < 2 ^ 18) (hm : m ≤ cap) (hf : ∀ i, i < cap → fits .byte (.int (f i)) = true) : Ct l Γ yJ9_ensureCapacityInternal cJ9_ensureCapacityInternal 3 none 5 (if m < cap then 0 else 1) (if m < cap then 0 else 2 * cap + 2) [.ref a, .int (nI (m + 1))] z h (Rn (fun z' h' => z' = z ∧ ∃ v' f' cap', cap' = (if m < cap then cap else 2 * cap + 2) ∧ (v' = v ∨ (h v' = none ∧ ∀ e, ¬ z v' e)) ∧ (∀ i, i < cap → f' i = f i) ∧ (∀ i, cap ≤ i → i < cap' → f' i = 0) ∧ h' = up (up h v' (.inl (gA Γ 1, (cap', .inl f')))) a (.inr (24, [.ref v', .int (nI 0), .int y, .int (nI m)])))) := by
  refine Ct.of hl hΓ (by decide +kernel) (Nat.le_of_ble_eq_true rfl) (fun X e1 e2 C => ?_)
  subst e1; subst e2
  have C : Cx X cJ9_ensureCapacityInternal 3 "java/lang/AbstractStringBuilder" "ensureCapacityInternal" none [] 5 := C
  show WW X (Rn (fun z' h' => z' = z ∧ ∃ v' f' cap', cap' = (if m < cap then cap else 2 * cap + 2) ∧ (v' = v ∨ (h v' = none ∧ ∀ e, ¬ z v' e)) ∧ (∀ i, i < cap → f' i = f i) ∧ (∀ i, cap ≤ i → i < cap' → f' i = 0) ∧ h' = up (up h v' (.inl (gA (xG X) 1, (cap', .inl f')))) a (.inr (24, [.ref v', .int (nI 0), .int y, .int (nI m)])))) z h (if m < cap then 0 else 1) (if m < cap then 0 else 2 * cap + 2) 0 [(0, .ref a), (1, .int (nI (m + 1)))] []
  refine ww_aload_n C dJ9_ensureCapacityInternal_0 rfl 0 rfl rfl ?_
  refine gf_J9_15_J10 C dJ9_ensureCapacityInternal_1 (Or.inl Ha) rfl ?_
  refine ww_alen (t := 1) C dJ9_ensureCapacityInternal_4 (by decide) (Or.inl Hv) ?_
  refine ww_aload_n C dJ9_ensureCapacityInternal_5 rfl 0 rfl rfl ?_
  refine gf_J9_22_J10 C dJ9_ensureCapacityInternal_6 (Or.inl Ha) rfl ?_
  refine ww_ishr C dJ9_ensureCapacityInternal_9 ?_
  refine ww_st (st' := [.int (nI cap)]) (by rw [shr0 (by omega)]) ?_
  refine ww_istore_n (lv' := [(2, .int (nI cap)), (0, .ref a), (1, .int (nI (m + 1)))]) C dJ9_ensureCapacityInternal_10 rfl (by decide) rfl ?_
  by_cases hmc : m < cap
  · skip
    refine ww_iload_n C dJ9_ensureCapacityInternal_11 rfl 2 rfl ?_
    refine ww_iload_n C dJ9_ensureCapacityInternal_12 rfl 0 rfl ?_
    refine ww_isub C dJ9_ensureCapacityInternal_13 ?_
    refine ww_if_le_t (tgt := 38) C dJ9_ensureCapacityInternal_14 (by decide) (sub_le0 (a := m + 1) (b := cap) (by omega) (by omega)) ?_
    exact ww_vret C dJ9_ensureCapacityInternal_38 ⟨rfl, v, f, cap, by rw [if_pos hmc], Or.inl rfl, fun _ _ => rfl, fun i h1 h2 => by omega, (up_same2 Ha Hv).symm⟩
  · skip
    have hcm : m = cap := by omega
    have h1c : (if m < cap then 0 else 1) = 1 := by rw [if_neg hmc]
    have h1s : (if m < cap then 0 else 2 * cap + 2) = 2 * cap + 2 := by rw [if_neg hmc]
    rw [h1c, h1s]
    refine ww_iload_n C dJ9_ensureCapacityInternal_11 rfl 2 rfl ?_
    refine ww_iload_n C dJ9_ensureCapacityInternal_12 rfl 0 rfl ?_
    refine ww_isubn C dJ9_ensureCapacityInternal_13 (by omega) ?_
    refine ww_if_le_n (tgt := 38) C dJ9_ensureCapacityInternal_14 (by decide) (by omega) (fun c_14 => ?_) (fun c_14 => ?_)
    · skip
      omega
    · skip
      refine ww_aload_n C dJ9_ensureCapacityInternal_17 rfl 1 rfl rfl ?_
      refine ww_aload_n C dJ9_ensureCapacityInternal_18 rfl 1 rfl rfl ?_
      refine gf_J9_15_J10 C dJ9_ensureCapacityInternal_19 (Or.inl Ha) rfl ?_
      refine ww_aload_n C dJ9_ensureCapacityInternal_22 rfl 1 rfl rfl ?_
      refine ww_iload_n C dJ9_ensureCapacityInternal_23 rfl 2 rfl ?_
      refine cp_J9_104_r (As := [.int (nI (m + 1))]) (rest := [.ref v, .ref a]) C dJ9_ensureCapacityInternal_24 (ct_J9_newCapacity (Cx.fl C) (Cx.ok C) Ha Hv (k := m + 1) (by omega) (by omega) hc) (rc_J10 (Cx.ok C) (Or.inl Ha)) rfl rfl (Nat.le_of_ble_eq_true rfl) (by decide) (Nat.zero_le _) (Nat.zero_le _) ?_
      refine ww_aload_n C dJ9_ensureCapacityInternal_27 rfl 1 rfl rfl ?_
      refine gf_J9_22_J10 C dJ9_ensureCapacityInternal_28 (Or.inl Ha) rfl ?_
      refine ww_ishl C dJ9_ensureCapacityInternal_31 ?_
      refine ww_st (st' := [.int (nI (2 * cap + 2)), .ref v, .ref a]) (by rw [shl0 (by omega)]) ?_
      refine cs_J9_108_q (As := [.ref v, .int (nI (2 * cap + 2))]) (rest := [.ref a]) C dJ9_ensureCapacityInternal_32 (ct_J15_copyOf (Cx.fl C) (Cx.ok C) Hv (m := 2 * cap + 2) (by omega) (by omega) (by omega) hf) rfl rfl (Nat.le_of_ble_eq_true rfl) (by decide) (Nat.le_refl _) (Nat.le_refl _) (fun vv z1 k1 q => ?_)
      obtain ⟨b, hb, b_n, b_z, hq1, hK1⟩ := q; subst hb; replace hq1 := hq1.symm; subst hq1
      have hab : a ≠ b := ne_nw Ha b_n
      have Ha1 : k1 a = some (.inr (24, [.ref v, .int (nI 0), .int y, .int (nI m)])) := by rw [hK1, up_n hab]; exact Ha
      refine pf_J9_15_J10 (fs' := [.ref b, .int (nI 0), .int y, .int (nI m)]) C dJ9_ensureCapacityInternal_35 Ha1 rfl rfl (Nat.le_of_ble_eq_true rfl) rfl ?_
      refine ww_gen (fun h1 hE1 => ?_)
      have Ha1_h1 : h1 a = some (.inr (24, [.ref b, .int (nI 0), .int y, .int (nI m)])) := by rw [hE1]; exact up_s
      exact ww_vret C dJ9_ensureCapacityInternal_38 ⟨rfl, b, va_cpy f (fun _ => 0) 0 0 (min cap (2 * cap + 2)), 2 * cap + 2, by rw [if_neg hmc], Or.inr ⟨b_n, b_z⟩, fun i hi => cpy_in (by omega), fun i h1 h2 => cpy_out (by omega), by rw [hE1, hK1]⟩
set_option maxHeartbeats 2000000 in
theorem ct_J9_append {l : Launch} {Γ : Gm} (hl : l.flags = flags0) (hΓ : GOK Γ) {z : ZR} {h : AH} {a m cap c : Nat} {u : Nat → Nat} {h0 : AH} (hS : SbI Γ h0 h a m cap u) (hcap : cap < 2 ^ 17) (hc : c < 256) : Ct l Γ yJ9_append cJ9_append 2 (some (.object "java/lang/AbstractStringBuilder")) 6 (if m < cap then 0 else 1) (if m < cap then 0 else 2 * cap + 2) [.ref a, .int (nI c)] z h (Rv (fun v z' h' => v = .ref a ∧ z' = z ∧ SbI Γ h0 h' a (m + 1) (sbN m cap) (va_up u m c))) := by
  refine Ct.of hl hΓ (by decide +kernel) (Nat.le_of_ble_eq_true rfl) (fun X e1 e2 C => ?_)
  subst e1; subst e2
  have C : Cx X cJ9_append 2 "java/lang/AbstractStringBuilder" "append" (some (.object "java/lang/AbstractStringBuilder")) [] 6 := C
  obtain ⟨v, f, y, hl0, a0, v0, Ha, Hv, hm, hu, hz⟩ := id hS
  have Hv : h v = some (.inl (gA (xG X) 1, (cap, .inl f))) := Hv
  have hf : ∀ i, i < cap → fits .byte (.int (f i)) = true := fun i hi => sb_fit hu hz hi
  show WW X (Rv (fun v z' h' => v = .ref a ∧ z' = z ∧ SbI (xG X) h0 h' a (m + 1) (sbN m cap) (va_up u m c))) z h (if m < cap then 0 else 1) (if m < cap then 0 else 2 * cap + 2) 0 [(0, .ref a), (1, .int (nI c))] []
  refine ww_aload_n C dJ9_append_0 rfl 0 rfl rfl ?_
  refine ww_aload_n C dJ9_append_1 rfl 0 rfl rfl ?_
  refine gf_J9_79_J10 C dJ9_append_2 (Or.inl Ha) rfl ?_
  refine ww_iconst C dJ9_append_5 cI_1 ?_
  refine ww_iaddn C dJ9_append_6 ?_
  refine cp_J9_100_q (As := [.int (nI (m + 1))]) (rest := []) C dJ9_append_7 (ct_J9_ensureCapacityInternal (Cx.fl C) (Cx.ok C) Ha Hv (by omega) hm hf) (rc_J10 (Cx.ok C) (Or.inl Ha)) rfl rfl (Nat.le_of_ble_eq_true rfl) (by decide) (Nat.le_refl _) (Nat.le_refl _) (fun z1 k1 q => ?_)
  obtain ⟨hq1, v', f', cap', ec, ev, e1, e2, hK⟩ := q; replace hq1 := hq1.symm; subst hq1
  have hc2 : m < cap' ∧ cap' < 2 ^ 19 := by rw [ec]; split <;> omega
  have hav : a ≠ v' := by rcases ev with e | e; { rw [e]; exact ne_ob Ha Hv (by simp) }; { exact ne_nw Ha e.1 }
  have Ha1 : k1 a = some (.inr (24, [.ref v', .int (nI 0), .int y, .int (nI m)])) := by rw [hK, up_s]
  have Hv1 : k1 v' = some (.inl (gA (xG X) 1, (cap', .inl f'))) := by rw [hK, up_n (Ne.symm hav), up_s]
  refine ww_aload_n C dJ9_append_10 rfl 0 rfl rfl ?_
  refine ca_J9_83_J10_r (As := []) (rest := []) C dJ9_append_11 (ct_J9_isLatin1 (Cx.fl C) (Cx.ok C) Ha1) (rc_J10 (Cx.ok C) (Or.inl Ha1)) rfl rfl (Nat.le_of_ble_eq_true rfl) (by decide) (Nat.zero_le _) (Nat.zero_le _) ?_
  refine ww_if_eq_f (tgt := 45) C dJ9_append_14 (by decide) (fun q => by cases q) ?_
  refine ww_iload_n C dJ9_append_17 rfl 1 rfl ?_
  refine cs_J9_191_r (As := [.int (nI c)]) (rest := []) C dJ9_append_18 (ct_J16_canEncode (Cx.fl C) (Cx.ok C) hc) rfl rfl (Nat.le_of_ble_eq_true rfl) (by decide) (Nat.zero_le _) (Nat.zero_le _) ?_
  refine ww_if_eq_f (tgt := 45) C dJ9_append_21 (by decide) (fun q => by cases q) ?_
  refine ww_aload_n C dJ9_append_24 rfl 0 rfl rfl ?_
  refine gf_J9_15_J10 C dJ9_append_25 (Or.inl Ha1) rfl ?_
  refine ww_aload_n C dJ9_append_28 rfl 0 rfl rfl ?_
  refine ww_dup C dJ9_append_29 rfl ?_
  refine gf_J9_79_J10 C dJ9_append_30 (Or.inl Ha1) rfl ?_
  refine ww_dup_x1 C dJ9_append_33 rfl rfl ?_
  refine ww_iconst C dJ9_append_34 cI_1 ?_
  refine ww_iaddn C dJ9_append_35 ?_
  refine pf_J9_79_J10 (fs' := [.ref v', .int (nI 0), .int y, .int (nI (m + 1))]) C dJ9_append_36 Ha1 rfl rfl (Nat.le_of_ble_eq_true rfl) rfl ?_
  refine ww_gen (fun h1 hE1 => ?_)
  have Hv1_h1 : h1 v' = some (.inl (gA (xG X) 1, (cap', .inl f'))) := by rw [hE1, up_n (Ne.symm hav)]; exact Hv1
  have Ha1_h1 : h1 a = some (.inr (24, [.ref v', .int (nI 0), .int y, .int (nI (m + 1))])) := by rw [hE1]; exact up_s
  refine ww_iload_n C dJ9_append_39 rfl 1 rfl ?_
  refine ww_i2b (v := bs c) C dJ9_append_40 (by rfl) ?_
  refine ww_bast C dJ9_append_41 Hv1_h1 (by omega) (by omega) rfl ?_
  refine ww_gen (fun h2 hE2 => ?_)
  have Ha1_h2 : h2 a = some (.inr (24, [.ref v', .int (nI 0), .int y, .int (nI (m + 1))])) := by rw [hE2, up_n hav]; exact Ha1_h1
  have Hv1_h2 : h2 v' = some (.inl (gA (xG X) 1, (cap', .inl (upd f' m ((bs c).toInt8.toInt32))))) := by rw [hE2]; exact up_s
  refine ww_goto (tgt := 75) C dJ9_append_42 (by decide) ?_
  refine ww_aload_n C dJ9_append_75 rfl 0 rfl rfl ?_
  have hle3 : ∀ q e, h0 q = some e → h2 q = some e := fun q e hq => by
    have n1 : q ≠ a := fun x => by rw [x, a0] at hq; cases hq
    have n2 : q ≠ v' := fun x => by rcases ev with e9 | e9; { rw [x, e9, v0] at hq; cases hq }; { have := hl0 q e hq; rw [x, e9.1] at this; cases this }
    rw [hE2, hE1, hK]; simp only [up_n n1, up_n n2]; exact hl0 q e hq
  have v1 : h0 v' = none := by rcases ev with e9 | e9; { rw [e9]; exact v0 }; { cases hq : h0 v' with | none => rfl | some e => (have := hl0 _ e hq; rw [e9.1] at this; cases this) }
  exact ww_aret C (Or.inl ⟨_, rfl⟩) dJ9_append_76 rfl ⟨rfl, rfl, v', _, y, hle3, a0, v1, Ha1_h2, by rw [show sbN m cap = cap' from ec.symm]; exact Hv1_h2, by rw [show sbN m cap = cap' from ec.symm]; omega, (sb_add hm hu hz e1 e2 hc).1, fun i h1 h2 => (sb_add hm hu hz e1 e2 hc).2 i h1 (by rw [show sbN m cap = cap' from ec.symm] at h2; exact h2)⟩
set_option maxHeartbeats 2000000 in
theorem ct_J10_append {l : Launch} {Γ : Gm} (hl : l.flags = flags0) (hΓ : GOK Γ) {z : ZR} {h : AH} {a m cap c : Nat} {u : Nat → Nat} {h0 : AH} (hS : SbI Γ h0 h a m cap u) (hcap : cap < 2 ^ 17) (hc : c < 256) : Ct l Γ yJ10_append cJ10_append 2 (some (.object "java/lang/StringBuilder")) 7 (if m < cap then 0 else 1) (if m < cap then 0 else 2 * cap + 2) [.ref a, .int (nI c)] z h (Rv (fun v z' h' => v = .ref a ∧ z' = z ∧ SbI Γ h0 h' a (m + 1) (sbN m cap) (va_up u m c))) := by
  refine Ct.of hl hΓ (by decide +kernel) (Nat.le_of_ble_eq_true rfl) (fun X e1 e2 C => ?_)
  subst e1; subst e2
  have C : Cx X cJ10_append 2 "java/lang/StringBuilder" "append" (some (.object "java/lang/StringBuilder")) [] 7 := C
  obtain ⟨v, f, y, hl0, a0, v0, Ha, Hv, hm, hu, hz⟩ := id hS
  show WW X (Rv (fun v z' h' => v = .ref a ∧ z' = z ∧ SbI (xG X) h0 h' a (m + 1) (sbN m cap) (va_up u m c))) z h (if m < cap then 0 else 1) (if m < cap then 0 else 2 * cap + 2) 0 [(0, .ref a), (1, .int (nI c))] []
  refine ww_aload_n C dJ10_append_0 rfl 0 rfl rfl ?_
  refine ww_iload_n C dJ10_append_1 rfl 1 rfl ?_
  refine cu_J10_50_q (As := [.int (nI c)]) (rest := []) C dJ10_append_2 (ct_J9_append (Cx.fl C) (Cx.ok C) hS hcap hc) (rc_J10 (Cx.ok C) (Or.inl Ha)) rfl rfl (Nat.le_of_ble_eq_true rfl) (by decide) (Nat.le_refl _) (Nat.le_refl _) (fun v z1 k1 q => ?_)
  obtain ⟨hv, hq1, hq2⟩ := q; subst hv; replace hq1 := hq1.symm; subst hq1
  refine ww_pop C dJ10_append_5 rfl ?_
  refine ww_aload_n C dJ10_append_6 rfl 0 rfl rfl ?_
  exact ww_aret C (Or.inl ⟨_, rfl⟩) dJ10_append_7 rfl ⟨rfl, rfl, hq2⟩
end SB1
