section TAP
set_option maxRecDepth 100000
theorem by_2 : ∀ i, i < 32 → (255#32).getLsbD i = decide (i < 8) := by decide
theorem by_8 (y : Int32) : y.toInt8.toInt32.toInt8.toInt32 &&& nI 255 = y &&& nI 255 := by
  apply Int32.toBitVec_inj.mp
  show (BitVec.signExtend 32 (BitVec.signExtend 8 (BitVec.signExtend 32 (BitVec.signExtend 8 y.toBitVec)))) &&& 255#32 = y.toBitVec &&& 255#32
  apply BitVec.eq_of_getLsbD_eq
  intro i hi
  rw [BitVec.getLsbD_and, BitVec.getLsbD_and, by_2 i hi]
  by_cases h8 : i < 8
  · simp only [BitVec.getLsbD_signExtend, h8, hi, decide_true, if_true, Bool.true_and]
  · simp [h8]
/-- the Tape tp with its row ba holds the bytes of t -/
def TpC (Γ : Gm) (h : AH) (tp ba : Nat) (f : Nat → Int32) (t : TP) : Prop := h tp = some (.inr (1, [.ref ba, .int (nI t.2)])) ∧ h ba = some (.inl (gA Γ 1, (2000, .inl f))) ∧ ∀ a, a < t.2 → f a &&& nI 255 = nI (t.1 a)
theorem ptB_v {f : Nat → Int32} {t : TP} {x : Int32} {s : Nat} (h : ∀ a, a < t.2 → f a &&& nI 255 = nI (t.1 a)) : ∀ a, a < (ptB t (fbN x s)).2 → upd f t.2 ((x >>> (nI s &&& 31)).toInt8.toInt32.toInt8.toInt32) a &&& nI 255 = nI ((ptB t (fbN x s)).1 a) := fun a ha => by
  show _ = nI (va_up t.1 t.2 _ a)
  by_cases e : a = t.2
  · rw [e, upd_eq, va_eq, by_8, fb_e]
  · rw [upd_ne e, va_ne e]; exact h a (by have : a < t.2 + 1 := ha; omega)
theorem tp_8 {h : AH} {a b : Nat} {e1 e2 e3 e4 d1 d2 d3 d4 : va_E} (hab : a ≠ b) : up (up (up (up (up (up (up (up h b e1) a d1) b e2) a d2) b e3) a d3) b e4) a d4 = up (up h b e4) a d4 := by
  rw [up_cm (h := up h b e1) hab, up_up, up_up]
  rw [up_cm (h := up h b e2) hab, up_up, up_up]
  rw [up_cm (h := up h b e3) hab, up_up, up_up]
set_option maxHeartbeats 2000000 in
theorem ct_X2_put {l : Launch} {Γ : Gm} (hl : l.flags = flags0) (hΓ : GOK Γ) {z : ZR} {h : AH} {tp ba : Nat} {f : Nat → Int32} {t : TP} {x : Int32} (hT : TpC Γ h tp ba f t) (h4 : t.2 + 4 ≤ 2000) : Ct l Γ yX2_put cX2_put 3 none 1 0 0 [.ref tp, .int x] z h (Rn (fun z' h' => z' = z ∧ ∃ f', h' = up (up h ba (.inl (gA Γ 1, (2000, .inl f')))) tp (.inr (1, [.ref ba, .int (nI (t.2 + 4))])) ∧ TpC Γ h' tp ba f' (pt4 t x))) := by
  refine Ct.of hl hΓ (by decide +kernel) (Nat.le_of_ble_eq_true rfl) (fun X e1 e2 C => ?_)
  subst e1; subst e2
  have C : Cx X cX2_put 3 "RingDomino$Tape" "put" none [] 1 := C
  obtain ⟨H1, H2, H3⟩ := id hT
  have H1 : h tp = some (.inr (1, [.ref ba, .int (nI t.2)])) := H1
  have H2 : h ba = some (.inl (gA (xG X) 1, (2000, .inl f))) := H2
  show WW X (Rn (fun z' h' => z' = z ∧ ∃ f', h' = up (up h ba (.inl (gA (xG X) 1, (2000, .inl f')))) tp (.inr (1, [.ref ba, .int (nI (t.2 + 4))])) ∧ TpC (xG X) h' tp ba f' (pt4 t x))) z h 0 0 0 [(0, .ref tp), (1, .int x)] []
  refine ww_bipush C dX2_put_0 cB_24 ?_
  refine ww_istore_n (lv' := [(2, .int (nI 24)), (0, .ref tp), (1, .int x)]) C dX2_put_2 rfl (by decide) rfl ?_
  refine ww_iload_n C dX2_put_3 rfl 0 rfl ?_
  refine ww_if_lt_n (tgt := 36) C dX2_put_4 (by decide) (by decide) ?_
  refine ww_aload_n C dX2_put_7 rfl 1 rfl rfl ?_
  refine gf_X2_9_X2 C dX2_put_8 (Or.inl H1) rfl ?_
  refine ww_aload_n C dX2_put_11 rfl 1 rfl rfl ?_
  refine gf_X2_15_X2 C dX2_put_12 (Or.inl H1) rfl ?_
  refine ww_iload_n C dX2_put_15 rfl 2 rfl ?_
  refine ww_iload_n C dX2_put_16 rfl 0 rfl ?_
  refine ww_ishr C dX2_put_17 ?_
  refine ww_i2b C dX2_put_18 rfl ?_
  refine ww_bast C dX2_put_19 H2 (by omega) (by decide) rfl ?_
  refine ww_gen (fun h1 hE1 => ?_)
  have H1_h1 : h1 tp = some (.inr (1, [.ref ba, .int (nI t.2)])) := by rw [hE1, up_n (ne_ob H1 H2 (by simp))]; exact H1
  have H2_h1 : h1 ba = some (.inl (gA (xG X) 1, (2000, .inl (upd f t.2 ((x >>> ((nI 24) &&& 31)).toInt8.toInt32.toInt8.toInt32))))) := by rw [hE1]; exact up_s
  refine ww_aload_n C dX2_put_20 rfl 1 rfl rfl ?_
  refine ww_dup C dX2_put_21 rfl ?_
  refine gf_X2_15_X2 C dX2_put_22 (Or.inl H1_h1) rfl ?_
  refine ww_iconst C dX2_put_25 cI_1 ?_
  refine ww_iaddn C dX2_put_26 ?_
  refine pf_X2_15_X2 (fs' := [.ref ba, .int (nI (t.2 + 1))]) C dX2_put_27 H1_h1 rfl rfl (Nat.le_of_ble_eq_true rfl) rfl ?_
  refine ww_gen (fun h2 hE2 => ?_)
  have H2_h2 : h2 ba = some (.inl (gA (xG X) 1, (2000, .inl (upd f t.2 ((x >>> ((nI 24) &&& 31)).toInt8.toInt32.toInt8.toInt32))))) := by rw [hE2, up_n (Ne.symm (ne_ob H1 H2 (by simp)))]; exact H2_h1
  have H1_h2 : h2 tp = some (.inr (1, [.ref ba, .int (nI (t.2 + 1))])) := by rw [hE2]; exact up_s
  refine ww_iinc (lv' := [(2, .int (nI 24 + Int32.ofInt (-8))), (0, .ref tp), (1, .int x)]) C dX2_put_30 0 rfl rfl (by decide) rfl ?_
  refine ww_lv (lv' := [(2, .int (nI 16)), (0, .ref tp), (1, .int x)]) (by rfl) ?_
  refine ww_goto (tgt := 3) C dX2_put_33 (by decide) ?_
  refine ww_iload_n C dX2_put_3 rfl 0 rfl ?_
  refine ww_if_lt_n (tgt := 36) C dX2_put_4 (by decide) (by decide) ?_
  refine ww_aload_n C dX2_put_7 rfl 1 rfl rfl ?_
  refine gf_X2_9_X2 C dX2_put_8 (Or.inl H1_h2) rfl ?_
  refine ww_aload_n C dX2_put_11 rfl 1 rfl rfl ?_
  refine gf_X2_15_X2 C dX2_put_12 (Or.inl H1_h2) rfl ?_
  refine ww_iload_n C dX2_put_15 rfl 2 rfl ?_
  refine ww_iload_n C dX2_put_16 rfl 0 rfl ?_
  refine ww_ishr C dX2_put_17 ?_
  refine ww_i2b C dX2_put_18 rfl ?_
  refine ww_bast C dX2_put_19 H2_h2 (by omega) (by decide) rfl ?_
  refine ww_gen (fun h3 hE3 => ?_)
  have H1_h3 : h3 tp = some (.inr (1, [.ref ba, .int (nI (t.2 + 1))])) := by rw [hE3, up_n (ne_ob H1 H2 (by simp))]; exact H1_h2
  have H2_h3 : h3 ba = some (.inl (gA (xG X) 1, (2000, .inl (upd (upd f t.2 ((x >>> ((nI 24) &&& 31)).toInt8.toInt32.toInt8.toInt32)) (t.2 + 1) ((x >>> ((nI 16) &&& 31)).toInt8.toInt32.toInt8.toInt32))))) := by rw [hE3]; exact up_s
  refine ww_aload_n C dX2_put_20 rfl 1 rfl rfl ?_
  refine ww_dup C dX2_put_21 rfl ?_
  refine gf_X2_15_X2 C dX2_put_22 (Or.inl H1_h3) rfl ?_
  refine ww_iconst C dX2_put_25 cI_1 ?_
  refine ww_iaddn C dX2_put_26 ?_
  refine pf_X2_15_X2 (fs' := [.ref ba, .int (nI ((t.2 + 1) + 1))]) C dX2_put_27 H1_h3 rfl rfl (Nat.le_of_ble_eq_true rfl) rfl ?_
  refine ww_gen (fun h4 hE4 => ?_)
  have H2_h4 : h4 ba = some (.inl (gA (xG X) 1, (2000, .inl (upd (upd f t.2 ((x >>> ((nI 24) &&& 31)).toInt8.toInt32.toInt8.toInt32)) (t.2 + 1) ((x >>> ((nI 16) &&& 31)).toInt8.toInt32.toInt8.toInt32))))) := by rw [hE4, up_n (Ne.symm (ne_ob H1 H2 (by simp)))]; exact H2_h3
  have H1_h4 : h4 tp = some (.inr (1, [.ref ba, .int (nI ((t.2 + 1) + 1))])) := by rw [hE4]; exact up_s
  refine ww_iinc (lv' := [(2, .int (nI 16 + Int32.ofInt (-8))), (0, .ref tp), (1, .int x)]) C dX2_put_30 0 rfl rfl (by decide) rfl ?_
  refine ww_lv (lv' := [(2, .int (nI 8)), (0, .ref tp), (1, .int x)]) (by rfl) ?_
  refine ww_goto (tgt := 3) C dX2_put_33 (by decide) ?_
  refine ww_iload_n C dX2_put_3 rfl 0 rfl ?_
  refine ww_if_lt_n (tgt := 36) C dX2_put_4 (by decide) (by decide) ?_
  refine ww_aload_n C dX2_put_7 rfl 1 rfl rfl ?_
  refine gf_X2_9_X2 C dX2_put_8 (Or.inl H1_h4) rfl ?_
  refine ww_aload_n C dX2_put_11 rfl 1 rfl rfl ?_
  refine gf_X2_15_X2 C dX2_put_12 (Or.inl H1_h4) rfl ?_
  refine ww_iload_n C dX2_put_15 rfl 2 rfl ?_
  refine ww_iload_n C dX2_put_16 rfl 0 rfl ?_
  refine ww_ishr C dX2_put_17 ?_
  refine ww_i2b C dX2_put_18 rfl ?_
  refine ww_bast C dX2_put_19 H2_h4 (by omega) (by decide) rfl ?_
  refine ww_gen (fun h5 hE5 => ?_)
  have H1_h5 : h5 tp = some (.inr (1, [.ref ba, .int (nI ((t.2 + 1) + 1))])) := by rw [hE5, up_n (ne_ob H1 H2 (by simp))]; exact H1_h4
  have H2_h5 : h5 ba = some (.inl (gA (xG X) 1, (2000, .inl (upd (upd (upd f t.2 ((x >>> ((nI 24) &&& 31)).toInt8.toInt32.toInt8.toInt32)) (t.2 + 1) ((x >>> ((nI 16) &&& 31)).toInt8.toInt32.toInt8.toInt32)) ((t.2 + 1) + 1) ((x >>> ((nI 8) &&& 31)).toInt8.toInt32.toInt8.toInt32))))) := by rw [hE5]; exact up_s
  refine ww_aload_n C dX2_put_20 rfl 1 rfl rfl ?_
  refine ww_dup C dX2_put_21 rfl ?_
  refine gf_X2_15_X2 C dX2_put_22 (Or.inl H1_h5) rfl ?_
  refine ww_iconst C dX2_put_25 cI_1 ?_
  refine ww_iaddn C dX2_put_26 ?_
  refine pf_X2_15_X2 (fs' := [.ref ba, .int (nI (((t.2 + 1) + 1) + 1))]) C dX2_put_27 H1_h5 rfl rfl (Nat.le_of_ble_eq_true rfl) rfl ?_
  refine ww_gen (fun h6 hE6 => ?_)
  have H2_h6 : h6 ba = some (.inl (gA (xG X) 1, (2000, .inl (upd (upd (upd f t.2 ((x >>> ((nI 24) &&& 31)).toInt8.toInt32.toInt8.toInt32)) (t.2 + 1) ((x >>> ((nI 16) &&& 31)).toInt8.toInt32.toInt8.toInt32)) ((t.2 + 1) + 1) ((x >>> ((nI 8) &&& 31)).toInt8.toInt32.toInt8.toInt32))))) := by rw [hE6, up_n (Ne.symm (ne_ob H1 H2 (by simp)))]; exact H2_h5
  have H1_h6 : h6 tp = some (.inr (1, [.ref ba, .int (nI (((t.2 + 1) + 1) + 1))])) := by rw [hE6]; exact up_s
  refine ww_iinc (lv' := [(2, .int (nI 8 + Int32.ofInt (-8))), (0, .ref tp), (1, .int x)]) C dX2_put_30 0 rfl rfl (by decide) rfl ?_
  refine ww_lv (lv' := [(2, .int (nI 0)), (0, .ref tp), (1, .int x)]) (by rfl) ?_
  refine ww_goto (tgt := 3) C dX2_put_33 (by decide) ?_
  refine ww_iload_n C dX2_put_3 rfl 0 rfl ?_
  refine ww_if_lt_n (tgt := 36) C dX2_put_4 (by decide) (by decide) ?_
  refine ww_aload_n C dX2_put_7 rfl 1 rfl rfl ?_
  refine gf_X2_9_X2 C dX2_put_8 (Or.inl H1_h6) rfl ?_
  refine ww_aload_n C dX2_put_11 rfl 1 rfl rfl ?_
  refine gf_X2_15_X2 C dX2_put_12 (Or.inl H1_h6) rfl ?_
  refine ww_iload_n C dX2_put_15 rfl 2 rfl ?_
  refine ww_iload_n C dX2_put_16 rfl 0 rfl ?_
  refine ww_ishr C dX2_put_17 ?_
  refine ww_i2b C dX2_put_18 rfl ?_
  refine ww_bast C dX2_put_19 H2_h6 (by omega) (by decide) rfl ?_
  refine ww_gen (fun h7 hE7 => ?_)
  have H1_h7 : h7 tp = some (.inr (1, [.ref ba, .int (nI (((t.2 + 1) + 1) + 1))])) := by rw [hE7, up_n (ne_ob H1 H2 (by simp))]; exact H1_h6
  have H2_h7 : h7 ba = some (.inl (gA (xG X) 1, (2000, .inl (upd (upd (upd (upd f t.2 ((x >>> ((nI 24) &&& 31)).toInt8.toInt32.toInt8.toInt32)) (t.2 + 1) ((x >>> ((nI 16) &&& 31)).toInt8.toInt32.toInt8.toInt32)) ((t.2 + 1) + 1) ((x >>> ((nI 8) &&& 31)).toInt8.toInt32.toInt8.toInt32)) (((t.2 + 1) + 1) + 1) ((x >>> ((nI 0) &&& 31)).toInt8.toInt32.toInt8.toInt32))))) := by rw [hE7]; exact up_s
  refine ww_aload_n C dX2_put_20 rfl 1 rfl rfl ?_
  refine ww_dup C dX2_put_21 rfl ?_
  refine gf_X2_15_X2 C dX2_put_22 (Or.inl H1_h7) rfl ?_
  refine ww_iconst C dX2_put_25 cI_1 ?_
  refine ww_iaddn C dX2_put_26 ?_
  refine pf_X2_15_X2 (fs' := [.ref ba, .int (nI ((((t.2 + 1) + 1) + 1) + 1))]) C dX2_put_27 H1_h7 rfl rfl (Nat.le_of_ble_eq_true rfl) rfl ?_
  refine ww_gen (fun h8 hE8 => ?_)
  have H2_h8 : h8 ba = some (.inl (gA (xG X) 1, (2000, .inl (upd (upd (upd (upd f t.2 ((x >>> ((nI 24) &&& 31)).toInt8.toInt32.toInt8.toInt32)) (t.2 + 1) ((x >>> ((nI 16) &&& 31)).toInt8.toInt32.toInt8.toInt32)) ((t.2 + 1) + 1) ((x >>> ((nI 8) &&& 31)).toInt8.toInt32.toInt8.toInt32)) (((t.2 + 1) + 1) + 1) ((x >>> ((nI 0) &&& 31)).toInt8.toInt32.toInt8.toInt32))))) := by rw [hE8, up_n (Ne.symm (ne_ob H1 H2 (by simp)))]; exact H2_h7
  have H1_h8 : h8 tp = some (.inr (1, [.ref ba, .int (nI ((((t.2 + 1) + 1) + 1) + 1))])) := by rw [hE8]; exact up_s
  refine ww_iinc (lv' := [(2, .int (nI 0 + Int32.ofInt (-8))), (0, .ref tp), (1, .int x)]) C dX2_put_30 0 rfl rfl (by decide) rfl ?_
  refine ww_goto (tgt := 3) C dX2_put_33 (by decide) ?_
  refine ww_iload_n C dX2_put_3 rfl 0 rfl ?_
  refine ww_if_lt_t (tgt := 36) C dX2_put_4 (by decide) (by decide) ?_
  have hE : h8 = up (up h ba (.inl (gA (xG X) 1, (2000, .inl (upd (upd (upd (upd f t.2 ((x >>> ((nI 24) &&& 31)).toInt8.toInt32.toInt8.toInt32)) (t.2 + 1) ((x >>> ((nI 16) &&& 31)).toInt8.toInt32.toInt8.toInt32)) ((t.2 + 1) + 1) ((x >>> ((nI 8) &&& 31)).toInt8.toInt32.toInt8.toInt32)) (((t.2 + 1) + 1) + 1) ((x >>> ((nI 0) &&& 31)).toInt8.toInt32.toInt8.toInt32)))))) tp (.inr (1, [.ref ba, .int (nI (t.2 + 1 + 1 + 1 + 1))])) := by rw [hE8, hE7, hE6, hE5, hE4, hE3, hE2, hE1]; exact tp_8 (ne_ob H1 H2 (by simp))
  exact ww_vret C dX2_put_36 ⟨rfl, upd (upd (upd (upd f t.2 ((x >>> ((nI 24) &&& 31)).toInt8.toInt32.toInt8.toInt32)) (t.2 + 1) ((x >>> ((nI 16) &&& 31)).toInt8.toInt32.toInt8.toInt32)) ((t.2 + 1) + 1) ((x >>> ((nI 8) &&& 31)).toInt8.toInt32.toInt8.toInt32)) (((t.2 + 1) + 1) + 1) ((x >>> ((nI 0) &&& 31)).toInt8.toInt32.toInt8.toInt32), hE, H1_h8, H2_h8, ptB_v (x := x) (s := 0) (ptB_v (x := x) (s := 8) (ptB_v (x := x) (s := 16) (ptB_v (x := x) (s := 24) H3)))⟩
set_option maxHeartbeats 2000000 in
theorem ct_X2_at {l : Launch} {Γ : Gm} (hl : l.flags = flags0) (hΓ : GOK Γ) {z : ZR} {h : AH} {tp : Nat} {ba : Nat} {f : Nat → Int32} {t : TP} {a : Nat} (hT : TpC Γ h tp ba f t) (ht : TPo t) (ha : a < 2 ^ 31) : Ct l Γ yX2_at cX2_at 2 (some .int) 1 0 0 [.ref tp, .int (nI a)] z h (RdP z h (some (.int (nI (byA t a))))) := by
  refine Ct.of hl hΓ (by decide +kernel) (Nat.le_of_ble_eq_true rfl) (fun X e1 e2 C => ?_)
  subst e1; subst e2
  have C : Cx X cX2_at 2 "RingDomino$Tape" "at" (some .int) [] 1 := C
  obtain ⟨H1, H2, H3⟩ := id hT
  have H1 : h tp = some (.inr (1, [.ref ba, .int (nI t.2)])) := H1
  have H2 : h ba = some (.inl (gA (xG X) 1, (2000, .inl f))) := H2
  have h20 := ht.1
  show WW X (RdP z h (some (.int (nI (byA t a))))) z h 0 0 0 [(0, .ref tp), (1, .int (nI a))] []
  refine ww_iload_n C dX2_at_0 rfl 1 rfl ?_
  refine ww_aload_n C dX2_at_1 rfl 0 rfl rfl ?_
  refine gf_X2_15_X2 C dX2_at_2 (Or.inl H1) rfl ?_
  refine ww_icmp_ge_n (tgt := 21) C dX2_at_5 (by decide) (by omega) (by omega) (fun c_5 => ?_) (fun c_5 => ?_)
  · skip
    refine ww_iconst C dX2_at_21 cI_0 ?_
    exact ww_iret C dX2_at_22 (RdP.i (by unfold byA; rw [if_neg (by omega)]))
  · skip
    refine ww_aload_n C dX2_at_8 rfl 0 rfl rfl ?_
    refine gf_X2_9_X2 C dX2_at_9 (Or.inl H1) rfl ?_
    refine ww_iload_n C dX2_at_12 rfl 1 rfl ?_
    refine ww_bald C dX2_at_13 (Or.inl H2) (by omega) (by decide) ?_
    refine ww_sipush C dX2_at_14 cS_255 ?_
    refine ww_iand C dX2_at_17 ?_
    refine ww_goto (tgt := 22) C dX2_at_18 (by decide) ?_
    exact ww_iret C dX2_at_22 (RdP.i (by unfold byA; rw [if_pos c_5, H3 a c_5]))
set_option maxHeartbeats 2000000 in
theorem ct_X2_init {l : Launch} {Γ : Gm} (hl : l.flags = flags0) (hΓ : GOK Γ) {z : ZR} {h : AH} {tp : Nat} {u : Value} {s : Int32} (H1 : h tp = some (.inr (1, [u, .int s]))) : Ct l Γ yX2_init cX2_init 1 none 2 1 2000 [.ref tp] z h (Rn (fun z' h' => z' = z ∧ ∃ ba, h ba = none ∧ h' = up (up h ba (.inl (gA Γ 1, (2000, .inl (fun _ => 0))))) tp (.inr (1, [.ref ba, .int s])))) := by
  refine Ct.of hl hΓ (by decide +kernel) (Nat.le_of_ble_eq_true rfl) (fun X e1 e2 C => ?_)
  subst e1; subst e2
  have C : Cx X cX2_init 1 "RingDomino$Tape" "<init>" none [] 2 := C
  show WW X (Rn (fun z' h' => z' = z ∧ ∃ ba, h ba = none ∧ h' = up (up h ba (.inl (gA (xG X) 1, (2000, .inl (fun _ => 0))))) tp (.inr (1, [.ref ba, .int s])))) z h 1 2000 0 [(0, .ref tp)] []
  refine ww_aload_n C dX2_init_0 rfl 0 rfl rfl ?_
  refine ww_objInit C q179 q172 q173 dX2_init_1 (by decide) (Nat.le_of_ble_eq_true rfl) ?_
  refine ww_aload_n C dX2_init_4 rfl 0 rfl rfl ?_
  refine ww_sipush C dX2_init_5 cS_2000 ?_
  refine ww_newa (t := 1) (n := 2000) (a0 := (2000, .inl (fun _ => 0))) C dX2_init_8 (by decide) rfl q189 (fun cA => vp_cell_el cA _) (by decide) (by decide) (by decide) (fun ba ba_n ba_z ba_g => ?_)
  refine ww_gen (fun h1 hE1 => ?_)
  have H1_h1 : h1 tp = some (.inr (1, [u, .int s])) := by rw [hE1, up_n (ne_nw H1 ba_n)]; exact H1
  have N1_h1 : h1 ba = some (.inl (gA (xG X) 1, (2000, .inl (fun _ => 0)))) := by rw [hE1]; exact up_s
  refine pf_X2_9_X2 (fs' := [.ref ba, .int s]) C dX2_init_10 H1_h1 rfl rfl (Nat.le_of_ble_eq_true rfl) rfl ?_
  refine ww_gen (fun h2 hE2 => ?_)
  have N1_h2 : h2 ba = some (.inl (gA (xG X) 1, (2000, .inl (fun _ => 0)))) := by rw [hE2, up_n (ne_ob N1_h1 H1_h1 (by simp))]; exact N1_h1
  have H1_h2 : h2 tp = some (.inr (1, [.ref ba, .int s])) := by rw [hE2]; exact up_s
  exact ww_vret C dX2_init_13 ⟨rfl, ba, ba_n, by rw [hE2, hE1]⟩
end TAP
