section MO24
set_option maxRecDepth 100000
def TpV (M : MS) (t : TP) : Prop := M.1 1 = nI t.2 ∧ ∀ a, a < t.2 → M.2.1 1 a = nI (t.1 a)
def kwV (t : TP) (a m : Nat) : Nat := match kwN t a m with
  | some k => k
  | none => if 10 < m then 32 else 30
theorem wl_e : ∀ j, j < 24 → [131, 132, 133, 134, 135, 136, 137, 138, 139, 140, 141, 142, 143, 144, 145, 146, 147, 148, 149, 150, 151, 152, 153, 154].getD j 0 = 100 + (31 + j) := by decide
theorem bl_f {t : TP} {e : Nat} (h : blP t e = false) : byA t e ≠ 32 ∧ byA t e ≠ 10 := by
  unfold blP isBl at h
  rw [Bool.or_eq_false_iff, decide_eq_false_iff_not, decide_eq_false_iff_not] at h
  exact h
theorem runF_end {p : Nat → Bool} : ∀ f e, (f = 0 → p e = false) → (∀ j, p j = true → j < e + f) → p (runF p f e) = false
  | 0, e, h0, _ => h0 rfl
  | f + 1, e, _, h => by
    show p (if p e then runF p f (e + 1) else e) = false
    cases hp : p e with
    | false => exact hp
    | true =>
      simp only [if_true]
      refine runF_end f (e + 1) (fun q => ?_) (fun j hj => by have := h j hj; omega)
      cases hq : p (e + 1) with
      | false => rfl
      | true => have := h _ hq; omega
theorem run_end {p : Nat → Bool} {n e : Nat} (h : ∀ j, p j = true → j < n) : p (run p n e) = false := by
  unfold run
  rcases Nat.lt_or_ge e n with q | q
  · exact runF_end _ _ (fun q' => by omega) (fun j hj => by have := h j hj; omega)
  · rw [Nat.sub_eq_zero_of_le q]
    show p e = false
    cases hp : p e with
    | false => rfl
    | true => have := h e hp; omega
set_option maxHeartbeats 2000000 in
theorem ct_X4_isLetter {l : Launch} {Γ : Gm} (hl : l.flags = flags0) (hΓ : GOK Γ) {z : ZR} {h : AH} {t : TP} {a : Nat} (ht : TPo t) : Ct l Γ yX4_isLetter cX4_isLetter 1 (some .boolean) 2 0 0 [.int (byI t a)] z h (RdP z h (some (.int (bI (isLt (byA t a)))))) := by
  refine Ct.of hl hΓ (by decide +kernel) (Nat.le_of_ble_eq_true rfl) (fun X e1 e2 C => ?_)
  subst e1; subst e2
  have C : Cx X cX4_isLetter 1 "RingDominoModel" "isLetter" (some .boolean) [] 2 := C
  show WW X (RdP z h (some (.int (bI (isLt (byA t a)))))) z h 0 0 0 [(0, .int (byI t a))] []
  refine ww_iload_n C dX4_isLetter_0 rfl 0 rfl ?_
  refine ww_bipush C dX4_isLetter_1 cB_97 ?_
  refine ww_bipush C dX4_isLetter_3 cB_122 ?_
  refine cs_X4_68_r (As := [.int (byI t a), .int (nI 97), .int (nI 122)]) (rest := []) C dX4_isLetter_5 (ct_X4_isIn (Cx.fl C) (Cx.ok C)) rfl rfl (Nat.le_of_ble_eq_true rfl) (by decide) (Nat.zero_le _) (Nat.zero_le _) ?_
  exact ww_zret C dX4_isLetter_8 (nar_bI _) (RdP.i (by rw [byI_in ht (by decide) (by decide) (by decide)]; try rfl))
set_option maxHeartbeats 2000000 in
theorem ct_X4_isDigit {l : Launch} {Γ : Gm} (hl : l.flags = flags0) (hΓ : GOK Γ) {z : ZR} {h : AH} {t : TP} {a : Nat} (ht : TPo t) : Ct l Γ yX4_isDigit cX4_isDigit 1 (some .boolean) 2 0 0 [.int (byI t a)] z h (RdP z h (some (.int (bI (isDg (byA t a)))))) := by
  refine Ct.of hl hΓ (by decide +kernel) (Nat.le_of_ble_eq_true rfl) (fun X e1 e2 C => ?_)
  subst e1; subst e2
  have C : Cx X cX4_isDigit 1 "RingDominoModel" "isDigit" (some .boolean) [] 2 := C
  show WW X (RdP z h (some (.int (bI (isDg (byA t a)))))) z h 0 0 0 [(0, .int (byI t a))] []
  refine ww_iload_n C dX4_isDigit_0 rfl 0 rfl ?_
  refine ww_bipush C dX4_isDigit_1 cB_48 ?_
  refine ww_bipush C dX4_isDigit_3 cB_57 ?_
  refine cs_X4_68_r (As := [.int (byI t a), .int (nI 48), .int (nI 57)]) (rest := []) C dX4_isDigit_5 (ct_X4_isIn (Cx.fl C) (Cx.ok C)) rfl rfl (Nat.le_of_ble_eq_true rfl) (by decide) (Nat.zero_le _) (Nat.zero_le _) ?_
  exact ww_zret C dX4_isDigit_8 (nar_bI _) (RdP.i (by rw [byI_in ht (by decide) (by decide) (by decide)]; try rfl))
set_option maxHeartbeats 2000000 in
theorem ct_X4_byteAt {l : Launch} {Γ : Gm} (hl : l.flags = flags0) (hΓ : GOK Γ) {z : ZR} {h : AH} {D : Nat → Nat} {t : TP} {M : MS} {a : Nat} (hX : Mx Γ h D M) (hv : TpV M t) (ht : TPo t) (ha : a < 2 ^ 31) : Ct l Γ yX4_byteAt cX4_byteAt 2 (some .int) 1 0 0 [.ref (D 0), .int (nI a)] z h (RdP z h (some (.int (byI t a)))) := by
  refine Ct.of hl hΓ (by decide +kernel) (Nat.le_of_ble_eq_true rfl) (fun X e1 e2 C => ?_)
  subst e1; subst e2
  have C : Cx X cX4_byteAt 2 "RingDominoModel" "byteAt" (some .int) [] 1 := C
  obtain ⟨v1, v2⟩ := id hv
  have h20 := ht.1
  show WW X (RdP z h (some (.int (byI t a)))) z h 0 0 0 [(0, .ref (D 0)), (1, .int (nI a))] []
  have X0 : h (D 0) = some (cMd M.1 D) := hX.m
  have Y1 : h (D 1) = some (cI (xG X) 2000 (M.2.1 1)) := hX.1 1 (by decide)
  refine ww_iload_n C dX4_byteAt_0 rfl 1 rfl ?_
  refine ww_aload_n C dX4_byteAt_1 rfl 0 rfl rfl ?_
  refine gf_X4_72_X4 C dX4_byteAt_2 (Or.inl X0) rfl ?_
  refine ww_st (st' := [.int (nI t.2), .int (nI a)]) (by rw [v1]) ?_
  refine ww_icmp_ge_n (tgt := 17) C dX4_byteAt_5 (by decide) (by omega) (by omega) (fun c_5 => ?_) (fun c_5 => ?_)
  · skip
    refine ww_iconst C dX4_byteAt_17 cI_m1 ?_
    exact ww_iret C dX4_byteAt_18 (RdP.i (by unfold byI; rw [if_neg (by omega)]))
  · skip
    refine ww_aload_n C dX4_byteAt_8 rfl 0 rfl rfl ?_
    refine gf_X4_9_X4 C dX4_byteAt_9 (Or.inl X0) rfl ?_
    refine ww_iload_n C dX4_byteAt_12 rfl 1 rfl ?_
    refine ww_iald C dX4_byteAt_13 (Or.inl Y1) (by omega) (by decide) ?_
    refine ww_goto (tgt := 18) C dX4_byteAt_14 (by decide) ?_
    exact ww_iret C dX4_byteAt_18 (RdP.i (by unfold byI; rw [if_pos c_5, v2 a c_5]))
set_option maxHeartbeats 2000000 in
theorem ct_X4_isWord {l : Launch} {Γ : Gm} (hl : l.flags = flags0) (hΓ : GOK Γ) {z : ZR} {h : AH} {D : Nat → Nat} {t : TP} {M : MS} {a m k : Nat} (hz : zle (cst Γ) z) (hX : Mx Γ h D M) (hv : TpV M t) (ht : TPo t) (hk : k < 91) (ham : a + m ≤ t.2) : Ct l Γ yX4_isWord cX4_isWord 5 (some .boolean) 5 0 0 [.ref (D 0), .int (nI a), .int (nI m), .ref (gE Γ (100 + k))] z h (RdP z h (some (.int (bI (wdE (tx k) t a m))))) := by
  refine Ct.of hl hΓ (by decide +kernel) (Nat.le_of_ble_eq_true rfl) (fun X e1 e2 C => ?_)
  subst e1; subst e2
  have C : Cx X cX4_isWord 5 "RingDominoModel" "isWord" (some .boolean) [] 5 := C
  obtain ⟨v1, v2⟩ := id hv
  have h20 := ht.1
  have hs := cst_st (h := h) hz hk
  have hl40 := (stT_ok k hk).1
  show WW X (RdP z h (some (.int (bI (wdE (tx k) t a m))))) z h 0 0 0 [(0, .ref (D 0)), (1, .int (nI a)), (2, .int (nI m)), (3, .ref (gE (xG X) (100 + k)))] []
  have X0 : h (D 0) = some (cMd M.1 D) := hX.m
  have Y1 : h (D 1) = some (cI (xG X) 2000 (M.2.1 1)) := hX.1 1 (by decide)
  refine ww_aload_n C dX4_isWord_0 rfl 3 rfl rfl ?_
  refine cv_X4_75_r (As := []) (rest := []) C dX4_isWord_1 (ct_J11_length (Cx.fl C) (Cx.ok C) hs) (hs.rc (Cx.ok C)) rfl rfl (Nat.le_of_ble_eq_true rfl) (by decide) (Nat.zero_le _) (Nat.zero_le _) ?_
  refine ww_iload_n C dX4_isWord_4 rfl 2 rfl ?_
  refine ww_icmp_eq_n (tgt := 10) C dX4_isWord_5 (by decide) (by omega) (by omega) (fun c_5 => ?_) (fun c_5 => ?_)
  · skip
    refine ww_iconst C dX4_isWord_10 cI_0 ?_
    refine ww_istore (lv' := [(4, .int (nI 0)), (0, .ref (D 0)), (1, .int (nI a)), (2, .int (nI m)), (3, .ref (gE (xG X) (100 + k)))]) C dX4_isWord_11 (by decide) rfl ?_
    refine loop_up (N := m) (M := fun j => ff (fun j => decide (¬ (tx k).getD j 0 = t.1 (a + j))) m 0 = ff (fun j => decide (¬ (tx k).getD j 0 = t.1 (a + j))) (m - j) j → WW X (RdP z h (some (.int (bI (wdE (tx k) t a m))))) z h 0 0 13 [(4, .int (nI j)), (0, .ref (D 0)), (1, .int (nI a)), (2, .int (nI m)), (3, .ref (gE (xG X) (100 + k)))] []) ?_ ?_ 0 (Nat.zero_le _) rfl
    · intro hv9
      show WW X (RdP z h (some (.int (bI (wdE (tx k) t a m))))) z h 0 0 13 [(4, .int (nI m)), (0, .ref (D 0)), (1, .int (nI a)), (2, .int (nI m)), (3, .ref (gE (xG X) (100 + k)))] []
      refine ww_iload C dX4_isWord_13 0 rfl ?_
      refine ww_iload_n C dX4_isWord_15 rfl 3 rfl ?_
      refine ww_icmp_ge_t (tgt := 45) C dX4_isWord_16 (by decide) (nI_le (Nat.le_refl _) (by omega)) ?_
      refine ww_iconst C dX4_isWord_45 cI_1 ?_
      exact ww_zret C dX4_isWord_46 nar_z1 (RdP.i (by unfold wdE; rw [decide_eq_true c_5, hv9, ff_0]; try rfl))
    · intro j hi ih hv9
      show WW X (RdP z h (some (.int (bI (wdE (tx k) t a m))))) z h 0 0 13 [(4, .int (nI j)), (0, .ref (D 0)), (1, .int (nI a)), (2, .int (nI m)), (3, .ref (gE (xG X) (100 + k)))] []
      have hgd : (tx k).getD j 0 < 256 := by { obtain ⟨_, _, _, _, _, _, _, hf⟩ := id hs; exact (hf j (by omega)).2 }
      have htb := ht.2 (a + j) (by omega)
      refine ww_iload C dX4_isWord_13 0 rfl ?_
      refine ww_iload_n C dX4_isWord_15 rfl 3 rfl ?_
      refine ww_icmp_ge_f (tgt := 45) C dX4_isWord_16 (by decide) (nI_ge hi (by omega)) ?_
      refine ww_aload_n C dX4_isWord_19 rfl 4 rfl rfl ?_
      refine ww_iload C dX4_isWord_20 0 rfl ?_
      refine cv_X4_80_r (As := [.int (nI j)]) (rest := []) C dX4_isWord_22 (ct_J11_charAt (Cx.fl C) (Cx.ok C) hs (by omega)) (hs.rc (Cx.ok C)) rfl rfl (Nat.le_of_ble_eq_true rfl) (by decide) (Nat.zero_le _) (Nat.zero_le _) ?_
      refine ww_aload_n C dX4_isWord_25 rfl 1 rfl rfl ?_
      refine gf_X4_9_X4 C dX4_isWord_26 (Or.inl X0) rfl ?_
      refine ww_iload_n C dX4_isWord_29 rfl 2 rfl ?_
      refine ww_iload C dX4_isWord_30 0 rfl ?_
      refine ww_iaddn C dX4_isWord_32 ?_
      refine ww_iald C dX4_isWord_33 (Or.inl Y1) (by omega) (by decide) ?_
      refine ww_st (st' := [.int (nI (t.1 (a + j))), .int (nI ((tx k).getD j 0))]) (by rw [v2 (a + j) (by omega)]) ?_
      refine ww_icmp_eq_n (tgt := 39) C dX4_isWord_34 (by decide) (by omega) (by omega) (fun c_34 => ?_) (fun c_34 => ?_)
      · skip
        have hp : (fun j => decide (¬ (tx k).getD j 0 = t.1 (a + j))) j = false := decide_eq_false (fun q => q c_34)
        refine ww_iinc (lv' := [(4, .int (nI (j + 1))), (0, .ref (D 0)), (1, .int (nI a)), (2, .int (nI m)), (3, .ref (gE (xG X) (100 + k)))]) C dX4_isWord_39 0 rfl (inc_n _) (by decide) rfl ?_
        refine ww_goto (tgt := 13) C dX4_isWord_42 (by decide) ?_
        exact ih (hv9.trans (ff_f hi hp))
      · skip
        have hp : (fun j => decide (¬ (tx k).getD j 0 = t.1 (a + j))) j = true := decide_eq_true c_34
        refine ww_iconst C dX4_isWord_37 cI_0 ?_
        exact ww_zret C dX4_isWord_38 nar_z0 (RdP.i (by unfold wdE; rw [decide_eq_true c_5, hv9, ff_t hi hp]; try rfl))
  · skip
    refine ww_iconst C dX4_isWord_8 cI_0 ?_
    exact ww_zret C dX4_isWord_9 nar_z0 (RdP.i (by unfold wdE; rw [decide_eq_false c_5]; try rfl))
set_option maxHeartbeats 2000000 in
theorem ct_X4_keyword {l : Launch} {Γ : Gm} (hl : l.flags = flags0) (hΓ : GOK Γ) {z : ZR} {h : AH} {D : Nat → Nat} {t : TP} {M : MS} {a m : Nat} (hz : zle (cst Γ) z) (hX : Mx Γ h D M) (hv : TpV M t) (ht : TPo t) (ham : a + m ≤ t.2) : Ct l Γ yX4_keyword cX4_keyword 4 (some .int) 6 0 0 [.ref (D 0), .int (nI a), .int (nI m)] z h (RdP z h (some (.int (nI (kwV t a m))))) := by
  refine Ct.of hl hΓ (by decide +kernel) (Nat.le_of_ble_eq_true rfl) (fun X e1 e2 C => ?_)
  subst e1; subst e2
  have C : Cx X cX4_keyword 4 "RingDominoModel" "keyword" (some .int) [] 6 := C
  obtain ⟨v1, v2⟩ := id hv
  have h20 := ht.1
  have HW : rd z h (gE (xG X) 33) (.inl (gA (xG X) 6, (24, refs (fun k => some (gE (xG X) ([131, 132, 133, 134, 135, 136, 137, 138, 139, 140, 141, 142, 143, 144, 145, 146, 147, 148, 149, 150, 151, 152, 153, 154].getD k 0)))))) := Or.inr (hz _ _ (Or.inr (Or.inr (Or.inr (Or.inr (Or.inr (Or.inr (Or.inr (Or.inl ⟨rfl, rfl⟩)))))))))
  show WW X (RdP z h (some (.int (nI (kwV t a m))))) z h 0 0 0 [(0, .ref (D 0)), (1, .int (nI a)), (2, .int (nI m))] []
  have X0 : h (D 0) = some (cMd M.1 D) := hX.m
  refine ww_iconst C dX4_keyword_0 cI_0 ?_
  refine ww_istore_n (lv' := [(3, .int (nI 0)), (0, .ref (D 0)), (1, .int (nI a)), (2, .int (nI m))]) C dX4_keyword_1 rfl (by decide) rfl ?_
  refine loop_up (N := 24) (M := fun j => ff (fun k => wdE (tx (31 + k)) t a m) 24 0 = ff (fun k => wdE (tx (31 + k)) t a m) (24 - j) j → WW X (RdP z h (some (.int (nI (kwV t a m))))) z h 0 0 2 [(3, .int (nI j)), (0, .ref (D 0)), (1, .int (nI a)), (2, .int (nI m))] []) ?_ ?_ 0 (Nat.zero_le _) rfl
  · intro hv9
    show WW X (RdP z h (some (.int (nI (kwV t a m))))) z h 0 0 2 [(3, .int (nI 24)), (0, .ref (D 0)), (1, .int (nI a)), (2, .int (nI m))] []
    refine ww_iload_n C dX4_keyword_2 rfl 0 rfl ?_
    refine ww_gsv C (sv_33 (Cx.ok C)) q2948 (fun _ q => q) dX4_keyword_3 ?_
    refine ww_alen (t := 6) C dX4_keyword_6 (by decide) HW ?_
    refine ww_icmp_ge_t (tgt := 32) C dX4_keyword_7 (by decide) (nI_le (Nat.le_refl _) (by decide)) ?_
    refine ww_iload_n C dX4_keyword_32 rfl 3 rfl ?_
    refine ww_bipush C dX4_keyword_33 cB_10 ?_
    refine ww_icmp_le_n (tgt := 43) C dX4_keyword_35 (by decide) (by omega) (by decide) (fun c_35 => ?_) (fun c_35 => ?_)
    · skip
      refine ww_bipush C dX4_keyword_43 cB_30 ?_
      exact ww_iret C dX4_keyword_45 (RdP.i (by unfold kwV kwN; rw [hv9, ff_0]; simp only; rw [if_neg (by omega)]))
    · skip
      refine ww_bipush C dX4_keyword_38 cB_32 ?_
      refine ww_goto (tgt := 45) C dX4_keyword_40 (by decide) ?_
      exact ww_iret C dX4_keyword_45 (RdP.i (by unfold kwV kwN; rw [hv9, ff_0]; simp only; rw [if_pos (by omega)]))
  · intro j hi ih hv9
    show WW X (RdP z h (some (.int (nI (kwV t a m))))) z h 0 0 2 [(3, .int (nI j)), (0, .ref (D 0)), (1, .int (nI a)), (2, .int (nI m))] []
    refine ww_iload_n C dX4_keyword_2 rfl 0 rfl ?_
    refine ww_gsv C (sv_33 (Cx.ok C)) q2948 (fun _ q => q) dX4_keyword_3 ?_
    refine ww_alen (t := 6) C dX4_keyword_6 (by decide) HW ?_
    refine ww_icmp_ge_f (tgt := 32) C dX4_keyword_7 (by decide) (nI_ge hi (by decide)) ?_
    refine ww_aload_n C dX4_keyword_10 rfl 1 rfl rfl ?_
    refine ww_iload_n C dX4_keyword_11 rfl 2 rfl ?_
    refine ww_iload_n C dX4_keyword_12 rfl 3 rfl ?_
    refine ww_gsv C (sv_33 (Cx.ok C)) q2948 (fun _ q => q) dX4_keyword_13 ?_
    refine ww_iload_n C dX4_keyword_16 rfl 0 rfl ?_
    refine ww_aald (t := 6) C dX4_keyword_17 (by decide) rfl HW (by omega) (by decide) ?_
    refine ww_st (st' := [.ref (gE (xG X) (100 + (31 + j))), .int (nI m), .int (nI a), .ref (D 0)]) (by rw [wl_e j hi]; rfl) ?_
    refine cv_X4_88_r (As := [.int (nI a), .int (nI m), .ref (gE (xG X) (100 + (31 + j)))]) (rest := []) C dX4_keyword_18 (ct_X4_isWord (Cx.fl C) (Cx.ok C) (k := 31 + j) hz hX hv ht (by omega) ham) (rc_X4 (Cx.ok C) (Or.inl X0)) rfl rfl (Nat.le_of_ble_eq_true rfl) (by decide) (Nat.zero_le _) (Nat.zero_le _) ?_
    refine ww_if_eq_b (tgt := 26) C dX4_keyword_21 (by decide) (fun c_21 => ?_) (fun c_21 => ?_)
    · skip
      refine ww_iinc (lv' := [(3, .int (nI (j + 1))), (0, .ref (D 0)), (1, .int (nI a)), (2, .int (nI m))]) C dX4_keyword_26 0 rfl (inc_n _) (by decide) rfl ?_
      refine ww_goto (tgt := 2) C dX4_keyword_29 (by decide) ?_
      exact ih (hv9.trans (ff_f hi c_21))
    · skip
      refine ww_iload_n C dX4_keyword_24 rfl 0 rfl ?_
      exact ww_iret C dX4_keyword_25 (RdP.i (by unfold kwV kwN; rw [hv9, ff_t hi c_21]))
set_option maxHeartbeats 2000000 in
theorem ct_X4_symbol {l : Launch} {Γ : Gm} (hl : l.flags = flags0) (hΓ : GOK Γ) {z : ZR} {h : AH} {c : Nat} (hc : c < 256) : Ct l Γ yX4_symbol cX4_symbol 1 (some .int) 1 0 0 [.int (nI c)] z h (RdP z h (some (.int (nI (symK c))))) := by
  refine Ct.of hl hΓ (by decide +kernel) (Nat.le_of_ble_eq_true rfl) (fun X e1 e2 C => ?_)
  subst e1; subst e2
  have C : Cx X cX4_symbol 1 "RingDominoModel" "symbol" (some .int) [] 1 := C
  show WW X (RdP z h (some (.int (nI (symK c))))) z h 0 0 0 [(0, .int (nI c))] []
  refine ww_iload_n C dX4_symbol_0 rfl 0 rfl ?_
  have hti : (nI c).toInt = (c : Int) := nI_toInt (by omega)
  have hcs : (c < 40 ∨ 93 < c) ∨ c = 40 ∨ c = 41 ∨ c = 42 ∨ c = 43 ∨ c = 44 ∨ c = 45 ∨ c = 46 ∨ c = 47 ∨ c = 48 ∨ c = 49 ∨ c = 50 ∨ c = 51 ∨ c = 52 ∨ c = 53 ∨ c = 54 ∨ c = 55 ∨ c = 56 ∨ c = 57 ∨ c = 58 ∨ c = 59 ∨ c = 60 ∨ c = 61 ∨ c = 62 ∨ c = 63 ∨ c = 64 ∨ c = 65 ∨ c = 66 ∨ c = 67 ∨ c = 68 ∨ c = 69 ∨ c = 70 ∨ c = 71 ∨ c = 72 ∨ c = 73 ∨ c = 74 ∨ c = 75 ∨ c = 76 ∨ c = 77 ∨ c = 78 ∨ c = 79 ∨ c = 80 ∨ c = 81 ∨ c = 82 ∨ c = 83 ∨ c = 84 ∨ c = 85 ∨ c = 86 ∨ c = 87 ∨ c = 88 ∨ c = 89 ∨ c = 90 ∨ c = 91 ∨ c = 92 ∨ c = 93 := by omega
  rcases hcs with hcs | rfl | rfl | rfl | rfl | rfl | rfl | rfl | rfl | rfl | rfl | rfl | rfl | rfl | rfl | rfl | rfl | rfl | rfl | rfl | rfl | rfl | rfl | rfl | rfl | rfl | rfl | rfl | rfl | rfl | rfl | rfl | rfl | rfl | rfl | rfl | rfl | rfl | rfl | rfl | rfl | rfl | rfl | rfl | rfl | rfl | rfl | rfl | rfl | rfl | rfl | rfl | rfl | rfl | rfl
  · refine ww_tout (tgt := 271) C dX4_symbol_1 (by rw [hti]; omega) (by decide) ?_
    refine ww_bipush C dX4_symbol_271 cB_32 ?_
    exact ww_iret C dX4_symbol_273 (RdP.i (by unfold symK; rw [if_neg (by omega), if_neg (by omega), if_neg (by omega), if_neg (by omega), if_neg (by omega), if_neg (by omega), if_neg (by omega), if_neg (by omega), if_neg (by omega), if_neg (by omega), if_neg (by omega), if_neg (by omega), if_neg (by omega)]))
  · refine ww_tin (tgt := 232) C dX4_symbol_1 (by decide) (by decide) rfl (by decide) ?_
    refine ww_bipush C dX4_symbol_232 cB_49 ?_
    exact ww_iret C dX4_symbol_234 (RdP.i rfl)
  · refine ww_tin (tgt := 235) C dX4_symbol_1 (by decide) (by decide) rfl (by decide) ?_
    refine ww_bipush C dX4_symbol_235 cB_50 ?_
    exact ww_iret C dX4_symbol_237 (RdP.i rfl)
  · refine ww_tin (tgt := 256) C dX4_symbol_1 (by decide) (by decide) rfl (by decide) ?_
    refine ww_bipush C dX4_symbol_256 cB_42 ?_
    exact ww_iret C dX4_symbol_258 (RdP.i rfl)
  · refine ww_tin (tgt := 250) C dX4_symbol_1 (by decide) (by decide) rfl (by decide) ?_
    refine ww_bipush C dX4_symbol_250 cB_40 ?_
    exact ww_iret C dX4_symbol_252 (RdP.i rfl)
  · refine ww_tin (tgt := 247) C dX4_symbol_1 (by decide) (by decide) rfl (by decide) ?_
    refine ww_bipush C dX4_symbol_247 cB_54 ?_
    exact ww_iret C dX4_symbol_249 (RdP.i rfl)
  · refine ww_tin (tgt := 253) C dX4_symbol_1 (by decide) (by decide) rfl (by decide) ?_
    refine ww_bipush C dX4_symbol_253 cB_41 ?_
    exact ww_iret C dX4_symbol_255 (RdP.i rfl)
  · refine ww_tin (tgt := 271) C dX4_symbol_1 (by decide) (by decide) rfl (by decide) ?_
    refine ww_bipush C dX4_symbol_271 cB_32 ?_
    exact ww_iret C dX4_symbol_273 (RdP.i rfl)
  · refine ww_tin (tgt := 259) C dX4_symbol_1 (by decide) (by decide) rfl (by decide) ?_
    refine ww_bipush C dX4_symbol_259 cB_43 ?_
    exact ww_iret C dX4_symbol_261 (RdP.i rfl)
  · refine ww_tin (tgt := 271) C dX4_symbol_1 (by decide) (by decide) rfl (by decide) ?_
    refine ww_bipush C dX4_symbol_271 cB_32 ?_
    exact ww_iret C dX4_symbol_273 (RdP.i rfl)
  · refine ww_tin (tgt := 271) C dX4_symbol_1 (by decide) (by decide) rfl (by decide) ?_
    refine ww_bipush C dX4_symbol_271 cB_32 ?_
    exact ww_iret C dX4_symbol_273 (RdP.i rfl)
  · refine ww_tin (tgt := 271) C dX4_symbol_1 (by decide) (by decide) rfl (by decide) ?_
    refine ww_bipush C dX4_symbol_271 cB_32 ?_
    exact ww_iret C dX4_symbol_273 (RdP.i rfl)
  · refine ww_tin (tgt := 271) C dX4_symbol_1 (by decide) (by decide) rfl (by decide) ?_
    refine ww_bipush C dX4_symbol_271 cB_32 ?_
    exact ww_iret C dX4_symbol_273 (RdP.i rfl)
  · refine ww_tin (tgt := 271) C dX4_symbol_1 (by decide) (by decide) rfl (by decide) ?_
    refine ww_bipush C dX4_symbol_271 cB_32 ?_
    exact ww_iret C dX4_symbol_273 (RdP.i rfl)
  · refine ww_tin (tgt := 271) C dX4_symbol_1 (by decide) (by decide) rfl (by decide) ?_
    refine ww_bipush C dX4_symbol_271 cB_32 ?_
    exact ww_iret C dX4_symbol_273 (RdP.i rfl)
  · refine ww_tin (tgt := 271) C dX4_symbol_1 (by decide) (by decide) rfl (by decide) ?_
    refine ww_bipush C dX4_symbol_271 cB_32 ?_
    exact ww_iret C dX4_symbol_273 (RdP.i rfl)
  · refine ww_tin (tgt := 271) C dX4_symbol_1 (by decide) (by decide) rfl (by decide) ?_
    refine ww_bipush C dX4_symbol_271 cB_32 ?_
    exact ww_iret C dX4_symbol_273 (RdP.i rfl)
  · refine ww_tin (tgt := 271) C dX4_symbol_1 (by decide) (by decide) rfl (by decide) ?_
    refine ww_bipush C dX4_symbol_271 cB_32 ?_
    exact ww_iret C dX4_symbol_273 (RdP.i rfl)
  · refine ww_tin (tgt := 271) C dX4_symbol_1 (by decide) (by decide) rfl (by decide) ?_
    refine ww_bipush C dX4_symbol_271 cB_32 ?_
    exact ww_iret C dX4_symbol_273 (RdP.i rfl)
  · refine ww_tin (tgt := 271) C dX4_symbol_1 (by decide) (by decide) rfl (by decide) ?_
    refine ww_bipush C dX4_symbol_271 cB_32 ?_
    exact ww_iret C dX4_symbol_273 (RdP.i rfl)
  · refine ww_tin (tgt := 244) C dX4_symbol_1 (by decide) (by decide) rfl (by decide) ?_
    refine ww_bipush C dX4_symbol_244 cB_53 ?_
    exact ww_iret C dX4_symbol_246 (RdP.i rfl)
  · refine ww_tin (tgt := 262) C dX4_symbol_1 (by decide) (by decide) rfl (by decide) ?_
    refine ww_bipush C dX4_symbol_262 cB_44 ?_
    exact ww_iret C dX4_symbol_264 (RdP.i rfl)
  · refine ww_tin (tgt := 268) C dX4_symbol_1 (by decide) (by decide) rfl (by decide) ?_
    refine ww_bipush C dX4_symbol_268 cB_46 ?_
    exact ww_iret C dX4_symbol_270 (RdP.i rfl)
  · refine ww_tin (tgt := 265) C dX4_symbol_1 (by decide) (by decide) rfl (by decide) ?_
    refine ww_bipush C dX4_symbol_265 cB_45 ?_
    exact ww_iret C dX4_symbol_267 (RdP.i rfl)
  · refine ww_tin (tgt := 271) C dX4_symbol_1 (by decide) (by decide) rfl (by decide) ?_
    refine ww_bipush C dX4_symbol_271 cB_32 ?_
    exact ww_iret C dX4_symbol_273 (RdP.i rfl)
  · refine ww_tin (tgt := 271) C dX4_symbol_1 (by decide) (by decide) rfl (by decide) ?_
    refine ww_bipush C dX4_symbol_271 cB_32 ?_
    exact ww_iret C dX4_symbol_273 (RdP.i rfl)
  · refine ww_tin (tgt := 271) C dX4_symbol_1 (by decide) (by decide) rfl (by decide) ?_
    refine ww_bipush C dX4_symbol_271 cB_32 ?_
    exact ww_iret C dX4_symbol_273 (RdP.i rfl)
  · refine ww_tin (tgt := 271) C dX4_symbol_1 (by decide) (by decide) rfl (by decide) ?_
    refine ww_bipush C dX4_symbol_271 cB_32 ?_
    exact ww_iret C dX4_symbol_273 (RdP.i rfl)
  · refine ww_tin (tgt := 271) C dX4_symbol_1 (by decide) (by decide) rfl (by decide) ?_
    refine ww_bipush C dX4_symbol_271 cB_32 ?_
    exact ww_iret C dX4_symbol_273 (RdP.i rfl)
  · refine ww_tin (tgt := 271) C dX4_symbol_1 (by decide) (by decide) rfl (by decide) ?_
    refine ww_bipush C dX4_symbol_271 cB_32 ?_
    exact ww_iret C dX4_symbol_273 (RdP.i rfl)
  · refine ww_tin (tgt := 271) C dX4_symbol_1 (by decide) (by decide) rfl (by decide) ?_
    refine ww_bipush C dX4_symbol_271 cB_32 ?_
    exact ww_iret C dX4_symbol_273 (RdP.i rfl)
  · refine ww_tin (tgt := 271) C dX4_symbol_1 (by decide) (by decide) rfl (by decide) ?_
    refine ww_bipush C dX4_symbol_271 cB_32 ?_
    exact ww_iret C dX4_symbol_273 (RdP.i rfl)
  · refine ww_tin (tgt := 271) C dX4_symbol_1 (by decide) (by decide) rfl (by decide) ?_
    refine ww_bipush C dX4_symbol_271 cB_32 ?_
    exact ww_iret C dX4_symbol_273 (RdP.i rfl)
  · refine ww_tin (tgt := 271) C dX4_symbol_1 (by decide) (by decide) rfl (by decide) ?_
    refine ww_bipush C dX4_symbol_271 cB_32 ?_
    exact ww_iret C dX4_symbol_273 (RdP.i rfl)
  · refine ww_tin (tgt := 271) C dX4_symbol_1 (by decide) (by decide) rfl (by decide) ?_
    refine ww_bipush C dX4_symbol_271 cB_32 ?_
    exact ww_iret C dX4_symbol_273 (RdP.i rfl)
  · refine ww_tin (tgt := 271) C dX4_symbol_1 (by decide) (by decide) rfl (by decide) ?_
    refine ww_bipush C dX4_symbol_271 cB_32 ?_
    exact ww_iret C dX4_symbol_273 (RdP.i rfl)
  · refine ww_tin (tgt := 271) C dX4_symbol_1 (by decide) (by decide) rfl (by decide) ?_
    refine ww_bipush C dX4_symbol_271 cB_32 ?_
    exact ww_iret C dX4_symbol_273 (RdP.i rfl)
  · refine ww_tin (tgt := 271) C dX4_symbol_1 (by decide) (by decide) rfl (by decide) ?_
    refine ww_bipush C dX4_symbol_271 cB_32 ?_
    exact ww_iret C dX4_symbol_273 (RdP.i rfl)
  · refine ww_tin (tgt := 271) C dX4_symbol_1 (by decide) (by decide) rfl (by decide) ?_
    refine ww_bipush C dX4_symbol_271 cB_32 ?_
    exact ww_iret C dX4_symbol_273 (RdP.i rfl)
  · refine ww_tin (tgt := 271) C dX4_symbol_1 (by decide) (by decide) rfl (by decide) ?_
    refine ww_bipush C dX4_symbol_271 cB_32 ?_
    exact ww_iret C dX4_symbol_273 (RdP.i rfl)
  · refine ww_tin (tgt := 271) C dX4_symbol_1 (by decide) (by decide) rfl (by decide) ?_
    refine ww_bipush C dX4_symbol_271 cB_32 ?_
    exact ww_iret C dX4_symbol_273 (RdP.i rfl)
  · refine ww_tin (tgt := 271) C dX4_symbol_1 (by decide) (by decide) rfl (by decide) ?_
    refine ww_bipush C dX4_symbol_271 cB_32 ?_
    exact ww_iret C dX4_symbol_273 (RdP.i rfl)
  · refine ww_tin (tgt := 271) C dX4_symbol_1 (by decide) (by decide) rfl (by decide) ?_
    refine ww_bipush C dX4_symbol_271 cB_32 ?_
    exact ww_iret C dX4_symbol_273 (RdP.i rfl)
  · refine ww_tin (tgt := 271) C dX4_symbol_1 (by decide) (by decide) rfl (by decide) ?_
    refine ww_bipush C dX4_symbol_271 cB_32 ?_
    exact ww_iret C dX4_symbol_273 (RdP.i rfl)
  · refine ww_tin (tgt := 271) C dX4_symbol_1 (by decide) (by decide) rfl (by decide) ?_
    refine ww_bipush C dX4_symbol_271 cB_32 ?_
    exact ww_iret C dX4_symbol_273 (RdP.i rfl)
  · refine ww_tin (tgt := 271) C dX4_symbol_1 (by decide) (by decide) rfl (by decide) ?_
    refine ww_bipush C dX4_symbol_271 cB_32 ?_
    exact ww_iret C dX4_symbol_273 (RdP.i rfl)
  · refine ww_tin (tgt := 271) C dX4_symbol_1 (by decide) (by decide) rfl (by decide) ?_
    refine ww_bipush C dX4_symbol_271 cB_32 ?_
    exact ww_iret C dX4_symbol_273 (RdP.i rfl)
  · refine ww_tin (tgt := 271) C dX4_symbol_1 (by decide) (by decide) rfl (by decide) ?_
    refine ww_bipush C dX4_symbol_271 cB_32 ?_
    exact ww_iret C dX4_symbol_273 (RdP.i rfl)
  · refine ww_tin (tgt := 271) C dX4_symbol_1 (by decide) (by decide) rfl (by decide) ?_
    refine ww_bipush C dX4_symbol_271 cB_32 ?_
    exact ww_iret C dX4_symbol_273 (RdP.i rfl)
  · refine ww_tin (tgt := 271) C dX4_symbol_1 (by decide) (by decide) rfl (by decide) ?_
    refine ww_bipush C dX4_symbol_271 cB_32 ?_
    exact ww_iret C dX4_symbol_273 (RdP.i rfl)
  · refine ww_tin (tgt := 271) C dX4_symbol_1 (by decide) (by decide) rfl (by decide) ?_
    refine ww_bipush C dX4_symbol_271 cB_32 ?_
    exact ww_iret C dX4_symbol_273 (RdP.i rfl)
  · refine ww_tin (tgt := 271) C dX4_symbol_1 (by decide) (by decide) rfl (by decide) ?_
    refine ww_bipush C dX4_symbol_271 cB_32 ?_
    exact ww_iret C dX4_symbol_273 (RdP.i rfl)
  · refine ww_tin (tgt := 238) C dX4_symbol_1 (by decide) (by decide) rfl (by decide) ?_
    refine ww_bipush C dX4_symbol_238 cB_51 ?_
    exact ww_iret C dX4_symbol_240 (RdP.i rfl)
  · refine ww_tin (tgt := 271) C dX4_symbol_1 (by decide) (by decide) rfl (by decide) ?_
    refine ww_bipush C dX4_symbol_271 cB_32 ?_
    exact ww_iret C dX4_symbol_273 (RdP.i rfl)
  · refine ww_tin (tgt := 241) C dX4_symbol_1 (by decide) (by decide) rfl (by decide) ?_
    refine ww_bipush C dX4_symbol_241 cB_52 ?_
    exact ww_iret C dX4_symbol_243 (RdP.i rfl)
set_option maxHeartbeats 2000000 in
theorem ct_X4_skip {l : Launch} {Γ : Gm} (hl : l.flags = flags0) (hΓ : GOK Γ) {z : ZR} {h : AH} {D : Nat → Nat} {t : TP} {M : MS} {a : Nat} (hX : Mx Γ h D M) (hv : TpV M t) (ht : TPo t) (ha : a ≤ t.2) : Ct l Γ yX4_skip cX4_skip 3 (some .int) 2 0 0 [.ref (D 0), .int (nI a)] z h (RdP z h (some (.int (nI (run (blP t) t.2 a))))) := by
  refine Ct.of hl hΓ (by decide +kernel) (Nat.le_of_ble_eq_true rfl) (fun X e1 e2 C => ?_)
  subst e1; subst e2
  have C : Cx X cX4_skip 3 "RingDominoModel" "skip" (some .int) [] 2 := C
  obtain ⟨v1, v2⟩ := id hv
  have h20 := ht.1
  have r1 := run_ge (p := blP t) (n := t.2) (e := a)
  have r2 := run_le (p := blP t) ha
  show WW X (RdP z h (some (.int (nI (run (blP t) t.2 a))))) z h 0 0 0 [(0, .ref (D 0)), (1, .int (nI a))] []
  have X0 : h (D 0) = some (cMd M.1 D) := hX.m
  refine ww_iload_n C dX4_skip_0 rfl 1 rfl ?_
  refine ww_istore_n (lv' := [(2, .int (nI a)), (0, .ref (D 0)), (1, .int (nI a))]) C dX4_skip_1 rfl (by decide) rfl ?_
  refine ww_lv (lv' := [(2, .int (nI (a + 0))), (0, .ref (D 0)), (1, .int (nI a))]) (by rfl) ?_
  refine loop_up (N := (run (blP t) t.2 a - a)) (M := fun j => WW X (RdP z h (some (.int (nI (run (blP t) t.2 a))))) z h 0 0 2 [(2, .int (nI (a + j))), (0, .ref (D 0)), (1, .int (nI a))] []) ?_ ?_ 0 (Nat.zero_le _)
  · show WW X (RdP z h (some (.int (nI (run (blP t) t.2 a))))) z h 0 0 2 [(2, .int (nI (a + (run (blP t) t.2 a - a)))), (0, .ref (D 0)), (1, .int (nI a))] []
    have he : a + (run (blP t) t.2 a - a) = run (blP t) t.2 a := by omega
    have hb := run_end (p := blP t) (n := t.2) (e := a) (fun j hj => blP_lt hj)
    rw [← he] at hb
    refine ww_aload_n C dX4_skip_2 rfl 1 rfl rfl ?_
    refine ww_iload_n C dX4_skip_3 rfl 0 rfl ?_
    refine cv_X4_96_r (As := [.int (nI (a + (run (blP t) t.2 a - a)))]) (rest := []) C dX4_skip_4 (ct_X4_byteAt (Cx.fl C) (Cx.ok C) hX hv ht (a := a + (run (blP t) t.2 a - a)) (by omega)) (rc_X4 (Cx.ok C) (Or.inl X0)) rfl rfl (Nat.le_of_ble_eq_true rfl) (by decide) (Nat.zero_le _) (Nat.zero_le _) ?_
    refine ww_bipush C dX4_skip_7 cB_32 ?_
    refine ww_icmp_eq_f (tgt := 22) C dX4_skip_9 (by decide) (fun q => (bl_f hb).1 ((byI_eq ht (by decide) (by decide)).mp q)) ?_
    refine ww_aload_n C dX4_skip_12 rfl 1 rfl rfl ?_
    refine ww_iload_n C dX4_skip_13 rfl 0 rfl ?_
    refine cv_X4_96_r (As := [.int (nI (a + (run (blP t) t.2 a - a)))]) (rest := []) C dX4_skip_14 (ct_X4_byteAt (Cx.fl C) (Cx.ok C) hX hv ht (a := a + (run (blP t) t.2 a - a)) (by omega)) (rc_X4 (Cx.ok C) (Or.inl X0)) rfl rfl (Nat.le_of_ble_eq_true rfl) (by decide) (Nat.zero_le _) (Nat.zero_le _) ?_
    refine ww_bipush C dX4_skip_17 cB_10 ?_
    refine ww_icmp_ne_t (tgt := 28) C dX4_skip_19 (by decide) (fun q => (bl_f hb).2 ((byI_eq ht (by decide) (by decide)).mp q)) ?_
    refine ww_iload_n C dX4_skip_28 rfl 0 rfl ?_
    exact ww_iret C dX4_skip_29 (RdP.i (by rw [he]))
  · intro j hi ih
    show WW X (RdP z h (some (.int (nI (run (blP t) t.2 a))))) z h 0 0 2 [(2, .int (nI (a + j))), (0, .ref (D 0)), (1, .int (nI a))] []
    have hb : blP t (a + j) = true := run_all (n := t.2) (e := a) (by omega) (by omega)
    have hbl := blP_lt hb
    refine ww_aload_n C dX4_skip_2 rfl 1 rfl rfl ?_
    refine ww_iload_n C dX4_skip_3 rfl 0 rfl ?_
    refine cv_X4_96_r (As := [.int (nI (a + j))]) (rest := []) C dX4_skip_4 (ct_X4_byteAt (Cx.fl C) (Cx.ok C) hX hv ht (a := a + j) (by omega)) (rc_X4 (Cx.ok C) (Or.inl X0)) rfl rfl (Nat.le_of_ble_eq_true rfl) (by decide) (Nat.zero_le _) (Nat.zero_le _) ?_
    refine ww_bipush C dX4_skip_7 cB_32 ?_
    refine ww_icmp_eq (tgt := 22) C dX4_skip_9 (by decide) (fun c_9 => ?_) (fun c_9 => ?_)
    · skip
      refine ww_iinc (lv' := [(2, .int (nI (a + j + 1))), (0, .ref (D 0)), (1, .int (nI a))]) C dX4_skip_22 0 rfl (inc_n _) (by decide) rfl ?_
      refine ww_goto (tgt := 2) C dX4_skip_25 (by decide) ?_
      exact ww_lv (lv' := [(2, .int (nI (a + (j + 1)))), (0, .ref (D 0)), (1, .int (nI a))]) (by rfl) ih
    · skip
      refine ww_aload_n C dX4_skip_12 rfl 1 rfl rfl ?_
      refine ww_iload_n C dX4_skip_13 rfl 0 rfl ?_
      refine cv_X4_96_r (As := [.int (nI (a + j))]) (rest := []) C dX4_skip_14 (ct_X4_byteAt (Cx.fl C) (Cx.ok C) hX hv ht (a := a + j) (by omega)) (rc_X4 (Cx.ok C) (Or.inl X0)) rfl rfl (Nat.le_of_ble_eq_true rfl) (by decide) (Nat.zero_le _) (Nat.zero_le _) ?_
      refine ww_bipush C dX4_skip_17 cB_10 ?_
      refine ww_icmp_ne_f (tgt := 28) C dX4_skip_19 (by decide) (by rw [byI_eq ht (by decide) (by decide)] at c_9 ⊢; unfold blP isBl at hb; rw [decide_eq_false c_9, Bool.false_or, decide_eq_true_eq] at hb; exact hb) ?_
      refine ww_iinc (lv' := [(2, .int (nI (a + j + 1))), (0, .ref (D 0)), (1, .int (nI a))]) C dX4_skip_22 0 rfl (inc_n _) (by decide) rfl ?_
      refine ww_goto (tgt := 2) C dX4_skip_25 (by decide) ?_
      exact ww_lv (lv' := [(2, .int (nI (a + (j + 1)))), (0, .ref (D 0)), (1, .int (nI a))]) (by rfl) ih
end MO24
