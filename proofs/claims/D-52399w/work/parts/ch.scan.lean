section SCAN
set_option maxRecDepth 100000
theorem TpC.nw {Γ : Gm} {h : AH} {tp ba a : Nat} {f : Nat → Int32} {t : TP} {e : va_E} (hT : TpC Γ h tp ba f t) (ha : h a = none) : TpC Γ (up h a e) tp ba f t := hT.le (fun q e' hq => by
  rw [up_n (fun x => by rw [x, ha] at hq; cases hq)]; exact hq)
theorem up_3 {h : AH} {a s w : Nat} {e0 e1 e2 e3 : va_E} (h1 : a ≠ s) (h2 : a ≠ w) : up (up (up (up h a e0) w e1) s e2) a e3 = up (up (up h w e1) s e2) a e3 := by
  funext q
  by_cases n1 : q = a
  · rw [n1, up_s, up_s]
  · rw [up_n n1, up_n n1]
    by_cases n2 : q = s
    · rw [n2, up_s, up_s]
    · rw [up_n n2, up_n n2]
      by_cases n3 : q = w
      · rw [n3, up_s, up_s]
      · rw [up_n n3, up_n n3, up_n n1]
theorem cst_ne {Γ : Gm} {z : ZR} {s : Nat} (hz : zle (cst Γ) z) (hs : ∀ e, ¬ z s e) : ∀ k, k < 91 → s ≠ gE Γ (100 + k) := fun k hk e => hs _ (by
  rw [e]; exact hz _ _ (Or.inr (Or.inr (Or.inl ⟨k, hk, rfl, rfl⟩))))
theorem symX : ∀ c, c < 256 → ((ff (fun j => decide ((fun j => (tx 66).getD j 0) j = c)) (tx 66).length 0).isSome = true ↔ symK c ≠ 32) := by decide +kernel
theorem symK_60 : symK 60 = 44 ∧ symK 62 = 45 := by decide
theorem sy_srt {t : TP} {a : Nat} (h1 : isLt (byA t a) = false) (h2 : isDg (byA t a) = false) : srt (tkK t a) = if symK (byA t a) = 32 then 1 else 5 := by
  unfold tkK
  rw [h1, h2]
  simp only [Bool.false_eq_true, if_false]
  by_cases h3 : two t a = true
  · rw [if_pos h3]
    have h4 : byA t a = 60 ∨ byA t a = 62 := by
      unfold two at h3
      rw [Bool.and_eq_true, Bool.or_eq_true, decide_eq_true_eq, decide_eq_true_eq] at h3
      exact h3.1
    rcases h4 with h4 | h4 <;> rw [h4] <;> decide
  · rw [if_neg h3]
    by_cases h5 : symK (byA t a) = 32
    · rw [if_pos h5, h5]; rfl
    · rw [if_neg h5]
      exact srt_S ((symK_r (byA t a)).resolve_left h5)
theorem txK : ∀ k, k < 24 → tx (31 + k) = tx k ∧ (tx k).length ≤ 10 := by decide
theorem ff_ext {p q : Nat → Bool} : ∀ (f i : Nat), (∀ j, i ≤ j → j < i + f → p j = q j) → ff p f i = ff q f i
  | 0, _, _ => rfl
  | f + 1, i, h => by
    unfold ff
    rw [h i (Nat.le_refl _) (by omega), ff_ext f (i + 1) (fun j h1 h2 => h j (by omega) (by omega))]
theorem kw_eq {t : TP} {a m : Nat} (hm : a + m ≤ t.2) : ff (fun k => eqU (fun j => (tx k).getD j 0) (fun i => byA t (a + i)) (tx k).length m) 24 0 = kwN t a m := by
  unfold kwN
  refine ff_ext _ _ (fun k _ hk => ?_)
  rw [Bool.eq_iff_iff, eqU_iff, wdE_iff, (txK k (by omega)).1]
  refine and_congr_right (fun e => ⟨fun h j hj => ?_, fun h j hj => ?_⟩)
  · have := h j (by omega)
    simp only [byA] at this
    rw [if_pos (by omega)] at this
    exact this
  · have := h j (by omega)
    simp only [byA]
    rw [if_pos (by omega)]
    exact this
theorem kw_no {t : TP} {a : Nat} (h1 : isLt (byA t a) = true) (h2 : (kwN t a (tkE t a - a)).isSome = false) (h3 : ¬ 10 < tkE t a - a) : tkK t a = 30 := by
  unfold tkK
  rw [h1]
  cases h : kwN t a (tkE t a - a) with
  | some k => rw [h] at h2; cases h2
  | none => simp only [if_true]; rw [if_neg h3]
theorem kw_yes {t : TP} {a : Nat} (h1 : isLt (byA t a) = true) (h2 : (kwN t a (tkE t a - a)).isSome = true) : srt (tkK t a) = 2 := by
  unfold tkK
  rw [h1]
  cases h : kwN t a (tkE t a - a) with
  | none => rw [h] at h2; cases h2
  | some k => have := (ff_lt _ _ _ h).1; exact srt_K (by simp only [if_true]; omega)
theorem kw_long {t : TP} {a : Nat} (h1 : isLt (byA t a) = true) (h3 : 10 < tkE t a - a) : tkK t a = 32 := by
  unfold tkK
  rw [h1]
  cases h : kwN t a (tkE t a - a) with
  | some k =>
    have h4 := ff_lt _ _ _ h
    have h5 := wdE_iff.mp h4.2
    have h6 := txK k (by omega)
    rw [h6.1] at h5
    omega
  | none => simp only [if_true]; rw [if_pos h3]
/-- a token was cut out: its cells -/
def NxP (Γ : Gm) (z : ZR) (h : AH) (t : TP) (a κ : Nat) : Oc → ZR → AH → Prop := Rv (fun v z' h' => z' = z ∧ ∃ ta s w g, v = .ref ta ∧ ta ≠ s ∧ ta ≠ w ∧ s ≠ w ∧ (h ta = none ∧ h s = none ∧ h w = none) ∧ ((∀ e, ¬ z ta e) ∧ (∀ e, ¬ z s e) ∧ ∀ e, ¬ z w e) ∧ (∀ i, i < tkE t a - a → g i = bs (byA t (a + i)) ∧ byA t (a + i) < 256) ∧ h' = up (up (up h w (.inl (gA Γ 1, (tkE t a - a, .inl g)))) s (.inr (25, [.ref w, .int (nI 0), .int (nI 0), .int (nI 0)]))) ta (.inr (8, [.ref (gE Γ (srt κ)), .ref s, .int (nI a)])))
set_option maxHeartbeats 2000000 in
theorem ct_X8_next4 {l : Launch} {Γ : Gm} (hl : l.flags = flags0) (hΓ : GOK Γ) {z : ZR} {h : AH} {sc tp ba al arr k a cap : Nat} {md : Int32} {xs : Nat → Nat} {f : Nat → Int32} {t : TP} (hz : zle (cst Γ) z) (Hsc : h sc = some (.inr (7, [.ref tp, .ref al]))) (hT : TpC Γ h tp ba f t) (ht : TPo t) (hL : ALm Γ h al arr k md cap xs) (hk : k = 400) (ha : a < 2 ^ 31) : Ct l Γ yX8_next cX8_next 5 (some (.object "RingDomino$Token")) 10 1 3 [.ref sc, .int (nI a)] z h (Rv (fun v z' h' => z' = z ∧ ∃ ta, v = .ref ta ∧ h ta = none ∧ (∀ e, ¬ z ta e) ∧ h' = up h ta (.inr (8, [.ref (gE Γ 1), .ref (gE Γ 164), .int (nI a)])))) := by
  refine Ct.of hl hΓ (by decide +kernel) (Nat.le_of_ble_eq_true rfl) (fun X e1 e2 C => ?_)
  subst e1; subst e2
  have C : Cx X cX8_next 5 "RingDomino$Scanner" "next" (some (.object "RingDomino$Token")) [] 10 := C
  show WW X (Rv (fun v z' h' => z' = z ∧ ∃ ta, v = .ref ta ∧ h ta = none ∧ (∀ e, ¬ z ta e) ∧ h' = up h ta (.inr (8, [.ref (gE (xG X) 1), .ref (gE (xG X) 164), .int (nI a)])))) z h 1 3 0 [(0, .ref sc), (1, .int (nI a))] []
  refine ww_aload_n C dX8_next_0 rfl 0 rfl rfl ?_
  refine gf_X8_12_X8 C dX8_next_1 (Or.inl Hsc) rfl ?_
  refine cv_X8_80_r (As := []) (rest := []) C dX8_next_4 (ct_J2_size (Cx.fl C) (Cx.ok C) (hL.p hz)) (rc_J2 (Cx.ok C) (Or.inl hL.1)) rfl rfl (Nat.le_of_ble_eq_true rfl) (by decide) (Nat.zero_le _) (Nat.zero_le _) ?_
  refine ww_sipush C dX8_next_7 cS_400 ?_
  refine ww_icmp_ne_f (tgt := 27) C dX8_next_10 (by decide) (by rw [hk]) ?_
  refine nw_X8_54 C dX8_next_13 (by decide) (by decide) (fun ta ta_n ta_z ta_g => ?_)
  refine ww_gen (fun h1 hE1 => ?_)
  have Hsc_h1 : h1 sc = some (.inr (7, [.ref tp, .ref al])) := by rw [hE1, up_n (ne_nw Hsc ta_n)]; exact Hsc
  have N1_h1 : h1 ta = some (.inr (8, [.null, .null, .int (nI 0)])) := by rw [hE1]; exact up_s
  refine ww_dup C dX8_next_16 rfl ?_
  refine ww_gsv C (sv_1 (Cx.ok C)) q324 (fun _ q => q) dX8_next_17 ?_
  refine ww_ldcS (k := 64) C rfl q326 dX8_next_20 ?_
  refine ww_iload_n C dX8_next_22 rfl 1 rfl ?_
  refine ci_X8_77_q (As := [.ref (gE (xG X) 1), .ref (gE (xG X) 164), .int (nI a)]) (rest := [.ref ta]) C dX8_next_23 (ct_X9_init (Cx.fl C) (Cx.ok C) N1_h1) rfl rfl (Nat.le_of_ble_eq_true rfl) (by decide) (Nat.zero_le _) (Nat.zero_le _) (fun z1 k1 q => ?_)
  obtain ⟨hq1, hK1⟩ := q; replace hq1 := hq1.symm; subst hq1
  exact ww_aret C (Or.inl ⟨_, rfl⟩) dX8_next_26 rfl ⟨rfl, ta, rfl, ta_n, ta_z, by rw [hK1, hE1, up_up]⟩
set_option maxHeartbeats 2000000 in
theorem ct_X8_next {l : Launch} {Γ : Gm} (hl : l.flags = flags0) (hΓ : GOK Γ) {z : ZR} {h : AH} {sc tp ba al arr k a cap : Nat} {md : Int32} {xs : Nat → Nat} {f : Nat → Int32} {t : TP} (hz : zle (cst Γ) z) (Hsc : h sc = some (.inr (7, [.ref tp, .ref al]))) (hT : TpC Γ h tp ba f t) (ht : TPo t) (hL : ALm Γ h al arr k md cap xs) (hk : k < 400) (ha : a < t.2) : Ct l Γ yX8_next cX8_next 5 (some (.object "RingDomino$Token")) 10 (5 + (sbP (tkE t a - a)).2.1) (27 + (sbP (tkE t a - a)).2.2 + (tkE t a - a)) [.ref sc, .int (nI a)] z h (NxP Γ z h t a (tkK t a)) := by
  refine Ct.of hl hΓ (by decide +kernel) (Nat.le_of_ble_eq_true rfl) (fun X e1 e2 C => ?_)
  subst e1; subst e2
  have C : Cx X cX8_next 5 "RingDomino$Scanner" "next" (some (.object "RingDomino$Token")) [] 10 := C
  have hE1 := tkE_ge (t := t) (a := a)
  have hE2 := tkE_le ha
  have h2000 := ht.1
  have hb256 := byA_lt ht a
  show WW X (NxP (xG X) z h t a (tkK t a)) z h (5 + (sbP (tkE t a - a)).2.1) (27 + (sbP (tkE t a - a)).2.2 + (tkE t a - a)) 0 [(0, .ref sc), (1, .int (nI a))] []
  refine ww_aload_n C dX8_next_0 rfl 0 rfl rfl ?_
  refine gf_X8_12_X8 C dX8_next_1 (Or.inl Hsc) rfl ?_
  refine cv_X8_80_r (As := []) (rest := []) C dX8_next_4 (ct_J2_size (Cx.fl C) (Cx.ok C) (hL.p hz)) (rc_J2 (Cx.ok C) (Or.inl hL.1)) rfl rfl (Nat.le_of_ble_eq_true rfl) (by decide) (Nat.zero_le _) (Nat.zero_le _) ?_
  refine ww_sipush C dX8_next_7 cS_400 ?_
  refine ww_icmp_ne_t (tgt := 27) C dX8_next_10 (by decide) (fun q => absurd ((nI_eq (by omega) (by decide)).mp q) (by omega)) ?_
  refine ww_aload_n C dX8_next_27 rfl 0 rfl rfl ?_
  refine gf_X8_18_X8 C dX8_next_28 (Or.inl Hsc) rfl ?_
  refine ww_iload_n C dX8_next_31 rfl 1 rfl ?_
  refine cv_X8_38_r (As := [.int (nI a)]) (rest := []) C dX8_next_32 (ct_X2_at (Cx.fl C) (Cx.ok C) hT ht (by omega)) (rc_X2 (Cx.ok C) (Or.inl hT.1)) rfl rfl (Nat.le_of_ble_eq_true rfl) (by decide) (Nat.zero_le _) (Nat.zero_le _) ?_
  refine ww_istore_n (lv' := [(2, .int (nI (byA t a))), (0, .ref sc), (1, .int (nI a))]) C dX8_next_35 rfl (by decide) rfl ?_
  refine ww_iload_n C dX8_next_36 rfl 2 rfl ?_
  refine ww_iconst C dX8_next_37 cI_1 ?_
  refine ww_iaddn C dX8_next_38 ?_
  refine ww_istore_n (lv' := [(3, .int (nI (a + 1))), (2, .int (nI (byA t a))), (0, .ref sc), (1, .int (nI a))]) C dX8_next_39 rfl (by decide) rfl ?_
  refine ww_iload_n C dX8_next_40 rfl 1 rfl ?_
  refine cs_X8_82_r (As := [.int (nI (byA t a))]) (rest := []) C dX8_next_41 (ct_X8_isLetter (Cx.fl C) (Cx.ok C) (c := byA t a) (by omega)) rfl rfl (Nat.le_of_ble_eq_true rfl) (by decide) (Nat.zero_le _) (Nat.zero_le _) ?_
  refine ww_if_eq_b (tgt := 136) C dX8_next_44 (by decide) (fun c_44 => ?_) (fun c_44 => ?_)
  · skip
    refine ww_iload_n C dX8_next_136 rfl 1 rfl ?_
    refine cs_X8_85_r (As := [.int (nI (byA t a))]) (rest := []) C dX8_next_137 (ct_X8_isDigit (Cx.fl C) (Cx.ok C) (c := byA t a) (by omega)) rfl rfl (Nat.le_of_ble_eq_true rfl) (by decide) (Nat.zero_le _) (Nat.zero_le _) ?_
    refine ww_if_eq_b (tgt := 198) C dX8_next_140 (by decide) (fun c_140 => ?_) (fun c_140 => ?_)
    · skip
      have K226 : WW X (NxP (xG X) z h t a (tkK t a)) z h (5 + (sbP (tkE t a - a)).2.1) (27 + (sbP (tkE t a - a)).2.2 + (tkE t a - a)) 226 [(3, .int (nI (tkE t a))), (2, .int (nI (byA t a))), (0, .ref sc), (1, .int (nI a))] [] := by
        have hsy := sy_srt (t := t) (a := a) c_44 c_140
        refine nw_X8_54 C dX8_next_226 (by omega) (by omega) (fun ta ta_n ta_z ta_g => ?_)
        refine ww_gen (fun h1 hE1 => ?_)
        have Hsc_h1 : h1 sc = some (.inr (7, [.ref tp, .ref al])) := by rw [hE1, up_n (ne_nw Hsc ta_n)]; exact Hsc
        have N1_h1 : h1 ta = some (.inr (8, [.null, .null, .int (nI 0)])) := by rw [hE1]; exact up_s
        have ta_0 := ta_n
        refine ww_dup C dX8_next_229 rfl ?_
        refine ww_iload_n C dX8_next_230 rfl 1 rfl ?_
        refine ww_if_le_n (tgt := 249) C dX8_next_231 (by decide) (by omega) (fun c_231 => ?_) (fun c_231 => ?_)
        · skip
          have hc0 : byA t a = 0 := by omega
          have hs9 : srt (tkK t a) = 1 := by rw [hsy, hc0]; rfl
          refine ww_gsv C (sv_1 (Cx.ok C)) q324 (fun _ q => q) dX8_next_249 ?_
          refine ww_aload_n C dX8_next_252 rfl 2 rfl rfl ?_
          refine gf_X8_18_X8 C dX8_next_253 (Or.inl Hsc_h1) rfl ?_
          refine ww_iload_n C dX8_next_256 rfl 3 rfl ?_
          refine ww_iload_n C dX8_next_257 rfl 0 rfl ?_
          have hT1 : TpC (xG X) h1 tp ba f t := by rw [hE1]; exact hT.nw ta_n
          refine cv_X8_88_q (As := [.int (nI a), .int (nI (tkE t a))]) (rest := [.ref (gE (xG X) 1), .ref ta, .ref ta]) C dX8_next_258 (ct_X2_text (Cx.fl C) (Cx.ok C) hT1 ht (fr := a) (to := tkE t a) (by omega) (by omega)) (rc_X2 (Cx.ok C) (Or.inl hT1.1)) rfl rfl (Nat.le_of_ble_eq_true rfl) (by decide) (by omega) (by omega) (fun vv z1 k4 q => ?_)
          obtain ⟨hq1, s, w, g, hv, hsw, s_n, w_n, s_z, w_z, hg, hK4⟩ := q; subst hv; replace hq1 := hq1.symm; subst hq1
          have hts : ta ≠ s := ne_nw N1_h1 s_n
          have htw : ta ≠ w := ne_nw N1_h1 w_n
          have s_0 : h s = none := by rw [hE1, up_n (Ne.symm hts)] at s_n; exact s_n
          have w_0 : h w = none := by rw [hE1, up_n (Ne.symm htw)] at w_n; exact w_n
          have Hta : k4 ta = some (.inr (8, [.null, .null, .int (nI 0)])) := by rw [hK4, up_n hts, up_n htw]; exact N1_h1
          refine ww_iload_n C dX8_next_261 rfl 3 rfl ?_
          refine ci_X8_77_q (As := [.ref (gE (xG X) 1), .ref s, .int (nI a)]) (rest := [.ref ta]) C dX8_next_262 (ct_X9_init (Cx.fl C) (Cx.ok C) Hta) rfl rfl (Nat.le_of_ble_eq_true rfl) (by decide) (Nat.zero_le _) (Nat.zero_le _) (fun z1 k9 q => ?_)
          obtain ⟨hq1, hK9⟩ := q; replace hq1 := hq1.symm; subst hq1
          exact ww_aret C (Or.inl ⟨_, rfl⟩) dX8_next_265 rfl ⟨rfl, ta, s, w, g, rfl, hts, htw, hsw, ⟨ta_0, s_0, w_0⟩, ⟨ta_z, s_z, w_z⟩, hg, by rw [hs9, hK9]; rw [hK4, hE1]; exact up_3 hts htw⟩
        · skip
          refine ww_ldcS (k := 66) C rfl q709 dX8_next_234 ?_
          refine ww_iload_n C dX8_next_236 rfl 1 rfl ?_
          refine cv_X8_106_r (As := [.int (nI (byA t a))]) (rest := [.ref ta, .ref ta]) C dX8_next_237 (ct_J11_indexOf (Cx.fl C) (Cx.ok C) (cst_st hz (k := 66) (by decide)) (by decide) (by omega)) (StU.rc (Cx.ok C) (cst_st hz (k := 66) (by decide))) rfl rfl (Nat.le_of_ble_eq_true rfl) (by decide) (Nat.zero_le _) (Nat.zero_le _) ?_
          have hx := symX (byA t a) (by omega)
          rcases ho : ff (fun j => decide ((fun j => (tx 66).getD j 0) j = byA t a)) (tx 66).length 0 with _ | j
          · skip
            refine ww_if_lt_t (tgt := 249) C dX8_next_240 (by decide) (by decide) ?_
            rw [ho] at hx
            have hs9 : srt (tkK t a) = 1 := by rw [hsy, if_pos (by simpa using hx)]
            refine ww_gsv C (sv_1 (Cx.ok C)) q324 (fun _ q => q) dX8_next_249 ?_
            refine ww_aload_n C dX8_next_252 rfl 2 rfl rfl ?_
            refine gf_X8_18_X8 C dX8_next_253 (Or.inl Hsc_h1) rfl ?_
            refine ww_iload_n C dX8_next_256 rfl 3 rfl ?_
            refine ww_iload_n C dX8_next_257 rfl 0 rfl ?_
            have hT1 : TpC (xG X) h1 tp ba f t := by rw [hE1]; exact hT.nw ta_n
            refine cv_X8_88_q (As := [.int (nI a), .int (nI (tkE t a))]) (rest := [.ref (gE (xG X) 1), .ref ta, .ref ta]) C dX8_next_258 (ct_X2_text (Cx.fl C) (Cx.ok C) hT1 ht (fr := a) (to := tkE t a) (by omega) (by omega)) (rc_X2 (Cx.ok C) (Or.inl hT1.1)) rfl rfl (Nat.le_of_ble_eq_true rfl) (by decide) (by omega) (by omega) (fun vv z1 k4 q => ?_)
            obtain ⟨hq1, s, w, g, hv, hsw, s_n, w_n, s_z, w_z, hg, hK4⟩ := q; subst hv; replace hq1 := hq1.symm; subst hq1
            have hts : ta ≠ s := ne_nw N1_h1 s_n
            have htw : ta ≠ w := ne_nw N1_h1 w_n
            have s_0 : h s = none := by rw [hE1, up_n (Ne.symm hts)] at s_n; exact s_n
            have w_0 : h w = none := by rw [hE1, up_n (Ne.symm htw)] at w_n; exact w_n
            have Hta : k4 ta = some (.inr (8, [.null, .null, .int (nI 0)])) := by rw [hK4, up_n hts, up_n htw]; exact N1_h1
            refine ww_iload_n C dX8_next_261 rfl 3 rfl ?_
            refine ci_X8_77_q (As := [.ref (gE (xG X) 1), .ref s, .int (nI a)]) (rest := [.ref ta]) C dX8_next_262 (ct_X9_init (Cx.fl C) (Cx.ok C) Hta) rfl rfl (Nat.le_of_ble_eq_true rfl) (by decide) (Nat.zero_le _) (Nat.zero_le _) (fun z1 k9 q => ?_)
            obtain ⟨hq1, hK9⟩ := q; replace hq1 := hq1.symm; subst hq1
            exact ww_aret C (Or.inl ⟨_, rfl⟩) dX8_next_265 rfl ⟨rfl, ta, s, w, g, rfl, hts, htw, hsw, ⟨ta_0, s_0, w_0⟩, ⟨ta_z, s_z, w_z⟩, hg, by rw [hs9, hK9]; rw [hK4, hE1]; exact up_3 hts htw⟩
          · skip
            have hj := (ff_lt _ _ _ ho).1
            have hj13 : (tx 66).length = 13 := rfl
            refine ww_if_lt_f (tgt := 249) C dX8_next_240 (by decide) (nI_pos (n := j) (by omega)) ?_
            rw [ho] at hx
            have hs9 : srt (tkK t a) = 5 := by rw [hsy, if_neg (by simpa using hx)]
            refine ww_gsv C (sv_5 (Cx.ok C)) q760 (fun _ q => q) dX8_next_243 ?_
            refine ww_goto (tgt := 252) C dX8_next_246 (by decide) ?_
            refine ww_aload_n C dX8_next_252 rfl 2 rfl rfl ?_
            refine gf_X8_18_X8 C dX8_next_253 (Or.inl Hsc_h1) rfl ?_
            refine ww_iload_n C dX8_next_256 rfl 3 rfl ?_
            refine ww_iload_n C dX8_next_257 rfl 0 rfl ?_
            have hT1 : TpC (xG X) h1 tp ba f t := by rw [hE1]; exact hT.nw ta_n
            refine cv_X8_88_q (As := [.int (nI a), .int (nI (tkE t a))]) (rest := [.ref (gE (xG X) 5), .ref ta, .ref ta]) C dX8_next_258 (ct_X2_text (Cx.fl C) (Cx.ok C) hT1 ht (fr := a) (to := tkE t a) (by omega) (by omega)) (rc_X2 (Cx.ok C) (Or.inl hT1.1)) rfl rfl (Nat.le_of_ble_eq_true rfl) (by decide) (by omega) (by omega) (fun vv z1 k4 q => ?_)
            obtain ⟨hq1, s, w, g, hv, hsw, s_n, w_n, s_z, w_z, hg, hK4⟩ := q; subst hv; replace hq1 := hq1.symm; subst hq1
            have hts : ta ≠ s := ne_nw N1_h1 s_n
            have htw : ta ≠ w := ne_nw N1_h1 w_n
            have s_0 : h s = none := by rw [hE1, up_n (Ne.symm hts)] at s_n; exact s_n
            have w_0 : h w = none := by rw [hE1, up_n (Ne.symm htw)] at w_n; exact w_n
            have Hta : k4 ta = some (.inr (8, [.null, .null, .int (nI 0)])) := by rw [hK4, up_n hts, up_n htw]; exact N1_h1
            refine ww_iload_n C dX8_next_261 rfl 3 rfl ?_
            refine ci_X8_77_q (As := [.ref (gE (xG X) 5), .ref s, .int (nI a)]) (rest := [.ref ta]) C dX8_next_262 (ct_X9_init (Cx.fl C) (Cx.ok C) Hta) rfl rfl (Nat.le_of_ble_eq_true rfl) (by decide) (Nat.zero_le _) (Nat.zero_le _) (fun z1 k9 q => ?_)
            obtain ⟨hq1, hK9⟩ := q; replace hq1 := hq1.symm; subst hq1
            exact ww_aret C (Or.inl ⟨_, rfl⟩) dX8_next_265 rfl ⟨rfl, ta, s, w, g, rfl, hts, htw, hsw, ⟨ta_0, s_0, w_0⟩, ⟨ta_z, s_z, w_z⟩, hg, by rw [hs9, hK9]; rw [hK4, hE1]; exact up_3 hts htw⟩
      have htk : tkE t a = if two t a then a + 2 else a + 1 := by unfold tkE; rw [c_44, c_140]; rfl
      refine ww_iload_n C dX8_next_198 rfl 1 rfl ?_
      refine ww_bipush C dX8_next_199 cB_60 ?_
      refine ww_icmp_eq_n (tgt := 210) C dX8_next_201 (by decide) (by omega) (by decide) (fun c_201 => ?_) (fun c_201 => ?_)
      · skip
        have hbp := byA_lt ht (a + 1)
        refine ww_aload_n C dX8_next_210 rfl 2 rfl rfl ?_
        refine gf_X8_18_X8 C dX8_next_211 (Or.inl Hsc) rfl ?_
        refine ww_iload_n C dX8_next_214 rfl 0 rfl ?_
        refine cv_X8_38_r (As := [.int (nI (a + 1))]) (rest := []) C dX8_next_215 (ct_X2_at (Cx.fl C) (Cx.ok C) hT ht (by omega)) (rc_X2 (Cx.ok C) (Or.inl hT.1)) rfl rfl (Nat.le_of_ble_eq_true rfl) (by decide) (Nat.zero_le _) (Nat.zero_le _) ?_
        refine ww_bipush C dX8_next_218 cB_61 ?_
        refine ww_icmp_ne_n (tgt := 226) C dX8_next_220 (by decide) (by omega) (by decide) (fun c_220 => ?_) (fun c_220 => ?_)
        · skip
          exact ww_lv (lv' := [(3, .int (nI (tkE t a))), (2, .int (nI (byA t a))), (0, .ref sc), (1, .int (nI a))]) (by rw [htk, if_neg (by unfold two; simp; omega)]) K226
        · skip
          refine ww_iinc (lv' := [(3, .int (nI (a + 1 + 1))), (2, .int (nI (byA t a))), (0, .ref sc), (1, .int (nI a))]) C dX8_next_223 0 rfl (inc_n _) (by decide) rfl ?_
          exact ww_lv (lv' := [(3, .int (nI (tkE t a))), (2, .int (nI (byA t a))), (0, .ref sc), (1, .int (nI a))]) (by rw [htk, if_pos (by unfold two; simp; omega)]) K226
      · skip
        refine ww_iload_n C dX8_next_204 rfl 1 rfl ?_
        refine ww_bipush C dX8_next_205 cB_62 ?_
        refine ww_icmp_ne_n (tgt := 226) C dX8_next_207 (by decide) (by omega) (by decide) (fun c_207 => ?_) (fun c_207 => ?_)
        · skip
          exact ww_lv (lv' := [(3, .int (nI (tkE t a))), (2, .int (nI (byA t a))), (0, .ref sc), (1, .int (nI a))]) (by rw [htk, if_neg (by unfold two; simp; omega)]) K226
        · skip
          have hbp := byA_lt ht (a + 1)
          refine ww_aload_n C dX8_next_210 rfl 2 rfl rfl ?_
          refine gf_X8_18_X8 C dX8_next_211 (Or.inl Hsc) rfl ?_
          refine ww_iload_n C dX8_next_214 rfl 0 rfl ?_
          refine cv_X8_38_r (As := [.int (nI (a + 1))]) (rest := []) C dX8_next_215 (ct_X2_at (Cx.fl C) (Cx.ok C) hT ht (by omega)) (rc_X2 (Cx.ok C) (Or.inl hT.1)) rfl rfl (Nat.le_of_ble_eq_true rfl) (by decide) (Nat.zero_le _) (Nat.zero_le _) ?_
          refine ww_bipush C dX8_next_218 cB_61 ?_
          refine ww_icmp_ne_n (tgt := 226) C dX8_next_220 (by decide) (by omega) (by decide) (fun c_220 => ?_) (fun c_220 => ?_)
          · skip
            exact ww_lv (lv' := [(3, .int (nI (tkE t a))), (2, .int (nI (byA t a))), (0, .ref sc), (1, .int (nI a))]) (by rw [htk, if_neg (by unfold two; simp; omega)]) K226
          · skip
            refine ww_iinc (lv' := [(3, .int (nI (a + 1 + 1))), (2, .int (nI (byA t a))), (0, .ref sc), (1, .int (nI a))]) C dX8_next_223 0 rfl (inc_n _) (by decide) rfl ?_
            exact ww_lv (lv' := [(3, .int (nI (tkE t a))), (2, .int (nI (byA t a))), (0, .ref sc), (1, .int (nI a))]) (by rw [htk, if_pos (by unfold two; simp; omega)]) K226
    · skip
      have he : tkE t a = run (dgP t) t.2 (a + 1) := by unfold tkE; rw [c_44, c_140]; rfl
      have r1 := run_ge (p := dgP t) (n := t.2) (e := a + 1)
      have hkk : tkK t a = if 6 < tkE t a - a then 32 else 31 := by unfold tkK; rw [c_44, c_140]; rfl
      refine ww_lv (lv' := [(3, .int (nI (a + 1 + 0))), (2, .int (nI (byA t a))), (0, .ref sc), (1, .int (nI a))]) (by rfl) ?_
      refine loop_up (N := (run (dgP t) t.2 (a + 1) - (a + 1))) (M := fun j => WW X (NxP (xG X) z h t a (tkK t a)) z h (5 + (sbP (tkE t a - a)).2.1) (27 + (sbP (tkE t a - a)).2.2 + (tkE t a - a)) 143 [(3, .int (nI (a + 1 + j))), (2, .int (nI (byA t a))), (0, .ref sc), (1, .int (nI a))] []) ?_ ?_ 0 (Nat.zero_le _)
      · show WW X (NxP (xG X) z h t a (tkK t a)) z h (5 + (sbP (tkE t a - a)).2.1) (27 + (sbP (tkE t a - a)).2.2 + (tkE t a - a)) 143 [(3, .int (nI (a + 1 + (run (dgP t) t.2 (a + 1) - (a + 1))))), (2, .int (nI (byA t a))), (0, .ref sc), (1, .int (nI a))] []
        have hz9 : a + 1 + (run (dgP t) t.2 (a + 1) - (a + 1)) = tkE t a := by omega
        refine ww_lv (lv' := [(3, .int (nI (tkE t a))), (2, .int (nI (byA t a))), (0, .ref sc), (1, .int (nI a))]) (by rw [hz9]) ?_
        have hb := run_end (p := dgP t) (n := t.2) (e := a + 1) (fun j hj => dgP_lt hj)
        rw [← he] at hb; unfold dgP at hb
        refine ww_aload_n C dX8_next_143 rfl 2 rfl rfl ?_
        refine gf_X8_18_X8 C dX8_next_144 (Or.inl Hsc) rfl ?_
        refine ww_iload_n C dX8_next_147 rfl 0 rfl ?_
        refine cv_X8_38_r (As := [.int (nI (tkE t a))]) (rest := []) C dX8_next_148 (ct_X2_at (Cx.fl C) (Cx.ok C) hT ht (by omega)) (rc_X2 (Cx.ok C) (Or.inl hT.1)) rfl rfl (Nat.le_of_ble_eq_true rfl) (by decide) (Nat.zero_le _) (Nat.zero_le _) ?_
        have hbE := byA_lt ht (tkE t a)
        refine cs_X8_85_r (As := [.int (nI (byA t (tkE t a)))]) (rest := []) C dX8_next_151 (ct_X8_isDigit (Cx.fl C) (Cx.ok C) (c := byA t (tkE t a)) (by omega)) rfl rfl (Nat.le_of_ble_eq_true rfl) (by decide) (Nat.zero_le _) (Nat.zero_le _) ?_
        refine ww_if_eq_t (tgt := 163) C dX8_next_154 (by decide) (by rw [hb]; rfl) ?_
        refine nw_X8_54 C dX8_next_163 (by omega) (by omega) (fun ta ta_n ta_z ta_g => ?_)
        refine ww_gen (fun h2 hE2 => ?_)
        have Hsc_h2 : h2 sc = some (.inr (7, [.ref tp, .ref al])) := by rw [hE2, up_n (ne_nw Hsc ta_n)]; exact Hsc
        have N2_h2 : h2 ta = some (.inr (8, [.null, .null, .int (nI 0)])) := by rw [hE2]; exact up_s
        have ta_0 := ta_n
        refine ww_dup C dX8_next_166 rfl ?_
        refine ww_iload_n C dX8_next_167 rfl 0 rfl ?_
        refine ww_iload_n C dX8_next_168 rfl 3 rfl ?_
        refine ww_isubn C dX8_next_169 (by omega) ?_
        refine ww_bipush C dX8_next_170 cB_6 ?_
        refine ww_icmp_le_n (tgt := 181) C dX8_next_172 (by decide) (by omega) (by decide) (fun c_172 => ?_) (fun c_172 => ?_)
        · skip
          have hs9 : srt (tkK t a) = 4 := by rw [hkk, if_neg (by omega)]; rfl
          refine ww_gsv C (sv_4 (Cx.ok C)) q707 (fun _ q => q) dX8_next_181 ?_
          refine ww_aload_n C dX8_next_184 rfl 2 rfl rfl ?_
          refine gf_X8_18_X8 C dX8_next_185 (Or.inl Hsc_h2) rfl ?_
          refine ww_iload_n C dX8_next_188 rfl 3 rfl ?_
          refine ww_iload_n C dX8_next_189 rfl 0 rfl ?_
          have hT1 : TpC (xG X) h2 tp ba f t := by rw [hE2]; exact hT.nw ta_n
          refine cv_X8_88_q (As := [.int (nI a), .int (nI (tkE t a))]) (rest := [.ref (gE (xG X) 4), .ref ta, .ref ta]) C dX8_next_190 (ct_X2_text (Cx.fl C) (Cx.ok C) hT1 ht (fr := a) (to := tkE t a) (by omega) (by omega)) (rc_X2 (Cx.ok C) (Or.inl hT1.1)) rfl rfl (Nat.le_of_ble_eq_true rfl) (by decide) (by omega) (by omega) (fun vv z1 k4 q => ?_)
          obtain ⟨hq1, s, w, g, hv, hsw, s_n, w_n, s_z, w_z, hg, hK4⟩ := q; subst hv; replace hq1 := hq1.symm; subst hq1
          have hts : ta ≠ s := ne_nw N2_h2 s_n
          have htw : ta ≠ w := ne_nw N2_h2 w_n
          have s_0 : h s = none := by rw [hE2, up_n (Ne.symm hts)] at s_n; exact s_n
          have w_0 : h w = none := by rw [hE2, up_n (Ne.symm htw)] at w_n; exact w_n
          have Hta : k4 ta = some (.inr (8, [.null, .null, .int (nI 0)])) := by rw [hK4, up_n hts, up_n htw]; exact N2_h2
          refine ww_iload_n C dX8_next_193 rfl 3 rfl ?_
          refine ci_X8_77_q (As := [.ref (gE (xG X) 4), .ref s, .int (nI a)]) (rest := [.ref ta]) C dX8_next_194 (ct_X9_init (Cx.fl C) (Cx.ok C) Hta) rfl rfl (Nat.le_of_ble_eq_true rfl) (by decide) (Nat.zero_le _) (Nat.zero_le _) (fun z1 k9 q => ?_)
          obtain ⟨hq1, hK9⟩ := q; replace hq1 := hq1.symm; subst hq1
          exact ww_aret C (Or.inl ⟨_, rfl⟩) dX8_next_197 rfl ⟨rfl, ta, s, w, g, rfl, hts, htw, hsw, ⟨ta_0, s_0, w_0⟩, ⟨ta_z, s_z, w_z⟩, hg, by rw [hs9, hK9]; rw [hK4, hE2]; exact up_3 hts htw⟩
        · skip
          have hs9 : srt (tkK t a) = 1 := by rw [hkk, if_pos (by omega)]; rfl
          refine ww_gsv C (sv_1 (Cx.ok C)) q324 (fun _ q => q) dX8_next_175 ?_
          refine ww_goto (tgt := 184) C dX8_next_178 (by decide) ?_
          refine ww_aload_n C dX8_next_184 rfl 2 rfl rfl ?_
          refine gf_X8_18_X8 C dX8_next_185 (Or.inl Hsc_h2) rfl ?_
          refine ww_iload_n C dX8_next_188 rfl 3 rfl ?_
          refine ww_iload_n C dX8_next_189 rfl 0 rfl ?_
          have hT1 : TpC (xG X) h2 tp ba f t := by rw [hE2]; exact hT.nw ta_n
          refine cv_X8_88_q (As := [.int (nI a), .int (nI (tkE t a))]) (rest := [.ref (gE (xG X) 1), .ref ta, .ref ta]) C dX8_next_190 (ct_X2_text (Cx.fl C) (Cx.ok C) hT1 ht (fr := a) (to := tkE t a) (by omega) (by omega)) (rc_X2 (Cx.ok C) (Or.inl hT1.1)) rfl rfl (Nat.le_of_ble_eq_true rfl) (by decide) (by omega) (by omega) (fun vv z1 k4 q => ?_)
          obtain ⟨hq1, s, w, g, hv, hsw, s_n, w_n, s_z, w_z, hg, hK4⟩ := q; subst hv; replace hq1 := hq1.symm; subst hq1
          have hts : ta ≠ s := ne_nw N2_h2 s_n
          have htw : ta ≠ w := ne_nw N2_h2 w_n
          have s_0 : h s = none := by rw [hE2, up_n (Ne.symm hts)] at s_n; exact s_n
          have w_0 : h w = none := by rw [hE2, up_n (Ne.symm htw)] at w_n; exact w_n
          have Hta : k4 ta = some (.inr (8, [.null, .null, .int (nI 0)])) := by rw [hK4, up_n hts, up_n htw]; exact N2_h2
          refine ww_iload_n C dX8_next_193 rfl 3 rfl ?_
          refine ci_X8_77_q (As := [.ref (gE (xG X) 1), .ref s, .int (nI a)]) (rest := [.ref ta]) C dX8_next_194 (ct_X9_init (Cx.fl C) (Cx.ok C) Hta) rfl rfl (Nat.le_of_ble_eq_true rfl) (by decide) (Nat.zero_le _) (Nat.zero_le _) (fun z1 k9 q => ?_)
          obtain ⟨hq1, hK9⟩ := q; replace hq1 := hq1.symm; subst hq1
          exact ww_aret C (Or.inl ⟨_, rfl⟩) dX8_next_197 rfl ⟨rfl, ta, s, w, g, rfl, hts, htw, hsw, ⟨ta_0, s_0, w_0⟩, ⟨ta_z, s_z, w_z⟩, hg, by rw [hs9, hK9]; rw [hK4, hE2]; exact up_3 hts htw⟩
      · intro j hi ih
        show WW X (NxP (xG X) z h t a (tkK t a)) z h (5 + (sbP (tkE t a - a)).2.1) (27 + (sbP (tkE t a - a)).2.2 + (tkE t a - a)) 143 [(3, .int (nI (a + 1 + j))), (2, .int (nI (byA t a))), (0, .ref sc), (1, .int (nI a))] []
        have hb : dgP t (a + 1 + j) = true := run_all (n := t.2) (e := a + 1) (by omega) (by omega)
        have hbl := dgP_lt hb
        unfold dgP at hb
        refine ww_aload_n C dX8_next_143 rfl 2 rfl rfl ?_
        refine gf_X8_18_X8 C dX8_next_144 (Or.inl Hsc) rfl ?_
        refine ww_iload_n C dX8_next_147 rfl 0 rfl ?_
        refine cv_X8_38_r (As := [.int (nI (a + 1 + j))]) (rest := []) C dX8_next_148 (ct_X2_at (Cx.fl C) (Cx.ok C) hT ht (by omega)) (rc_X2 (Cx.ok C) (Or.inl hT.1)) rfl rfl (Nat.le_of_ble_eq_true rfl) (by decide) (Nat.zero_le _) (Nat.zero_le _) ?_
        have hbE := byA_lt ht (a + 1 + j)
        refine cs_X8_85_r (As := [.int (nI (byA t (a + 1 + j)))]) (rest := []) C dX8_next_151 (ct_X8_isDigit (Cx.fl C) (Cx.ok C) (c := byA t (a + 1 + j)) (by omega)) rfl rfl (Nat.le_of_ble_eq_true rfl) (by decide) (Nat.zero_le _) (Nat.zero_le _) ?_
        refine ww_if_eq_f (tgt := 163) C dX8_next_154 (by decide) (fun q => by rw [hb] at q; cases q) ?_
        refine ww_iinc (lv' := [(3, .int (nI (a + 1 + j + 1))), (2, .int (nI (byA t a))), (0, .ref sc), (1, .int (nI a))]) C dX8_next_157 0 rfl (inc_n _) (by decide) rfl ?_
        refine ww_goto (tgt := 143) C dX8_next_160 (by decide) ?_
        exact ww_lv (lv' := [(3, .int (nI (a + 1 + (j + 1)))), (2, .int (nI (byA t a))), (0, .ref sc), (1, .int (nI a))]) (by rfl) ih
  · skip
    have he : tkE t a = run (wdP t) t.2 (a + 1) := by unfold tkE; rw [c_44]; rfl
    have r1 := run_ge (p := wdP t) (n := t.2) (e := a + 1)
    refine ww_lv (lv' := [(3, .int (nI (a + 1 + 0))), (2, .int (nI (byA t a))), (0, .ref sc), (1, .int (nI a))]) (by rfl) ?_
    refine loop_up (N := (run (wdP t) t.2 (a + 1) - (a + 1))) (M := fun j => WW X (NxP (xG X) z h t a (tkK t a)) z h (5 + (sbP (tkE t a - a)).2.1) (27 + (sbP (tkE t a - a)).2.2 + (tkE t a - a)) 47 [(3, .int (nI (a + 1 + j))), (2, .int (nI (byA t a))), (0, .ref sc), (1, .int (nI a))] []) ?_ ?_ 0 (Nat.zero_le _)
    · show WW X (NxP (xG X) z h t a (tkK t a)) z h (5 + (sbP (tkE t a - a)).2.1) (27 + (sbP (tkE t a - a)).2.2 + (tkE t a - a)) 47 [(3, .int (nI (a + 1 + (run (wdP t) t.2 (a + 1) - (a + 1))))), (2, .int (nI (byA t a))), (0, .ref sc), (1, .int (nI a))] []
      have hz9 : a + 1 + (run (wdP t) t.2 (a + 1) - (a + 1)) = tkE t a := by omega
      refine ww_lv (lv' := [(3, .int (nI (tkE t a))), (2, .int (nI (byA t a))), (0, .ref sc), (1, .int (nI a))]) (by rw [hz9]) ?_
      have hb := run_end (p := wdP t) (n := t.2) (e := a + 1) (fun j hj => wdP_lt hj)
      rw [← he] at hb; unfold wdP at hb; rw [Bool.or_eq_false_iff] at hb
      have hbE := byA_lt ht (tkE t a)
      refine ww_aload_n C dX8_next_47 rfl 2 rfl rfl ?_
      refine gf_X8_18_X8 C dX8_next_48 (Or.inl Hsc) rfl ?_
      refine ww_iload_n C dX8_next_51 rfl 0 rfl ?_
      refine cv_X8_38_r (As := [.int (nI (tkE t a))]) (rest := []) C dX8_next_52 (ct_X2_at (Cx.fl C) (Cx.ok C) hT ht (by omega)) (rc_X2 (Cx.ok C) (Or.inl hT.1)) rfl rfl (Nat.le_of_ble_eq_true rfl) (by decide) (Nat.zero_le _) (Nat.zero_le _) ?_
      refine cs_X8_82_r (As := [.int (nI (byA t (tkE t a)))]) (rest := []) C dX8_next_55 (ct_X8_isLetter (Cx.fl C) (Cx.ok C) (c := byA t (tkE t a)) (by omega)) rfl rfl (Nat.le_of_ble_eq_true rfl) (by decide) (Nat.zero_le _) (Nat.zero_le _) ?_
      refine ww_if_ne_f (tgt := 75) C dX8_next_58 (by decide) (by rw [hb.1]; rfl) ?_
      refine ww_aload_n C dX8_next_61 rfl 2 rfl rfl ?_
      refine gf_X8_18_X8 C dX8_next_62 (Or.inl Hsc) rfl ?_
      refine ww_iload_n C dX8_next_65 rfl 0 rfl ?_
      refine cv_X8_38_r (As := [.int (nI (tkE t a))]) (rest := []) C dX8_next_66 (ct_X2_at (Cx.fl C) (Cx.ok C) hT ht (by omega)) (rc_X2 (Cx.ok C) (Or.inl hT.1)) rfl rfl (Nat.le_of_ble_eq_true rfl) (by decide) (Nat.zero_le _) (Nat.zero_le _) ?_
      refine cs_X8_85_r (As := [.int (nI (byA t (tkE t a)))]) (rest := []) C dX8_next_69 (ct_X8_isDigit (Cx.fl C) (Cx.ok C) (c := byA t (tkE t a)) (by omega)) rfl rfl (Nat.le_of_ble_eq_true rfl) (by decide) (Nat.zero_le _) (Nat.zero_le _) ?_
      refine ww_if_eq_t (tgt := 81) C dX8_next_72 (by decide) (by rw [hb.2]; rfl) ?_
      refine ww_aload_n C dX8_next_81 rfl 2 rfl rfl ?_
      refine gf_X8_18_X8 C dX8_next_82 (Or.inl Hsc) rfl ?_
      refine ww_iload_n C dX8_next_85 rfl 3 rfl ?_
      refine ww_iload_n C dX8_next_86 rfl 0 rfl ?_
      refine cv_X8_88_q (As := [.int (nI a), .int (nI (tkE t a))]) (rest := []) C dX8_next_87 (ct_X2_text (Cx.fl C) (Cx.ok C) hT ht (fr := a) (to := tkE t a) (by omega) (by omega)) (rc_X2 (Cx.ok C) (Or.inl hT.1)) rfl rfl (Nat.le_of_ble_eq_true rfl) (by decide) (by omega) (by omega) (fun vv z1 k4 q => ?_)
      obtain ⟨hq1, s, w, g, hv, hsw, s_n, w_n, s_z, w_z, hg, hK4⟩ := q; subst hv; replace hq1 := hq1.symm; subst hq1
      have s_0 := s_n
      have w_0 := w_n
      refine ww_astore (lv' := [(4, .ref s), (3, .int (nI (tkE t a))), (2, .int (nI (byA t a))), (0, .ref sc), (1, .int (nI a))]) C dX8_next_90 (by decide) rfl rfl ?_
      refine nw_X8_54 C dX8_next_92 (by omega) (by omega) (fun ta ta_n ta_z ta_g => ?_)
      refine ww_gen (fun h3 hE3 => ?_)
      have N3_h3 : h3 ta = some (.inr (8, [.null, .null, .int (nI 0)])) := by rw [hE3]; exact up_s
      have Hk4s : k4 s = some (.inr (25, [.ref w, .int (nI 0), .int (nI 0), .int (nI 0)])) := by rw [hK4, up_s]
      have Hk4w : k4 w = some (.inl (gA (xG X) 1, (tkE t a - a, .inl g))) := by rw [hK4, up_n (Ne.symm hsw), up_s]
      have hts : ta ≠ s := Ne.symm (ne_nw Hk4s ta_n)
      have htw : ta ≠ w := Ne.symm (ne_nw Hk4w ta_n)
      have ta_0 : h ta = none := by rw [hK4, up_n hts, up_n htw] at ta_n; exact ta_n
      have Hta := N3_h3
      have hsU : StU (xG X) z h3 s (tkE t a - a) (fun i => byA t (a + i)) := ⟨w, _, _, g, Or.inl (by rw [hE3, up_n (Ne.symm hts)]; exact Hk4s), Or.inl (by rw [hE3, up_n (Ne.symm htw)]; exact Hk4w), by omega, hg⟩
      refine ww_dup C dX8_next_95 rfl ?_
      refine ww_aload C dX8_next_96 0 rfl rfl ?_
      refine cv_X8_68_r (As := []) (rest := [.ref ta, .ref ta]) C dX8_next_98 (ct_J11_length (Cx.fl C) (Cx.ok C) hsU) (StU.rc (Cx.ok C) hsU) rfl rfl (Nat.le_of_ble_eq_true rfl) (by decide) (Nat.zero_le _) (Nat.zero_le _) ?_
      refine ww_bipush C dX8_next_101 cB_10 ?_
      refine ww_icmp_le_n (tgt := 112) C dX8_next_103 (by decide) (by omega) (by decide) (fun c_103 => ?_) (fun c_103 => ?_)
      · skip
        refine ww_aload C dX8_next_112 0 rfl rfl ?_
        refine cs_X8_91_r (As := [.ref s]) (rest := [.ref ta, .ref ta]) C dX8_next_114 (ct_X8_isKey (Cx.fl C) (Cx.ok C) hz hsU (cst_ne hz s_z)) rfl rfl (Nat.le_of_ble_eq_true rfl) (by decide) (Nat.zero_le _) (Nat.zero_le _) ?_
        have hkq := kw_eq (t := t) (a := a) (m := tkE t a - a) (by omega)
        refine ww_if_eq_b (tgt := 126) C dX8_next_117 (by decide) (fun c_117 => ?_) (fun c_117 => ?_)
        · skip
          have hs9 : srt (tkK t a) = 3 := by rw [kw_no c_44 (by rw [← hkq]; first | exact c_117 | simpa using c_117) (by omega)]; rfl
          refine ww_gsv C (sv_3 (Cx.ok C)) q705 (fun _ q => q) dX8_next_126 ?_
          refine ww_aload C dX8_next_129 0 rfl rfl ?_
          refine ww_iload_n C dX8_next_131 rfl 4 rfl ?_
          refine ci_X8_77_q (As := [.ref (gE (xG X) 3), .ref s, .int (nI a)]) (rest := [.ref ta]) C dX8_next_132 (ct_X9_init (Cx.fl C) (Cx.ok C) Hta) rfl rfl (Nat.le_of_ble_eq_true rfl) (by decide) (Nat.zero_le _) (Nat.zero_le _) (fun z1 k9 q => ?_)
          obtain ⟨hq1, hK9⟩ := q; replace hq1 := hq1.symm; subst hq1
          exact ww_aret C (Or.inl ⟨_, rfl⟩) dX8_next_135 rfl ⟨rfl, ta, s, w, g, rfl, hts, htw, hsw, ⟨ta_0, s_0, w_0⟩, ⟨ta_z, s_z, w_z⟩, hg, by rw [hs9, hK9]; rw [hE3, hK4, up_up]⟩
        · skip
          have hs9 : srt (tkK t a) = 2 := by exact kw_yes c_44 (by rw [← hkq]; first | exact c_117 | simpa using c_117)
          refine ww_gsv C (sv_2 (Cx.ok C)) q703 (fun _ q => q) dX8_next_120 ?_
          refine ww_goto (tgt := 129) C dX8_next_123 (by decide) ?_
          refine ww_aload C dX8_next_129 0 rfl rfl ?_
          refine ww_iload_n C dX8_next_131 rfl 4 rfl ?_
          refine ci_X8_77_q (As := [.ref (gE (xG X) 2), .ref s, .int (nI a)]) (rest := [.ref ta]) C dX8_next_132 (ct_X9_init (Cx.fl C) (Cx.ok C) Hta) rfl rfl (Nat.le_of_ble_eq_true rfl) (by decide) (Nat.zero_le _) (Nat.zero_le _) (fun z1 k9 q => ?_)
          obtain ⟨hq1, hK9⟩ := q; replace hq1 := hq1.symm; subst hq1
          exact ww_aret C (Or.inl ⟨_, rfl⟩) dX8_next_135 rfl ⟨rfl, ta, s, w, g, rfl, hts, htw, hsw, ⟨ta_0, s_0, w_0⟩, ⟨ta_z, s_z, w_z⟩, hg, by rw [hs9, hK9]; rw [hE3, hK4, up_up]⟩
      · skip
        have hs9 : srt (tkK t a) = 1 := by rw [kw_long c_44 (by omega)]; rfl
        refine ww_gsv C (sv_1 (Cx.ok C)) q324 (fun _ q => q) dX8_next_106 ?_
        refine ww_goto (tgt := 129) C dX8_next_109 (by decide) ?_
        refine ww_aload C dX8_next_129 0 rfl rfl ?_
        refine ww_iload_n C dX8_next_131 rfl 4 rfl ?_
        refine ci_X8_77_q (As := [.ref (gE (xG X) 1), .ref s, .int (nI a)]) (rest := [.ref ta]) C dX8_next_132 (ct_X9_init (Cx.fl C) (Cx.ok C) Hta) rfl rfl (Nat.le_of_ble_eq_true rfl) (by decide) (Nat.zero_le _) (Nat.zero_le _) (fun z1 k9 q => ?_)
        obtain ⟨hq1, hK9⟩ := q; replace hq1 := hq1.symm; subst hq1
        exact ww_aret C (Or.inl ⟨_, rfl⟩) dX8_next_135 rfl ⟨rfl, ta, s, w, g, rfl, hts, htw, hsw, ⟨ta_0, s_0, w_0⟩, ⟨ta_z, s_z, w_z⟩, hg, by rw [hs9, hK9]; rw [hE3, hK4, up_up]⟩
    · intro j hi ih
      show WW X (NxP (xG X) z h t a (tkK t a)) z h (5 + (sbP (tkE t a - a)).2.1) (27 + (sbP (tkE t a - a)).2.2 + (tkE t a - a)) 47 [(3, .int (nI (a + 1 + j))), (2, .int (nI (byA t a))), (0, .ref sc), (1, .int (nI a))] []
      have hb : wdP t (a + 1 + j) = true := run_all (n := t.2) (e := a + 1) (by omega) (by omega)
      have hbl := wdP_lt hb
      unfold wdP at hb
      have hbE := byA_lt ht (a + 1 + j)
      refine ww_aload_n C dX8_next_47 rfl 2 rfl rfl ?_
      refine gf_X8_18_X8 C dX8_next_48 (Or.inl Hsc) rfl ?_
      refine ww_iload_n C dX8_next_51 rfl 0 rfl ?_
      refine cv_X8_38_r (As := [.int (nI (a + 1 + j))]) (rest := []) C dX8_next_52 (ct_X2_at (Cx.fl C) (Cx.ok C) hT ht (by omega)) (rc_X2 (Cx.ok C) (Or.inl hT.1)) rfl rfl (Nat.le_of_ble_eq_true rfl) (by decide) (Nat.zero_le _) (Nat.zero_le _) ?_
      refine cs_X8_82_r (As := [.int (nI (byA t (a + 1 + j)))]) (rest := []) C dX8_next_55 (ct_X8_isLetter (Cx.fl C) (Cx.ok C) (c := byA t (a + 1 + j)) (by omega)) rfl rfl (Nat.le_of_ble_eq_true rfl) (by decide) (Nat.zero_le _) (Nat.zero_le _) ?_
      refine ww_if_ne_b (tgt := 75) C dX8_next_58 (by decide) (fun c_58 => ?_) (fun c_58 => ?_)
      · skip
        refine ww_iinc (lv' := [(3, .int (nI (a + 1 + j + 1))), (2, .int (nI (byA t a))), (0, .ref sc), (1, .int (nI a))]) C dX8_next_75 0 rfl (inc_n _) (by decide) rfl ?_
        refine ww_goto (tgt := 47) C dX8_next_78 (by decide) ?_
        exact ww_lv (lv' := [(3, .int (nI (a + 1 + (j + 1)))), (2, .int (nI (byA t a))), (0, .ref sc), (1, .int (nI a))]) (by rfl) ih
      · skip
        refine ww_aload_n C dX8_next_61 rfl 2 rfl rfl ?_
        refine gf_X8_18_X8 C dX8_next_62 (Or.inl Hsc) rfl ?_
        refine ww_iload_n C dX8_next_65 rfl 0 rfl ?_
        refine cv_X8_38_r (As := [.int (nI (a + 1 + j))]) (rest := []) C dX8_next_66 (ct_X2_at (Cx.fl C) (Cx.ok C) hT ht (by omega)) (rc_X2 (Cx.ok C) (Or.inl hT.1)) rfl rfl (Nat.le_of_ble_eq_true rfl) (by decide) (Nat.zero_le _) (Nat.zero_le _) ?_
        refine cs_X8_85_r (As := [.int (nI (byA t (a + 1 + j)))]) (rest := []) C dX8_next_69 (ct_X8_isDigit (Cx.fl C) (Cx.ok C) (c := byA t (a + 1 + j)) (by omega)) rfl rfl (Nat.le_of_ble_eq_true rfl) (by decide) (Nat.zero_le _) (Nat.zero_le _) ?_
        refine ww_if_eq_f (tgt := 81) C dX8_next_72 (by decide) (fun q => by first | (rw [c_58, Bool.false_or] at hb; rw [hb] at q; cases q) | (rw [show isLt (byA t (a + 1 + j)) = false by simpa using c_58, Bool.false_or] at hb; rw [hb] at q; cases q)) ?_
        refine ww_iinc (lv' := [(3, .int (nI (a + 1 + j + 1))), (2, .int (nI (byA t a))), (0, .ref sc), (1, .int (nI a))]) C dX8_next_75 0 rfl (inc_n _) (by decide) rfl ?_
        refine ww_goto (tgt := 47) C dX8_next_78 (by decide) ?_
        exact ww_lv (lv' := [(3, .int (nI (a + 1 + (j + 1)))), (2, .int (nI (byA t a))), (0, .ref sc), (1, .int (nI a))]) (by rfl) ih
end SCAN
