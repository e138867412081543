section LAW6
set_option maxRecDepth 100000
/-- the case of teach -/
def Lw2 : Prop := ∀ {X : XT} {P : Oc → ZR → AH → Prop} {z : ZR} {h : AH} {kc ns d : Nat} {a m o b L i : Nat} {xs : Nat → Int32} (_ : Cx X cL_law 9 "RingDominoLaw" "law" (some .boolean) [] d) (_ : 2100 ≤ d) (_ : zle (cst (xG X)) z) (_ : LwI (xG X) z h a m o) (_ : va_X b L xs (gS (xG X)) (gS (xG X)).heap) (_ : b < gN (xG X)) (_ : i + 6 ≤ L) (_ : L ≤ 384) (_ : 9390 ≤ kc) (_ : 113000 ≤ ns) (_ : ∀ z' h', zle (cst (xG X)) z' → LwI (xG X) z' h' a m o → WW X P z' h' (kc - 9390) (ns - 113000) 1827 [(4, .int (nI i)), (3, .ref o), (2, .ref m), (1, .ref a), (0, .ref b)] []), WW X P z h kc ns 364 [(4, .int (nI i)), (3, .ref o), (2, .ref m), (1, .ref a), (0, .ref b)] []
theorem sub6 : ∀ L, L < 385 → (nI L - nI 6).toInt = (L : Int) - 6 := by decide +kernel
theorem gt6 {L j : Nat} (hL : L < 385) (hj : j < 385) (h : L < j + 6) : nI L - nI 6 < nI j := by
  rw [Int32.lt_iff_toInt_lt, sub6 L hL, nI_toInt (by omega)]
  omega
theorem ngt6 {L j : Nat} (hL : L < 385) (hj : j < 385) (h : j + 6 ≤ L) : ¬ nI L - nI 6 < nI j := by
  rw [Int32.lt_iff_toInt_lt, sub6 L hL, nI_toInt (by omega)]
  omega
theorem nI_add6 {j : Nat} : nI (6 * j) + nI 6 = nI (6 * (j + 1)) := by rw [nI_add, Nat.mul_add]
theorem and63 (v : Int32) : ∃ c, c < 64 ∧ v &&& nI 63 = nI c := by
  refine ⟨(v &&& nI 63).toBitVec.toNat, ?_, ?_⟩
  · rw [Int32.toBitVec_and, BitVec.toNat_and]
    have : (nI 63).toBitVec.toNat = 63 := by decide
    rw [this]
    exact Nat.lt_of_le_of_lt Nat.and_le_right (by decide)
  · apply Int32.toBitVec_inj.mp
    show _ = BitVec.ofNat 32 _
    rw [BitVec.ofNat_toNat]
    simp
theorem fpC_ex {Γ : Gm} {z : ZR} {h : AH} {a tp ba g ah : Nat} {A D : Nat → Nat} {er : Int32} {t : TP} {B : GB} {rn : Int32} {T : TD} {q : Nat} (hC : CoI Γ z h a tp ba g ah A D er t B rn T) (f : fpC Γ a tp ba g ah A D q) : ∃ e, h q = some e := by
  obtain ⟨fb, G, dn, N, h1, h2, h3, h4, h5, h6, h7, h8, h9, h10, ⟨B2, G2, r2, d2, h11, -⟩, h12⟩ := hC
  rcases f with rfl | rfl | rfl | f | f
  · exact ⟨_, h1⟩
  · exact ⟨_, h2.1⟩
  · exact ⟨_, h2.2.1⟩
  · exact fp_ex h4 f
  · exact fp_ex h11 f
set_option maxHeartbeats 2000000 in
theorem ct_law {l : Launch} {Γ : Gm} (hl : l.flags = flags0) (hΓ : GOK Γ) {z : ZR} {h : AH} {b L : Nat} {xs : Nat → Int32} (H2 : Lw2) (hz : zle (cst Γ) z) (hh0 : ∀ q, h q = none) (hs : va_X b L xs (gS Γ) (gS Γ).heap) (hbs : b < gN Γ) (hL : L ≤ 384) : Ct l Γ x cL_law 9 (some .boolean) 2160 601060 7257000 [.ref b] z h (Rv (fun v _ _ => v = .int (nI 1))) := by
  refine Ct.of hl hΓ (by decide +kernel) (Nat.le_of_ble_eq_true rfl) (fun X e1 e2 C => ?_)
  subst e1; subst e2
  have C : Cx X cL_law 9 "RingDominoLaw" "law" (some .boolean) [] 2160 := C
  show WW X (Rv (fun v _ _ => v = .int (nI 1))) z h 601060 7257000 0 [(0, .ref b)] []
  refine nw_X0_8 C dL_law_0 (by decide) (by decide) (fun a a_n a_z a_g => ?_)
  refine ww_gen (fun h1 hE1 => ?_)
  have N1_h1 : h1 a = some (.inr (0, [.null, .int (nI 0), .null, .null])) := by rw [hE1]; exact up_s
  refine ww_dup C dL_law_3 rfl ?_
  refine ci_X0_87_q (As := []) (rest := [.ref a]) C dL_law_4 (ct_X1_init (Cx.fl C) (Cx.ok C) hz N1_h1) rfl rfl (Nat.le_of_ble_eq_true rfl) (by decide) (by decide) (by decide) (fun z1 k1 q1 => ?_)
  obtain ⟨hq, tp, ba, g, ah, A, D, hCo, hN1, hF1⟩ := q1; replace hq := hq.symm; subst hq
  refine ww_le (kc' := 601045) (ns' := 7254796) (by decide) (by decide) ?_
  refine ww_astore_n (lv' := [(1, .ref a), (0, .ref b)]) C dL_law_7 rfl (by decide) rfl rfl ?_
  refine nw_X0_88 C dL_law_8 (by decide) (by decide) (fun m m_n m_z m_g => ?_)
  refine ww_gen (fun h2 hE2 => ?_)
  have N2_h2 : h2 m = some (.inr (3, [.int (nI 0), .null, .int (nI 0), .int (nI 0), .null, .null, .null, .null, .int (nI 0), .int (nI 0), .int (nI 0), .int (nI 0), .int (nI 0), .null, .null, .null, .null, .null, .null, .null, .null, .int (nI 0), .int (nI 0), .int (nI 0)])) := by rw [hE2]; exact up_s
  refine ww_dup C dL_law_11 rfl ?_
  refine ci_X0_90_q (As := []) (rest := [.ref m]) C dL_law_12 (ct_X4_init (Cx.fl C) (Cx.ok C) hz N2_h2) rfl rfl (Nat.le_of_ble_eq_true rfl) (by decide) (by decide) (by decide) (fun z2 k2 q2 => ?_)
  obtain ⟨hq, Dm, M, hD0, hX, hb, hT, hrn, h1, h2, hN2, hF2⟩ := q2; replace hq := hq.symm; subst hq
  refine ww_le (kc' := 601004) (ns' := 7234772) (by decide) (by decide) ?_
  have hK2 : ∀ q e, k1 q = some e → k2 q = some e := fun q e hq => hF2 q e (by rw [hE2, up_n (ne_nw hq m_n)]; exact hq) (ne_nw hq m_n)
  have hCo2 := hCo.ext (fun q e hq _ => hK2 q e hq)
  have hDn : ∀ i, mi i = true → k1 (Dm i) = none := fun i hi => by
    rcases hN2 i hi with f | f
    · rw [f]; exact m_n
    · rw [hE2] at f; exact up_none f
  have hex : ∀ q, fpC (xG X) a tp ba g ah A D q → ∃ e, k1 q = some e := fun q f => fpC_ex hCo f
  refine ww_astore_n (lv' := [(2, .ref m), (1, .ref a), (0, .ref b)]) C dL_law_15 rfl (by decide) rfl rfl ?_
  refine ww_iconst C dL_law_16 cI_1 ?_
  refine ww_newa (t := 2) (n := 1) (a0 := (1, .inr (.inl (fun _ => 0)))) C dL_law_17 (by decide) rfl q3365 (fun cA => vp_cell_el cA _) (by decide) (by decide) (by decide) (fun o o_n o_z o_g => ?_)
  refine ww_gen (fun h3 hE3 => ?_)
  have N3_h3 : h3 o = some (.inl (gA (xG X) 2, (1, .inr (.inl (fun _ => 0))))) := by rw [hE3]; exact up_s
  have hI : LwI (xG X) z h3 a m o := by
    have hno : ¬ fpC (xG X) a tp ba g ah A D o := fun f => by obtain ⟨e, he⟩ := hex o f; rw [hK2 o e he] at o_n; cases o_n
    have hdo : ∀ i, mi i = true → Dm i ≠ o := fun i hi e => by have := hX.1 i hi; rw [e, o_n] at this; cases this
    refine ⟨tp, ba, g, ah, A, D, -1, t00, bd0, nI 0, td0, Dm, M, fun _ => 0, hCo2.ext (fun q e hq f => ?_), hD0, ⟨fun i hi => ?_, hX.2⟩, hb, hT, hrn, ⟨h1, fun q hq => absurd hq (Nat.not_lt_zero q)⟩, h2, by rw [hE3]; exact up_s, fun i hi => ⟨fun f => ?_, hdo i hi⟩, hno⟩
    · rw [hE3, up_n (fun e9 => hno (by rw [← e9]; exact f))]; exact hq
    · rw [hE3, up_n (hdo i hi)]; exact hX.1 i hi
    · obtain ⟨e, he⟩ := hex _ f; rw [hDn i hi] at he; cases he
  refine ww_le (kc' := 600960) (ns' := 7232000) (by decide) (by decide) ?_
  refine ww_astore_n (lv' := [(3, .ref o), (2, .ref m), (1, .ref a), (0, .ref b)]) C dL_law_19 rfl (by decide) rfl rfl ?_
  refine ww_iconst C dL_law_20 cI_0 ?_
  refine ww_istore (lv' := [(4, .int (nI 0)), (3, .ref o), (2, .ref m), (1, .ref a), (0, .ref b)]) C dL_law_21 (by decide) rfl ?_
  refine ww_lv (lv' := [(4, .int (nI (6 * 0))), (3, .ref o), (2, .ref m), (1, .ref a), (0, .ref b)]) rfl ?_
  have hL6 : L / 6 ≤ 64 := by omega
  refine loop_up (N := (L / 6)) (M := fun j => ∀ (z3 : ZR) (h3 : AH), (zle (cst (xG X)) z3) → (LwI (xG X) z3 h3 a m o) → WW X (Rv (fun v _ _ => v = .int (nI 1))) z3 h3 ((64 - j) * 9390) ((64 - j) * 113000) 23 [(4, .int (nI (6 * j))), (3, .ref o), (2, .ref m), (1, .ref a), (0, .ref b)] []) ?_ ?_ 0 (Nat.zero_le _) _ _ hz hI
  · intro z3 h3 hw1 hw2
    show WW X (Rv (fun v _ _ => v = .int (nI 1))) z3 h3 ((64 - (L / 6)) * 9390) ((64 - (L / 6)) * 113000) 23 [(4, .int (nI (6 * (L / 6)))), (3, .ref o), (2, .ref m), (1, .ref a), (0, .ref b)] []
    refine ww_iload C dL_law_23 0 rfl ?_
    refine ww_aload_n C dL_law_25 rfl 4 rfl rfl ?_
    refine ww_slen C hs hbs dL_law_26 ?_
    refine ww_bipush C dL_law_27 cB_6 ?_
    refine ww_isub C dL_law_29 ?_
    refine ww_icmp_gt_t (tgt := 1833) C dL_law_30 (by decide) (gt6 (by omega) (by omega) (by omega)) ?_
    refine ww_iconst C dL_law_1833 cI_1 ?_
    exact ww_zret C dL_law_1834 nar_z1 rfl
  · intro j hi ih z3 h3 hw1 hw2
    show WW X (Rv (fun v _ _ => v = .int (nI 1))) z3 h3 ((64 - j) * 9390) ((64 - j) * 113000) 23 [(4, .int (nI (6 * j))), (3, .ref o), (2, .ref m), (1, .ref a), (0, .ref b)] []
    have hi6 : 6 * j + 6 ≤ L := by omega
    refine ww_iload C dL_law_23 0 rfl ?_
    refine ww_aload_n C dL_law_25 rfl 4 rfl rfl ?_
    refine ww_slen C hs hbs dL_law_26 ?_
    refine ww_bipush C dL_law_27 cB_6 ?_
    refine ww_isub C dL_law_29 ?_
    refine ww_icmp_gt_f (tgt := 1833) C dL_law_30 (by decide) (ngt6 (by omega) (by omega) (by omega)) ?_
    refine ww_aload_n C dL_law_33 rfl 4 rfl rfl ?_
    refine ww_iload C dL_law_34 0 rfl ?_
    refine ww_sld (j := (6 * j)) C hs hbs (by omega) (by omega) dL_law_36 ?_
    refine ww_bipush C dL_law_37 cB_63 ?_
    refine ww_iand C dL_law_39 ?_
    obtain ⟨c, hc, hce⟩ := and63 (xs (6 * j))
    refine ww_st (st' := [.int (nI c)]) (by rw [← hce]) ?_
    have hend : ∀ z' h', zle (cst (xG X)) z' → LwI (xG X) z' h' a m o → WW X (Rv fun v _ _ => v = .int (nI 1)) z' h' ((64 - j) * 9390 - 9390) ((64 - j) * 113000 - 113000) 1827 [(4, .int (nI (6 * j))), (3, .ref o), (2, .ref m), (1, .ref a), (0, .ref b)] [] := fun z' h' hz' hI' => by
      refine ww_iinc (lv' := [(4, .int (nI (6 * j) + Int32.ofInt 6)), (3, .ref o), (2, .ref m), (1, .ref a), (0, .ref b)]) C dL_law_1827 0 rfl rfl (by decide) rfl ?_
      refine ww_goto (tgt := 23) C dL_law_1830 (by decide) ?_
      refine ww_le (kc' := (64 - (j + 1)) * 9390) (ns' := (64 - (j + 1)) * 113000) (by omega) (by omega) ?_
      exact ww_lv (lv' := [(4, .int (nI (6 * (j + 1)))), (3, .ref o), (2, .ref m), (1, .ref a), (0, .ref b)]) (by rw [show nI (6 * j) + Int32.ofInt 6 = nI (6 * (j + 1)) from nI_add6]) (ih z' h' hz' hI')
    rcases (show c = 0 ∨ c = 1 ∨ c = 2 ∨ c = 3 ∨ c = 4 ∨ c = 5 ∨ c = 6 ∨ c = 7 ∨ c = 8 ∨ c = 9 ∨ c = 10 ∨ c = 11 ∨ c = 12 ∨ c = 13 ∨ c = 14 ∨ c = 15 ∨ c = 16 ∨ c = 17 ∨ c = 18 ∨ c = 19 ∨ c = 20 ∨ c = 21 ∨ c = 22 ∨ c = 23 ∨ c = 24 ∨ c = 25 ∨ c = 26 ∨ c = 27 ∨ c = 28 ∨ c = 29 ∨ c = 30 ∨ c = 31 ∨ c = 32 ∨ c = 33 ∨ c = 34 ∨ c = 35 ∨ c = 36 ∨ 37 ≤ c by omega) with rfl | rfl | rfl | rfl | rfl | rfl | rfl | rfl | rfl | rfl | rfl | rfl | rfl | rfl | rfl | rfl | rfl | rfl | rfl | rfl | rfl | rfl | rfl | rfl | rfl | rfl | rfl | rfl | rfl | rfl | rfl | rfl | rfl | rfl | rfl | rfl | rfl | hc37
    · refine ww_tin (off := 164) (tgt := 204) C dL_law_40 (by decide) (by decide) rfl (by decide) ?_
      exact lwc_0 C (by decide) hw1 hw2 hs hbs hi6 hL (by omega) (by omega) hend
    · refine ww_tin (off := 268) (tgt := 308) C dL_law_40 (by decide) (by decide) rfl (by decide) ?_
      exact lwc_1 C (by decide) hw1 hw2 hs hbs hi6 hL (by omega) (by omega) hend
    · refine ww_tin (off := 324) (tgt := 364) C dL_law_40 (by decide) (by decide) rfl (by decide) ?_
      exact H2 C (by decide) hw1 hw2 hs hbs hi6 hL (by omega) (by omega) hend
    · refine ww_tin (off := 337) (tgt := 377) C dL_law_40 (by decide) (by decide) rfl (by decide) ?_
      exact lwc_3 C (by decide) hw1 hw2 hs hbs hi6 hL (by omega) (by omega) hend
    · refine ww_tin (off := 350) (tgt := 390) C dL_law_40 (by decide) (by decide) rfl (by decide) ?_
      exact lwc_4 C (by decide) hw1 hw2 hs hbs hi6 hL (by omega) (by omega) hend
    · refine ww_tin (off := 363) (tgt := 403) C dL_law_40 (by decide) (by decide) rfl (by decide) ?_
      exact lwc_5 C (by decide) hw1 hw2 hs hbs hi6 hL (by omega) (by omega) hend
    · refine ww_tin (off := 376) (tgt := 416) C dL_law_40 (by decide) (by decide) rfl (by decide) ?_
      exact lwc_6 C (by decide) hw1 hw2 hs hbs hi6 hL (by omega) (by omega) hend
    · refine ww_tin (off := 389) (tgt := 429) C dL_law_40 (by decide) (by decide) rfl (by decide) ?_
      exact lwc_7 C (by decide) hw1 hw2 hs hbs hi6 hL (by omega) (by omega) hend
    · refine ww_tin (off := 402) (tgt := 442) C dL_law_40 (by decide) (by decide) rfl (by decide) ?_
      exact lwc_8 C (by decide) hw1 hw2 hs hbs hi6 hL (by omega) (by omega) hend
    · refine ww_tin (off := 415) (tgt := 455) C dL_law_40 (by decide) (by decide) rfl (by decide) ?_
      exact lwc_9 C (by decide) hw1 hw2 hs hbs hi6 hL (by omega) (by omega) hend
    · refine ww_tin (off := 428) (tgt := 468) C dL_law_40 (by decide) (by decide) rfl (by decide) ?_
      exact lwc_10 C (by decide) hw1 hw2 hs hbs hi6 hL (by omega) (by omega) hend
    · refine ww_tin (off := 441) (tgt := 481) C dL_law_40 (by decide) (by decide) rfl (by decide) ?_
      exact lwc_11 C (by decide) hw1 hw2 hs hbs hi6 hL (by omega) (by omega) hend
    · refine ww_tin (off := 454) (tgt := 494) C dL_law_40 (by decide) (by decide) rfl (by decide) ?_
      exact lwc_12 C (by decide) hw1 hw2 hs hbs hi6 hL (by omega) (by omega) hend
    · refine ww_tin (off := 467) (tgt := 507) C dL_law_40 (by decide) (by decide) rfl (by decide) ?_
      exact lwc_13 C (by decide) hw1 hw2 hs hbs hi6 hL (by omega) (by omega) hend
    · refine ww_tin (off := 530) (tgt := 570) C dL_law_40 (by decide) (by decide) rfl (by decide) ?_
      exact lwc_14 C (by decide) hw1 hw2 hs hbs hi6 hL (by omega) (by omega) hend
    · refine ww_tin (off := 586) (tgt := 626) C dL_law_40 (by decide) (by decide) rfl (by decide) ?_
      exact lwc_15 C (by decide) hw1 hw2 hs hbs hi6 hL (by omega) (by omega) hend
    · refine ww_tin (off := 654) (tgt := 694) C dL_law_40 (by decide) (by decide) rfl (by decide) ?_
      exact lwc_16 C (by decide) hw1 hw2 hs hbs hi6 hL (by omega) (by omega) hend
    · refine ww_tin (off := 710) (tgt := 750) C dL_law_40 (by decide) (by decide) rfl (by decide) ?_
      exact lwc_17 C (by decide) hw1 hw2 hs hbs hi6 hL (by omega) (by omega) hend
    · refine ww_tin (off := 773) (tgt := 813) C dL_law_40 (by decide) (by decide) rfl (by decide) ?_
      exact lwc_18 C (by decide) hw1 hw2 hs hbs hi6 hL (by omega) (by omega) hend
    · refine ww_tin (off := 836) (tgt := 876) C dL_law_40 (by decide) (by decide) rfl (by decide) ?_
      exact lwc_19 C (by decide) hw1 hw2 hs hbs hi6 hL (by omega) (by omega) hend
    · refine ww_tin (off := 892) (tgt := 932) C dL_law_40 (by decide) (by decide) rfl (by decide) ?_
      exact lwc_20 C (by decide) hw1 hw2 hs hbs hi6 hL (by omega) (by omega) hend
    · refine ww_tin (off := 948) (tgt := 988) C dL_law_40 (by decide) (by decide) rfl (by decide) ?_
      exact lwc_21 C (by decide) hw1 hw2 hs hbs hi6 hL (by omega) (by omega) hend
    · refine ww_tin (off := 1035) (tgt := 1075) C dL_law_40 (by decide) (by decide) rfl (by decide) ?_
      exact lwc_22 C (by decide) hw1 hw2 hs hbs hi6 hL (by omega) (by omega) hend
    · refine ww_tin (off := 1115) (tgt := 1155) C dL_law_40 (by decide) (by decide) rfl (by decide) ?_
      exact lwc_23 C (by decide) hw1 hw2 hs hbs hi6 hL (by omega) (by omega) hend
    · refine ww_tin (off := 1171) (tgt := 1211) C dL_law_40 (by decide) (by decide) rfl (by decide) ?_
      exact lwc_24 C (by decide) hw1 hw2 hs hbs hi6 hL (by omega) (by omega) hend
    · refine ww_tin (off := 1234) (tgt := 1274) C dL_law_40 (by decide) (by decide) rfl (by decide) ?_
      exact lwc_25 C (by decide) hw1 hw2 hs hbs hi6 hL (by omega) (by omega) hend
    · refine ww_tin (off := 1290) (tgt := 1330) C dL_law_40 (by decide) (by decide) rfl (by decide) ?_
      exact lwc_26 C (by decide) hw1 hw2 hs hbs hi6 hL (by omega) (by omega) hend
    · refine ww_tin (off := 1370) (tgt := 1410) C dL_law_40 (by decide) (by decide) rfl (by decide) ?_
      exact lwc_27 C (by decide) hw1 hw2 hs hbs hi6 hL (by omega) (by omega) hend
    · refine ww_tin (off := 1426) (tgt := 1466) C dL_law_40 (by decide) (by decide) rfl (by decide) ?_
      exact lwc_28 C (by decide) hw1 hw2 hs hbs hi6 hL (by omega) (by omega) hend
    · refine ww_tin (off := 1482) (tgt := 1522) C dL_law_40 (by decide) (by decide) rfl (by decide) ?_
      exact lwc_29 C (by decide) hw1 hw2 hs hbs hi6 hL (by omega) (by omega) hend
    · refine ww_tin (off := 1538) (tgt := 1578) C dL_law_40 (by decide) (by decide) rfl (by decide) ?_
      exact lwc_30 C (by decide) hw1 hw2 hs hbs hi6 hL (by omega) (by omega) hend
    · refine ww_tin (off := 1594) (tgt := 1634) C dL_law_40 (by decide) (by decide) rfl (by decide) ?_
      exact lwc_31 C (by decide) hw1 hw2 hs hbs hi6 hL (by omega) (by omega) hend
    · refine ww_tin (off := 1607) (tgt := 1647) C dL_law_40 (by decide) (by decide) rfl (by decide) ?_
      exact lwc_32 C (by decide) hw1 hw2 hs hbs hi6 hL (by omega) (by omega) hend
    · refine ww_tin (off := 1663) (tgt := 1703) C dL_law_40 (by decide) (by decide) rfl (by decide) ?_
      exact lwc_33 C (by decide) hw1 hw2 hs hbs hi6 hL (by omega) (by omega) hend
    · refine ww_tin (off := 1719) (tgt := 1759) C dL_law_40 (by decide) (by decide) rfl (by decide) ?_
      exact lwc_34 C (by decide) hw1 hw2 hs hbs hi6 hL (by omega) (by omega) hend
    · refine ww_tin (off := 1732) (tgt := 1772) C dL_law_40 (by decide) (by decide) rfl (by decide) ?_
      exact lwc_35 C (by decide) hw1 hw2 hs hbs hi6 hL (by omega) (by omega) hend
    · refine ww_tin (off := 1773) (tgt := 1813) C dL_law_40 (by decide) (by decide) rfl (by decide) ?_
      exact lwc_36 C (by decide) hw1 hw2 hs hbs hi6 hL (by omega) (by omega) hend
    · refine ww_tout (tgt := 1827) C dL_law_40 (Or.inr ?_) (by decide) ?_
      · rw [nI_toInt (by omega)]; omega
      · exact ww_le (by omega) (by omega) (hend z3 h3 hw1 hw2)
end LAW6
