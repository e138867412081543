section GAME8
set_option maxRecDepth 100000
/-- a tile more -/
def adB (B : GB) (num : Nat → Nat) : GB := ((Bc B, Br B, Bt B + 1), va_up (Bn B) (Bt B) num, Bl B, va_up (Bp B) (Bt B) none, va_up (Bu B) (Bt B) 0)
theorem adB_n {B : GB} {num : Nat → Nat} {k : Nat} (h : k < Bt B) : Bn (adB B num) k = Bn B k := va_ne (by omega)
theorem adB_t {B : GB} {num : Nat → Nat} : Bn (adB B num) (Bt B) = num := va_eq
theorem til_ob {Γ : Gm} {z : ZR} {t : Nat} {num : Nat → Nat} (h : TilP Γ z t num) : obZ z t := by
  obtain ⟨b, h1, -⟩ := h
  exact ⟨10, _, _, _, _, h1, rfl, q3420⟩
theorem bx_ob {Γ : Gm} {z : ZR} (hz : zle (cst Γ) z) {x : Int32} (hx : ¬ x < -128 ∧ ¬ 127 < x) : obZ z (bxA Γ x) := by
  rcases bx_rd (h := h0H) hz hx with q | q
  · cases q
  · exact ⟨26, _, _, _, _, q, rfl, q3421⟩
set_option maxHeartbeats 2000000 in
theorem ct_X3_add {l : Launch} {Γ : Gm} (hl : l.flags = flags0) (hΓ : GOK Γ) {z : ZR} {h : AH} {g t : Nat} {A : Nat → Nat} {B : GB} {G : GG} {rn dn : Int32} {num : Nat → Nat} (hz : zle (cst Γ) z) (hM : GmM Γ z h g A B G rn dn) (hL : GmL Γ A G) (hT : TilP Γ z t num) (hbt : Bt B < 100) (hcp : ∀ i, i < 4 → G.2.1 i < 2 ^ 16) (hp49 : ∀ k, k < Bt B → ∀ y, Bp B k = some y → y < 49) (hu49 : ∀ k, k < Bt B → Bu B k < 49) : Ct l Γ yX3_add cX3_add 2 none 11 (adC (Bt B) (G.2.1 0) + adC (Bt B) (G.2.1 2) + adC (Bt B) (G.2.1 3)) (adS (Bt B) (G.2.1 0) + adS (Bt B) (G.2.1 2) + adS (Bt B) (G.2.1 3)) [.ref g, .ref t] z h (Rn (fun z' h' => z' = z ∧ ∃ A' G', GmM Γ z h' g A' (adB B num) G' rn dn ∧ GmL Γ A' G' ∧ (G'.2.1 0 = adK (Bt B) (G.2.1 0) ∧ G'.2.1 1 = G.2.1 1 ∧ G'.2.1 2 = adK (Bt B) (G.2.1 2) ∧ G'.2.1 3 = adK (Bt B) (G.2.1 3) ∧ G'.2.2 = G.2.2) ∧ (∀ k, A' (200 + k) = A (200 + k)) ∧ (∀ q, fpG Γ g A' q → fpG Γ g A q ∨ h q = none) ∧ ∀ q e, h q = some e → ¬ fpG Γ g A q → h' q = some e ∧ ¬ fpG Γ g A' q)) := by
  refine Ct.of hl hΓ (by decide +kernel) (Nat.le_of_ble_eq_true rfl) (fun X e1 e2 C => ?_)
  subst e1; subst e2
  have C : Cx X cX3_add 2 "RingDomino$Game" "add" none [] 11 := C
  have hX := hM.x hL
  have hF : ∀ q e, h q = some e → ¬ fpG (xG X) g A q → h q = some e ∧ ¬ fpG (xG X) g A q := fun q e hq nf => ⟨hq, nf⟩
  have hN : ∀ q, fpG (xG X) g A q → fpG (xG X) g A q ∨ h q = none := fun q hq => Or.inl hq
  have hTT := hM.2.2.2.1
  show WW X (Rn (fun z' h' => z' = z ∧ ∃ A' G', GmM (xG X) z h' g A' (adB B num) G' rn dn ∧ GmL (xG X) A' G' ∧ (G'.2.1 0 = adK (Bt B) (G.2.1 0) ∧ G'.2.1 1 = G.2.1 1 ∧ G'.2.1 2 = adK (Bt B) (G.2.1 2) ∧ G'.2.1 3 = adK (Bt B) (G.2.1 3) ∧ G'.2.2 = G.2.2) ∧ (∀ k, A' (200 + k) = A (200 + k)) ∧ (∀ q, fpG (xG X) g A' q → fpG (xG X) g A q ∨ h q = none) ∧ ∀ q e, h q = some e → ¬ fpG (xG X) g A q → h' q = some e ∧ ¬ fpG (xG X) g A' q)) z h (adC (Bt B) (G.2.1 0) + adC (Bt B) (G.2.1 2) + adC (Bt B) (G.2.1 3)) (adS (Bt B) (G.2.1 0) + adS (Bt B) (G.2.1 2) + adS (Bt B) (G.2.1 3)) 0 [(0, .ref g), (1, .ref t)] []
  refine ww_ow0 hz (fun ow0 => ?_)
  refine ww_aload_n C dX3_add_0 rfl 0 rfl rfl ?_
  refine gf_X3_21_X3 C dX3_add_1 (Or.inl hX.1) rfl ?_
  refine ww_aload_n C dX3_add_4 rfl 1 rfl rfl ?_
  refine ww_ow0 hz (fun ow1 => ?_)
  have L1 : ALm (xG X) h (A 0) (A 1) (Bt B) (G.1 0) (G.2.1 0) (fun k => A (100 + k)) := hX.2.2.1 0 (by decide)
  have e1 : G.2.1 0 = 0 → A 1 = gE (xG X) 0 := hX.2.2.2.2 0 (by decide)
  refine cv_X3_38_q (As := [.ref t]) (rest := []) C dX3_add_5 (ct_J2_add (Cx.fl C) (Cx.ok C) hz L1 e1 (fun i hi => til_ob (hTT i hi)) (til_ob hT) (hcp 0 (by decide))) (rc_J2 (Cx.ok C) (Or.inl L1.1)) rfl rfl (Nat.le_of_ble_eq_true rfl) (by decide) (by omega) (by omega) (fun v1 z1 k1 q1 => ?_)
  obtain ⟨rfl, hq, ar1, cp1, la1, fa1, ca1, ck1, fr1⟩ := q1; replace hq := hq.symm; subst hq
  have fa1 : ar1 = A 1 ∨ (h ar1 = none ∧ ar1 ≠ gE (xG X) 0) := fa1.imp id (fun q => ⟨q.1, fun e => q.2 _ (e ▸ cst_e0 hz)⟩)
  have hX1 := hX.set (i := 0) (by decide) ow1 la1 fa1 ca1 fr1
  have hF1 : ∀ q e, h q = some e → ¬ fpG (xG X) g A q → k1 q = some e ∧ ¬ fpG (xG X) g (va_up A (arI 0) ar1) q := fun q e hq nf => by
    obtain ⟨t1, t2⟩ := hF q e hq nf
    refine ⟨fr1 q e t1 (fp_hd (i := 0) (by decide) t2) (fp_ar (i := 0) (by decide) t2 (ow0 q e hq)), fun f => ?_⟩
    rcases fp_up (i := 0) (by decide) f with f | ⟨f, -⟩
    · exact t2 f
    · rcases fa1 with g1 | ⟨g1, -⟩
      · exact fp_ar (i := 0) (by decide) t2 (ow0 q e hq) (f.trans g1)
      · rw [f, g1] at t1; cases t1
  have hN1 : ∀ q, fpG (xG X) g (va_up A (arI 0) ar1) q → fpG (xG X) g A q ∨ h q = none := fun q hq => by
    rcases fp_up (i := 0) (by decide) hq with f | ⟨f, f2⟩
    · exact hN q f
    · rcases fa1 with g1 | ⟨g1, -⟩
      · exact hN q (Or.inr (Or.inr (Or.inr (Or.inr (Or.inr (Or.inr ⟨Or.inl (f.trans g1), f2⟩))))))
      · by_cases hfp : fpG (xG X) g A q
        · exact Or.inl hfp
        · refine Or.inr (Option.eq_none_iff_forall_ne_some.mpr (fun e he => ?_))
          have := (hF q e he hfp).1
          rw [f, g1] at this; cases this
  obtain ⟨A1, hA1⟩ : ∃ A9, A9 = va_up A (arI 0) ar1 := ⟨_, rfl⟩
  rw [← hA1] at hX1 hF1 hN1
  refine ww_pop C dX3_add_8 rfl ?_
  refine ww_aload_n C dX3_add_9 rfl 0 rfl rfl ?_
  refine gf_X3_32_X3 C dX3_add_10 (Or.inl hX1.1) rfl ?_
  refine ww_iconst C dX3_add_13 cI_m1 ?_
  have rm1 : ¬ (-1 : Int32) < -128 ∧ ¬ 127 < (-1 : Int32) := by decide
  have r0 : ¬ nI 0 < -128 ∧ ¬ 127 < nI 0 := nI_rng (by decide)
  refine cs_X3_42_r (As := [.int (-1)]) (rest := [.ref (A1 5)]) C dX3_add_14 (ct_J19_valueOf (Cx.fl C) (Cx.ok C) hz rm1.1 rm1.2) rfl rfl (Nat.le_of_ble_eq_true rfl) (by decide) (Nat.zero_le _) (Nat.zero_le _) ?_
  refine ww_ow0 hz (fun ow2 => ?_)
  have L2 : ALm (xG X) k1 (A1 5) (A1 6) (Bt B) (G.1 2) (G.2.1 2) (fun k => bxA (xG X) (oI (Bp B k))) := hX1.2.2.1 2 (by decide)
  have e2 : G.2.1 2 = 0 → A1 6 = gE (xG X) 0 := hX1.2.2.2.2 2 (by decide)
  refine cv_X3_38_q (As := [.ref (bxA (xG X) (-1))]) (rest := []) C dX3_add_17 (ct_J2_add (Cx.fl C) (Cx.ok C) hz L2 e2 (fun i hi => bx_ob hz (oI_rng (hp49 i hi))) (bx_ob hz rm1) (hcp 2 (by decide))) (rc_J2 (Cx.ok C) (Or.inl L2.1)) rfl rfl (Nat.le_of_ble_eq_true rfl) (by decide) (by omega) (by omega) (fun v2 z2 k2 q2 => ?_)
  obtain ⟨rfl, hq, ar2, cp2, la2, fa2, ca2, ck2, fr2⟩ := q2; replace hq := hq.symm; subst hq
  have fa2 : ar2 = A1 6 ∨ (k1 ar2 = none ∧ ar2 ≠ gE (xG X) 0) := fa2.imp id (fun q => ⟨q.1, fun e => q.2 _ (e ▸ cst_e0 hz)⟩)
  have hX2 := hX1.set (i := 2) (by decide) ow2 la2 fa2 ca2 fr2
  have hF2 : ∀ q e, h q = some e → ¬ fpG (xG X) g A q → k2 q = some e ∧ ¬ fpG (xG X) g (va_up A1 (arI 2) ar2) q := fun q e hq nf => by
    obtain ⟨t1, t2⟩ := hF1 q e hq nf
    refine ⟨fr2 q e t1 (fp_hd (i := 2) (by decide) t2) (fp_ar (i := 2) (by decide) t2 (ow0 q e hq)), fun f => ?_⟩
    rcases fp_up (i := 2) (by decide) f with f | ⟨f, -⟩
    · exact t2 f
    · rcases fa2 with g1 | ⟨g1, -⟩
      · exact fp_ar (i := 2) (by decide) t2 (ow0 q e hq) (f.trans g1)
      · rw [f, g1] at t1; cases t1
  have hN2 : ∀ q, fpG (xG X) g (va_up A1 (arI 2) ar2) q → fpG (xG X) g A q ∨ h q = none := fun q hq => by
    rcases fp_up (i := 2) (by decide) hq with f | ⟨f, f2⟩
    · exact hN1 q f
    · rcases fa2 with g1 | ⟨g1, -⟩
      · exact hN1 q (Or.inr (Or.inr (Or.inr (Or.inr (Or.inr (Or.inr ⟨Or.inr (Or.inr (Or.inl (f.trans g1))), f2⟩))))))
      · by_cases hfp : fpG (xG X) g A q
        · exact Or.inl hfp
        · refine Or.inr (Option.eq_none_iff_forall_ne_some.mpr (fun e he => ?_))
          have := (hF1 q e he hfp).1
          rw [f, g1] at this; cases this
  obtain ⟨A2, hA2⟩ : ∃ A9, A9 = va_up A1 (arI 2) ar2 := ⟨_, rfl⟩
  rw [← hA2] at hX2 hF2 hN2
  refine ww_pop C dX3_add_20 rfl ?_
  refine ww_aload_n C dX3_add_21 rfl 0 rfl rfl ?_
  refine gf_X3_35_X3 C dX3_add_22 (Or.inl hX2.1) rfl ?_
  refine ww_iconst C dX3_add_25 cI_0 ?_
  refine cs_X3_42_r (As := [.int (nI 0)]) (rest := [.ref (A2 7)]) C dX3_add_26 (ct_J19_valueOf (Cx.fl C) (Cx.ok C) hz r0.1 r0.2) rfl rfl (Nat.le_of_ble_eq_true rfl) (by decide) (Nat.zero_le _) (Nat.zero_le _) ?_
  refine ww_ow0 hz (fun ow3 => ?_)
  have L3 : ALm (xG X) k2 (A2 7) (A2 8) (Bt B) (G.1 3) (G.2.1 3) (fun k => bxA (xG X) (nI (Bu B k))) := hX2.2.2.1 3 (by decide)
  have e3 : G.2.1 3 = 0 → A2 8 = gE (xG X) 0 := hX2.2.2.2.2 3 (by decide)
  refine cv_X3_38_q (As := [.ref (bxA (xG X) (nI 0))]) (rest := []) C dX3_add_29 (ct_J2_add (Cx.fl C) (Cx.ok C) hz L3 e3 (fun i hi => bx_ob hz (nI_rng (hu49 i hi))) (bx_ob hz r0) (hcp 3 (by decide))) (rc_J2 (Cx.ok C) (Or.inl L3.1)) rfl rfl (Nat.le_of_ble_eq_true rfl) (by decide) (by omega) (by omega) (fun v3 z3 k3 q3 => ?_)
  obtain ⟨rfl, hq, ar3, cp3, la3, fa3, ca3, ck3, fr3⟩ := q3; replace hq := hq.symm; subst hq
  have fa3 : ar3 = A2 8 ∨ (k2 ar3 = none ∧ ar3 ≠ gE (xG X) 0) := fa3.imp id (fun q => ⟨q.1, fun e => q.2 _ (e ▸ cst_e0 hz)⟩)
  have hX3 := hX2.set (i := 3) (by decide) ow3 la3 fa3 ca3 fr3
  have hF3 : ∀ q e, h q = some e → ¬ fpG (xG X) g A q → k3 q = some e ∧ ¬ fpG (xG X) g (va_up A2 (arI 3) ar3) q := fun q e hq nf => by
    obtain ⟨t1, t2⟩ := hF2 q e hq nf
    refine ⟨fr3 q e t1 (fp_hd (i := 3) (by decide) t2) (fp_ar (i := 3) (by decide) t2 (ow0 q e hq)), fun f => ?_⟩
    rcases fp_up (i := 3) (by decide) f with f | ⟨f, -⟩
    · exact t2 f
    · rcases fa3 with g1 | ⟨g1, -⟩
      · exact fp_ar (i := 3) (by decide) t2 (ow0 q e hq) (f.trans g1)
      · rw [f, g1] at t1; cases t1
  have hN3 : ∀ q, fpG (xG X) g (va_up A2 (arI 3) ar3) q → fpG (xG X) g A q ∨ h q = none := fun q hq => by
    rcases fp_up (i := 3) (by decide) hq with f | ⟨f, f2⟩
    · exact hN2 q f
    · rcases fa3 with g1 | ⟨g1, -⟩
      · exact hN2 q (Or.inr (Or.inr (Or.inr (Or.inr (Or.inr (Or.inr ⟨Or.inr (Or.inr (Or.inr (f.trans g1))), f2⟩))))))
      · by_cases hfp : fpG (xG X) g A q
        · exact Or.inl hfp
        · refine Or.inr (Option.eq_none_iff_forall_ne_some.mpr (fun e he => ?_))
          have := (hF2 q e he hfp).1
          rw [f, g1] at this; cases this
  obtain ⟨A3, hA3⟩ : ∃ A9, A9 = va_up A2 (arI 3) ar3 := ⟨_, rfl⟩
  rw [← hA3] at hX3 hF3 hN3
  refine ww_pop C dX3_add_32 rfl ?_
  obtain ⟨AA, hAd⟩ : ∃ f : Nat → Nat, f = (fun i => if i < 9 then A3 i else if i = 100 + Bt B then t else A i) := ⟨_, rfl⟩
  have hAA : ∀ i, i < 9 → AA i = A3 i := fun i hi => by rw [hAd]; exact if_pos hi
  have h200 : ∀ k, AA (200 + k) = A (200 + k) := fun k => by rw [hAd]; show (if _ then _ else _) = _; rw [if_neg (by omega), if_neg (by omega)]
  have h100 : ∀ k, k < Bt B → AA (100 + k) = A (100 + k) := fun k hk => by rw [hAd]; show (if _ then _ else _) = _; rw [if_neg (by omega), if_neg (by omega)]
  have h10t : AA (100 + Bt B) = t := by rw [hAd]; show (if _ then _ else _) = _; rw [if_neg (by omega), if_pos rfl]
  have key := hX3.m (z := z) (B := adB B num) (A' := AA) hAA rfl rfl rfl rfl rfl rfl ?_ ?_ ?_ ?_ ?_
  rotate_left
  · intro k hk
    rcases Nat.lt_or_ge k (Bt B) with q | q
    · rw [h100 k q, adB_n q]; exact hTT k q
    · have e : k = Bt B := by have hk : k < Bt B + 1 := hk; omega
      subst e; rw [h10t, adB_t]; exact hT
  · intro k hk
    show va_up (fun k => A (100 + k)) (Bt B) t k = _
    rcases Nat.lt_or_ge k (Bt B) with q | q
    · rw [h100 k q, va_ne (by omega)]
    · have e : k = Bt B := by have hk : k < Bt B + 1 := hk; omega
      subst e; rw [h10t, va_eq]
  · intro k _
    exact (h200 k).symm
  · intro k hk
    show va_up (fun k => bxA (xG X) (oI (Bp B k))) (Bt B) (bxA (xG X) (-1)) k = bxA (xG X) (oI (va_up (Bp B) (Bt B) none k))
    rcases Nat.lt_or_ge k (Bt B) with q | q
    · rw [va_ne (by omega), va_ne (by omega)]
    · have e : k = Bt B := by have hk : k < Bt B + 1 := hk; omega
      subst e; rw [va_eq, va_eq]; first | done | rfl
  · intro k hk
    show va_up (fun k => bxA (xG X) (nI (Bu B k))) (Bt B) (bxA (xG X) (nI 0)) k = bxA (xG X) (nI (va_up (Bu B) (Bt B) 0 k))
    rcases Nat.lt_or_ge k (Bt B) with q | q
    · rw [va_ne (by omega), va_ne (by omega)]
    · have e : k = Bt B := by have hk : k < Bt B + 1 := hk; omega
      subst e; rw [va_eq, va_eq]; first | done | rfl
  exact ww_vret C dX3_add_33 ⟨rfl, _, _, key.1, key.2, ⟨ck1, rfl, ck2, ck3, rfl⟩, h200, fun q hq => hN3 q (fp_cg hAA hq), fun q e hq nf => ⟨(hF3 q e hq nf).1, fun f => (hF3 q e hq nf).2 (fp_cg hAA f)⟩⟩
end GAME8
