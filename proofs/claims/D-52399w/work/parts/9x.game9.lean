section GAME9
set_option maxRecDepth 100000
theorem nwC_48 {cap n : Nat} (h1 : cap ≤ 32) (h2 : n ≤ 16) : nwC cap n ≤ 48 := by unfold nwC; split <;> omega
theorem nwC_32 {cap n : Nat} (h1 : cap ≤ 32) (h2 : n ≤ 16) : (if cap < n then nwC cap n else cap) ≤ 32 := by
  unfold nwC
  split
  · split <;> omega
  · exact h1
set_option maxHeartbeats 2000000 in
theorem ct_X3_copy {l : Launch} {Γ : Gm} (hl : l.flags = flags0) (hΓ : GOK Γ) {z : ZR} {h : AH} {ah g : Nat} {D A : Nat → Nat} {B2 B : GB} {G2 G : GG} {rn2 dn2 rn dn : Int32} (hz : zle (cst Γ) z) (hM2 : GmM Γ z h ah D B2 G2 rn2 dn2) (hL2 : GmL Γ D G2) (hcp : ∀ i, i < 4 → G2.2.1 i ≤ 32) (hM : GmM Γ z h g A B G rn dn) (hB : BO B) (hno : G.2.2 ≤ 16) (hO : ∀ k, k < G.2.2 → obZ z (A (200 + k))) (hdj : ∀ q, fpG Γ ah D q → ¬ fpG Γ g A q) : Ct l Γ yX3_copy cX3_copy 2 (some (.object "RingDomino$Game")) 9 8 256 [.ref ah, .ref g] z h (Rv (fun v z' h' => v = .ref ah ∧ z' = z ∧ ∃ D' G', GmM Γ z h' ah D' B G' rn dn ∧ GmL Γ D' G' ∧ G'.2.2 = G.2.2 ∧ (∀ i, i < 4 → G'.2.1 i ≤ 32) ∧ (∀ k, D' (200 + k) = A (200 + k)) ∧ (∀ q, fpG Γ ah D' q → fpG Γ ah D q ∨ h q = none) ∧ ∀ q e, h q = some e → ¬ fpG Γ ah D q → h' q = some e ∧ ¬ fpG Γ ah D' q)) := by
  refine Ct.of hl hΓ (by decide +kernel) (Nat.le_of_ble_eq_true rfl) (fun X e1 e2 C => ?_)
  subst e1; subst e2
  have C : Cx X cX3_copy 2 "RingDomino$Game" "copy" (some (.object "RingDomino$Game")) [] 9 := C
  have hX := hM2.x hL2
  have hF : ∀ q e, h q = some e → ¬ fpG (xG X) ah D q → h q = some e ∧ ¬ fpG (xG X) ah D q := fun q e hq nf => ⟨hq, nf⟩
  have hN : ∀ q, fpG (xG X) ah D q → fpG (xG X) ah D q ∨ h q = none := fun q hq => Or.inl hq
  have hTT := hM.2.2.2.1
  have hbt := hB.2.1
  have c0 := hcp 0 (by decide)
  have c1 := hcp 1 (by decide)
  have c2 := hcp 2 (by decide)
  have c3 := hcp 3 (by decide)
  show WW X (Rv (fun v z' h' => v = .ref ah ∧ z' = z ∧ ∃ D' G', GmM (xG X) z h' ah D' B G' rn dn ∧ GmL (xG X) D' G' ∧ G'.2.2 = G.2.2 ∧ (∀ i, i < 4 → G'.2.1 i ≤ 32) ∧ (∀ k, D' (200 + k) = A (200 + k)) ∧ (∀ q, fpG (xG X) ah D' q → fpG (xG X) ah D q ∨ h q = none) ∧ ∀ q e, h q = some e → ¬ fpG (xG X) ah D q → h' q = some e ∧ ¬ fpG (xG X) ah D' q)) z h 8 256 0 [(0, .ref ah), (1, .ref g)] []
  refine ww_ow0 hz (fun ow0 => ?_)
  have hS1 : GmM (xG X) z h g A B G rn dn := hM.ext (fun q e hq fq => (hF q e hq (fun f => hdj q f fq)).1)
  have Hah1 : h ah = some (.inr (2, [.int (nI (Bc B2)), .int (nI (Br B2)), .ref (D 0), .ref (D 2), .int rn2, .int dn2, .ref (D 4), .ref (D 5), .ref (D 7)])) := hX.1
  refine ww_ow0 hz (fun owo2 => ?_)
  refine ww_aload_n C dX3_copy_0 rfl 0 rfl rfl ?_
  refine ww_aload_n C dX3_copy_1 rfl 1 rfl rfl ?_
  refine gf_X3_9_X3 C dX3_copy_2 (Or.inl hS1.1) rfl ?_
  refine pf_X3_9_X3 (fs' := [.int (nI (Bc B)), .int (nI (Br B2)), .ref (D 0), .ref (D 2), .int rn2, .int dn2, .ref (D 4), .ref (D 5), .ref (D 7)]) C dX3_copy_5 Hah1 rfl rfl (Nat.le_of_ble_eq_true rfl) rfl ?_
  refine ww_gen (fun h1 hE1 => ?_)
  have Hah1_h1 : h1 ah = some (.inr (2, [.int (nI (Bc B)), .int (nI (Br B2)), .ref (D 0), .ref (D 2), .int rn2, .int dn2, .ref (D 4), .ref (D 5), .ref (D 7)])) := by rw [hE1]; exact up_s
  have hXw3 := GmX.nm hX owo2 hE1
  have hFw3 : ∀ q e, h q = some e → ¬ fpG (xG X) ah D q → h1 q = some e ∧ ¬ fpG (xG X) ah D q := fun q e hq nf => ⟨by rw [hE1, up_n (fun f => (hF q e hq nf).2 (Or.inl f))]; exact (hF q e hq nf).1, (hF q e hq nf).2⟩
  have hS4 : GmM (xG X) z h1 g A B G rn dn := hM.ext (fun q e hq fq => (hFw3 q e hq (fun f => hdj q f fq)).1)
  have Hah4 : h1 ah = some (.inr (2, [.int (nI (Bc B)), .int (nI (Br B2)), .ref (D 0), .ref (D 2), .int rn2, .int dn2, .ref (D 4), .ref (D 5), .ref (D 7)])) := hXw3.1
  refine ww_ow0 hz (fun owo5 => ?_)
  refine ww_aload_n C dX3_copy_8 rfl 0 rfl rfl ?_
  refine ww_aload_n C dX3_copy_9 rfl 1 rfl rfl ?_
  refine gf_X3_15_X3 C dX3_copy_10 (Or.inl hS4.1) rfl ?_
  refine pf_X3_15_X3 (fs' := [.int (nI (Bc B)), .int (nI (Br B)), .ref (D 0), .ref (D 2), .int rn2, .int dn2, .ref (D 4), .ref (D 5), .ref (D 7)]) C dX3_copy_13 Hah4 rfl rfl (Nat.le_of_ble_eq_true rfl) rfl ?_
  refine ww_gen (fun h2 hE2 => ?_)
  have Hah4_h2 : h2 ah = some (.inr (2, [.int (nI (Bc B)), .int (nI (Br B)), .ref (D 0), .ref (D 2), .int rn2, .int dn2, .ref (D 4), .ref (D 5), .ref (D 7)])) := by rw [hE2]; exact up_s
  have hXw6 := GmX.nm hXw3 owo5 hE2
  have hFw6 : ∀ q e, h q = some e → ¬ fpG (xG X) ah D q → h2 q = some e ∧ ¬ fpG (xG X) ah D q := fun q e hq nf => ⟨by rw [hE2, up_n (fun f => (hFw3 q e hq nf).2 (Or.inl f))]; exact (hFw3 q e hq nf).1, (hFw3 q e hq nf).2⟩
  have hS7 : GmM (xG X) z h2 g A B G rn dn := hM.ext (fun q e hq fq => (hFw6 q e hq (fun f => hdj q f fq)).1)
  have Hah7 : h2 ah = some (.inr (2, [.int (nI (Bc B)), .int (nI (Br B)), .ref (D 0), .ref (D 2), .int rn2, .int dn2, .ref (D 4), .ref (D 5), .ref (D 7)])) := hXw6.1
  refine ww_aload_n C dX3_copy_16 rfl 0 rfl rfl ?_
  refine gf_X3_21_X3 C dX3_copy_17 (Or.inl Hah7) rfl ?_
  refine ww_ow0 hz (fun owc8 => ?_)
  have Lc8 : ALm (xG X) h2 (D 0) (D 1) (Bt B2) (G2.1 0) (G2.2.1 0) (fun k => D (100 + k)) := hXw6.2.2.1 0 (by decide)
  have ec8 : G2.2.1 0 = 0 → D 1 = gE (xG X) 0 := hXw6.2.2.2.2 0 (by decide)
  refine cv_X3_201_q (As := []) (rest := []) C dX3_copy_20 (ct_J2_clear (Cx.fl C) (Cx.ok C) hz Lc8) (rc_J2 (Cx.ok C) (Or.inl Lc8.1)) rfl rfl (Nat.le_of_ble_eq_true rfl) (by decide) (Nat.zero_le _) (Nat.zero_le _) (fun zc8 kc8 qc8 => ?_)
  obtain ⟨hq, lac8, frc8⟩ := qc8; replace hq := hq.symm; subst hq
  obtain ⟨arc8, hrc8⟩ : ∃ x, x = D 1 := ⟨_, rfl⟩
  have fac8 : arc8 = D 1 ∨ (h2 arc8 = none ∧ ∀ e, ¬ z arc8 e) := Or.inl hrc8
  rw [← hrc8] at lac8
  have cac8 : G2.2.1 0 = 0 → arc8 = gE (xG X) 0 := fun q => hrc8.trans (ec8 q)
  have fac8 : arc8 = D 1 ∨ (h2 arc8 = none ∧ arc8 ≠ gE (xG X) 0) := fac8.imp id (fun q => ⟨q.1, fun e => q.2 _ (e ▸ cst_e0 hz)⟩)
  have hXc8 := hXw6.set (i := 0) (by decide) owc8 lac8 fac8 cac8 frc8
  have hFc8 : ∀ q e, h q = some e → ¬ fpG (xG X) ah D q → kc8 q = some e ∧ ¬ fpG (xG X) ah (va_up D (arI 0) arc8) q := fun q e hq nf => by
    obtain ⟨t1, t2⟩ := hFw6 q e hq nf
    refine ⟨frc8 q e t1 (fp_hd (i := 0) (by decide) t2) (fp_ar (i := 0) (by decide) t2 (ow0 q e hq)), fun f => ?_⟩
    rcases fp_up (i := 0) (by decide) f with f | ⟨f, -⟩
    · exact t2 f
    · rcases fac8 with g1 | ⟨g1, -⟩
      · exact fp_ar (i := 0) (by decide) t2 (ow0 q e hq) (f.trans g1)
      · rw [f, g1] at t1; cases t1
  have hNc8 : ∀ q, fpG (xG X) ah (va_up D (arI 0) arc8) q → fpG (xG X) ah D q ∨ h q = none := fun q hq => by
    rcases fp_up (i := 0) (by decide) hq with f | ⟨f, f2⟩
    · exact hN q f
    · rcases fac8 with g1 | ⟨g1, -⟩
      · exact hN q (Or.inr (Or.inr (Or.inr (Or.inr (Or.inr (Or.inr ⟨Or.inl (f.trans g1), f2⟩))))))
      · by_cases hfp : fpG (xG X) ah D q
        · exact Or.inl hfp
        · refine Or.inr (Option.eq_none_iff_forall_ne_some.mpr (fun e he => ?_))
          have := (hFw6 q e he hfp).1
          rw [f, g1] at this; cases this
  obtain ⟨Ac8, hAc8⟩ : ∃ A9, A9 = va_up D (arI 0) arc8 := ⟨_, rfl⟩
  rw [← hAc8] at hXc8 hFc8 hNc8
  have hS9 : GmM (xG X) z kc8 g A B G rn dn := hM.ext (fun q e hq fq => (hFc8 q e hq (fun f => hdj q f fq)).1)
  have Hah9 : kc8 ah = some (.inr (2, [.int (nI (Bc B)), .int (nI (Br B)), .ref (Ac8 0), .ref (Ac8 2), .int rn2, .int dn2, .ref (Ac8 4), .ref (Ac8 5), .ref (Ac8 7)])) := hXc8.1
  refine ww_aload_n C dX3_copy_23 rfl 0 rfl rfl ?_
  refine gf_X3_21_X3 C dX3_copy_24 (Or.inl Hah9) rfl ?_
  refine ww_aload_n C dX3_copy_27 rfl 1 rfl rfl ?_
  refine gf_X3_21_X3 C dX3_copy_28 (Or.inl hS9.1) rfl ?_
  refine ww_ow0 hz (fun owa10 => ?_)
  have La10 : ALm (xG X) kc8 (Ac8 0) (Ac8 1) 0 ((G2.1 0) + nI 1) (G2.2.1 0) (fun k => D (100 + k)) := hXc8.2.2.1 0 (by decide)
  have ea10 : G2.2.1 0 = 0 → Ac8 1 = gE (xG X) 0 := hXc8.2.2.2.2 0 (by decide)
  have nwa10 : nwC (G2.2.1 0) (Bt B) ≤ 48 := nwC_48 (by omega) (by omega)
  refine cv_X3_204_q (As := [.ref (A 0)]) (rest := []) C dX3_copy_31 (ct_J2_addAll (Cx.fl C) (Cx.ok C) (n := Bt B) (xs := fun k => A (100 + k)) hz La10 ea10 (by omega) hS9.2.2.1 (by omega) (fun i hi => til_ob (hTT i hi))) (rc_J2 (Cx.ok C) (Or.inl La10.1)) rfl rfl (Nat.le_of_ble_eq_true rfl) (by decide) (by omega) (by omega) (fun va10 za10 ka10 qa10 => ?_)
  obtain ⟨⟨xa10, rfl⟩, hq, ara10, cpa10, laa10, faa10, caa10, cka10, fra10⟩ := qa10; replace hq := hq.symm; subst hq
  refine ww_le (kc' := 6) (ns' := 192) (by omega) (by omega) ?_
  have cba10 : cpa10 ≤ 32 := by rw [cka10]; exact nwC_32 (by omega) (by omega)
  have faa10 : ara10 = Ac8 1 ∨ (kc8 ara10 = none ∧ ara10 ≠ gE (xG X) 0) := faa10.imp id (fun q => ⟨q.1, fun e => q.2 _ (e ▸ cst_e0 hz)⟩)
  have hXa10 := hXc8.set (i := 0) (by decide) owa10 laa10 faa10 caa10 fra10
  have hFa10 : ∀ q e, h q = some e → ¬ fpG (xG X) ah D q → ka10 q = some e ∧ ¬ fpG (xG X) ah (va_up Ac8 (arI 0) ara10) q := fun q e hq nf => by
    obtain ⟨t1, t2⟩ := hFc8 q e hq nf
    refine ⟨fra10 q e t1 (fp_hd (i := 0) (by decide) t2) (fp_ar (i := 0) (by decide) t2 (ow0 q e hq)), fun f => ?_⟩
    rcases fp_up (i := 0) (by decide) f with f | ⟨f, -⟩
    · exact t2 f
    · rcases faa10 with g1 | ⟨g1, -⟩
      · exact fp_ar (i := 0) (by decide) t2 (ow0 q e hq) (f.trans g1)
      · rw [f, g1] at t1; cases t1
  have hNa10 : ∀ q, fpG (xG X) ah (va_up Ac8 (arI 0) ara10) q → fpG (xG X) ah D q ∨ h q = none := fun q hq => by
    rcases fp_up (i := 0) (by decide) hq with f | ⟨f, f2⟩
    · exact hNc8 q f
    · rcases faa10 with g1 | ⟨g1, -⟩
      · exact hNc8 q (Or.inr (Or.inr (Or.inr (Or.inr (Or.inr (Or.inr ⟨Or.inl (f.trans g1), f2⟩))))))
      · by_cases hfp : fpG (xG X) ah D q
        · exact Or.inl hfp
        · refine Or.inr (Option.eq_none_iff_forall_ne_some.mpr (fun e he => ?_))
          have := (hFc8 q e he hfp).1
          rw [f, g1] at this; cases this
  obtain ⟨Aa10, hAa10⟩ : ∃ A9, A9 = va_up Ac8 (arI 0) ara10 := ⟨_, rfl⟩
  rw [← hAa10] at hXa10 hFa10 hNa10
  have hS11 : GmM (xG X) z ka10 g A B G rn dn := hM.ext (fun q e hq fq => (hFa10 q e hq (fun f => hdj q f fq)).1)
  have Hah11 : ka10 ah = some (.inr (2, [.int (nI (Bc B)), .int (nI (Br B)), .ref (Aa10 0), .ref (Aa10 2), .int rn2, .int dn2, .ref (Aa10 4), .ref (Aa10 5), .ref (Aa10 7)])) := hXa10.1
  refine ww_pop C dX3_copy_34 rfl ?_
  refine ww_aload_n C dX3_copy_35 rfl 0 rfl rfl ?_
  refine gf_X3_25_X3 C dX3_copy_36 (Or.inl Hah11) rfl ?_
  refine ww_ow0 hz (fun owc12 => ?_)
  have Lc12 : ALm (xG X) ka10 (Aa10 2) (Aa10 3) G2.2.2 (G2.1 1) (G2.2.1 1) (fun k => D (200 + k)) := hXa10.2.2.1 1 (by decide)
  have ec12 : G2.2.1 1 = 0 → Aa10 3 = gE (xG X) 0 := hXa10.2.2.2.2 1 (by decide)
  refine cv_X3_201_q (As := []) (rest := []) C dX3_copy_39 (ct_J2_clear (Cx.fl C) (Cx.ok C) hz Lc12) (rc_J2 (Cx.ok C) (Or.inl Lc12.1)) rfl rfl (Nat.le_of_ble_eq_true rfl) (by decide) (Nat.zero_le _) (Nat.zero_le _) (fun zc12 kc12 qc12 => ?_)
  obtain ⟨hq, lac12, frc12⟩ := qc12; replace hq := hq.symm; subst hq
  obtain ⟨arc12, hrc12⟩ : ∃ x, x = Aa10 3 := ⟨_, rfl⟩
  have fac12 : arc12 = Aa10 3 ∨ (ka10 arc12 = none ∧ ∀ e, ¬ z arc12 e) := Or.inl hrc12
  rw [← hrc12] at lac12
  have cac12 : G2.2.1 1 = 0 → arc12 = gE (xG X) 0 := fun q => hrc12.trans (ec12 q)
  have fac12 : arc12 = Aa10 3 ∨ (ka10 arc12 = none ∧ arc12 ≠ gE (xG X) 0) := fac12.imp id (fun q => ⟨q.1, fun e => q.2 _ (e ▸ cst_e0 hz)⟩)
  have hXc12 := hXa10.set (i := 1) (by decide) owc12 lac12 fac12 cac12 frc12
  have hFc12 : ∀ q e, h q = some e → ¬ fpG (xG X) ah D q → kc12 q = some e ∧ ¬ fpG (xG X) ah (va_up Aa10 (arI 1) arc12) q := fun q e hq nf => by
    obtain ⟨t1, t2⟩ := hFa10 q e hq nf
    refine ⟨frc12 q e t1 (fp_hd (i := 1) (by decide) t2) (fp_ar (i := 1) (by decide) t2 (ow0 q e hq)), fun f => ?_⟩
    rcases fp_up (i := 1) (by decide) f with f | ⟨f, -⟩
    · exact t2 f
    · rcases fac12 with g1 | ⟨g1, -⟩
      · exact fp_ar (i := 1) (by decide) t2 (ow0 q e hq) (f.trans g1)
      · rw [f, g1] at t1; cases t1
  have hNc12 : ∀ q, fpG (xG X) ah (va_up Aa10 (arI 1) arc12) q → fpG (xG X) ah D q ∨ h q = none := fun q hq => by
    rcases fp_up (i := 1) (by decide) hq with f | ⟨f, f2⟩
    · exact hNa10 q f
    · rcases fac12 with g1 | ⟨g1, -⟩
      · exact hNa10 q (Or.inr (Or.inr (Or.inr (Or.inr (Or.inr (Or.inr ⟨Or.inr (Or.inl (f.trans g1)), f2⟩))))))
      · by_cases hfp : fpG (xG X) ah D q
        · exact Or.inl hfp
        · refine Or.inr (Option.eq_none_iff_forall_ne_some.mpr (fun e he => ?_))
          have := (hFa10 q e he hfp).1
          rw [f, g1] at this; cases this
  obtain ⟨Ac12, hAc12⟩ : ∃ A9, A9 = va_up Aa10 (arI 1) arc12 := ⟨_, rfl⟩
  rw [← hAc12] at hXc12 hFc12 hNc12
  have hS13 : GmM (xG X) z kc12 g A B G rn dn := hM.ext (fun q e hq fq => (hFc12 q e hq (fun f => hdj q f fq)).1)
  have Hah13 : kc12 ah = some (.inr (2, [.int (nI (Bc B)), .int (nI (Br B)), .ref (Ac12 0), .ref (Ac12 2), .int rn2, .int dn2, .ref (Ac12 4), .ref (Ac12 5), .ref (Ac12 7)])) := hXc12.1
  refine ww_aload_n C dX3_copy_42 rfl 0 rfl rfl ?_
  refine gf_X3_25_X3 C dX3_copy_43 (Or.inl Hah13) rfl ?_
  refine ww_aload_n C dX3_copy_46 rfl 1 rfl rfl ?_
  refine gf_X3_25_X3 C dX3_copy_47 (Or.inl hS13.1) rfl ?_
  refine ww_ow0 hz (fun owa14 => ?_)
  have La14 : ALm (xG X) kc12 (Ac12 2) (Ac12 3) 0 ((G2.1 1) + nI 1) (G2.2.1 1) (fun k => D (200 + k)) := hXc12.2.2.1 1 (by decide)
  have ea14 : G2.2.1 1 = 0 → Ac12 3 = gE (xG X) 0 := hXc12.2.2.2.2 1 (by decide)
  have nwa14 : nwC (G2.2.1 1) G.2.2 ≤ 48 := nwC_48 (by omega) (by omega)
  refine cv_X3_204_q (As := [.ref (A 2)]) (rest := []) C dX3_copy_50 (ct_J2_addAll (Cx.fl C) (Cx.ok C) (n := G.2.2) (xs := fun k => A (200 + k)) hz La14 ea14 (by omega) hS13.2.2.2.2.1 (by omega) hO) (rc_J2 (Cx.ok C) (Or.inl La14.1)) rfl rfl (Nat.le_of_ble_eq_true rfl) (by decide) (by omega) (by omega) (fun va14 za14 ka14 qa14 => ?_)
  obtain ⟨⟨xa14, rfl⟩, hq, ara14, cpa14, laa14, faa14, caa14, cka14, fra14⟩ := qa14; replace hq := hq.symm; subst hq
  refine ww_le (kc' := 4) (ns' := 128) (by omega) (by omega) ?_
  have cba14 : cpa14 ≤ 32 := by rw [cka14]; exact nwC_32 (by omega) (by omega)
  have faa14 : ara14 = Ac12 3 ∨ (kc12 ara14 = none ∧ ara14 ≠ gE (xG X) 0) := faa14.imp id (fun q => ⟨q.1, fun e => q.2 _ (e ▸ cst_e0 hz)⟩)
  have hXa14 := hXc12.set (i := 1) (by decide) owa14 laa14 faa14 caa14 fra14
  have hFa14 : ∀ q e, h q = some e → ¬ fpG (xG X) ah D q → ka14 q = some e ∧ ¬ fpG (xG X) ah (va_up Ac12 (arI 1) ara14) q := fun q e hq nf => by
    obtain ⟨t1, t2⟩ := hFc12 q e hq nf
    refine ⟨fra14 q e t1 (fp_hd (i := 1) (by decide) t2) (fp_ar (i := 1) (by decide) t2 (ow0 q e hq)), fun f => ?_⟩
    rcases fp_up (i := 1) (by decide) f with f | ⟨f, -⟩
    · exact t2 f
    · rcases faa14 with g1 | ⟨g1, -⟩
      · exact fp_ar (i := 1) (by decide) t2 (ow0 q e hq) (f.trans g1)
      · rw [f, g1] at t1; cases t1
  have hNa14 : ∀ q, fpG (xG X) ah (va_up Ac12 (arI 1) ara14) q → fpG (xG X) ah D q ∨ h q = none := fun q hq => by
    rcases fp_up (i := 1) (by decide) hq with f | ⟨f, f2⟩
    · exact hNc12 q f
    · rcases faa14 with g1 | ⟨g1, -⟩
      · exact hNc12 q (Or.inr (Or.inr (Or.inr (Or.inr (Or.inr (Or.inr ⟨Or.inr (Or.inl (f.trans g1)), f2⟩))))))
      · by_cases hfp : fpG (xG X) ah D q
        · exact Or.inl hfp
        · refine Or.inr (Option.eq_none_iff_forall_ne_some.mpr (fun e he => ?_))
          have := (hFc12 q e he hfp).1
          rw [f, g1] at this; cases this
  obtain ⟨Aa14, hAa14⟩ : ∃ A9, A9 = va_up Ac12 (arI 1) ara14 := ⟨_, rfl⟩
  rw [← hAa14] at hXa14 hFa14 hNa14
  have hS15 : GmM (xG X) z ka14 g A B G rn dn := hM.ext (fun q e hq fq => (hFa14 q e hq (fun f => hdj q f fq)).1)
  have Hah15 : ka14 ah = some (.inr (2, [.int (nI (Bc B)), .int (nI (Br B)), .ref (Aa14 0), .ref (Aa14 2), .int rn2, .int dn2, .ref (Aa14 4), .ref (Aa14 5), .ref (Aa14 7)])) := hXa14.1
  refine ww_ow0 hz (fun owo16 => ?_)
  refine ww_pop C dX3_copy_53 rfl ?_
  refine ww_aload_n C dX3_copy_54 rfl 0 rfl rfl ?_
  refine ww_aload_n C dX3_copy_55 rfl 1 rfl rfl ?_
  refine gf_X3_177_X3 C dX3_copy_56 (Or.inl hS15.1) rfl ?_
  refine pf_X3_177_X3 (fs' := [.int (nI (Bc B)), .int (nI (Br B)), .ref (Aa14 0), .ref (Aa14 2), .int rn, .int dn2, .ref (Aa14 4), .ref (Aa14 5), .ref (Aa14 7)]) C dX3_copy_59 Hah15 rfl rfl (Nat.le_of_ble_eq_true rfl) rfl ?_
  refine ww_gen (fun h3 hE3 => ?_)
  have Hah15_h3 : h3 ah = some (.inr (2, [.int (nI (Bc B)), .int (nI (Br B)), .ref (Aa14 0), .ref (Aa14 2), .int rn, .int dn2, .ref (Aa14 4), .ref (Aa14 5), .ref (Aa14 7)])) := by rw [hE3]; exact up_s
  have hXw17 := GmX.nm hXa14 owo16 hE3
  have hFw17 : ∀ q e, h q = some e → ¬ fpG (xG X) ah D q → h3 q = some e ∧ ¬ fpG (xG X) ah Aa14 q := fun q e hq nf => ⟨by rw [hE3, up_n (fun f => (hFa14 q e hq nf).2 (Or.inl f))]; exact (hFa14 q e hq nf).1, (hFa14 q e hq nf).2⟩
  have hS18 : GmM (xG X) z h3 g A B G rn dn := hM.ext (fun q e hq fq => (hFw17 q e hq (fun f => hdj q f fq)).1)
  have Hah18 : h3 ah = some (.inr (2, [.int (nI (Bc B)), .int (nI (Br B)), .ref (Aa14 0), .ref (Aa14 2), .int rn, .int dn2, .ref (Aa14 4), .ref (Aa14 5), .ref (Aa14 7)])) := hXw17.1
  refine ww_ow0 hz (fun owo19 => ?_)
  refine ww_aload_n C dX3_copy_62 rfl 0 rfl rfl ?_
  refine ww_aload_n C dX3_copy_63 rfl 1 rfl rfl ?_
  refine gf_X3_174_X3 C dX3_copy_64 (Or.inl hS18.1) rfl ?_
  refine pf_X3_174_X3 (fs' := [.int (nI (Bc B)), .int (nI (Br B)), .ref (Aa14 0), .ref (Aa14 2), .int rn, .int dn, .ref (Aa14 4), .ref (Aa14 5), .ref (Aa14 7)]) C dX3_copy_67 Hah18 rfl rfl (Nat.le_of_ble_eq_true rfl) rfl ?_
  refine ww_gen (fun h4 hE4 => ?_)
  have Hah18_h4 : h4 ah = some (.inr (2, [.int (nI (Bc B)), .int (nI (Br B)), .ref (Aa14 0), .ref (Aa14 2), .int rn, .int dn, .ref (Aa14 4), .ref (Aa14 5), .ref (Aa14 7)])) := by rw [hE4]; exact up_s
  have hXw20 := GmX.nm hXw17 owo19 hE4
  have hFw20 : ∀ q e, h q = some e → ¬ fpG (xG X) ah D q → h4 q = some e ∧ ¬ fpG (xG X) ah Aa14 q := fun q e hq nf => ⟨by rw [hE4, up_n (fun f => (hFw17 q e hq nf).2 (Or.inl f))]; exact (hFw17 q e hq nf).1, (hFw17 q e hq nf).2⟩
  have hS21 : GmM (xG X) z h4 g A B G rn dn := hM.ext (fun q e hq fq => (hFw20 q e hq (fun f => hdj q f fq)).1)
  have Hah21 : h4 ah = some (.inr (2, [.int (nI (Bc B)), .int (nI (Br B)), .ref (Aa14 0), .ref (Aa14 2), .int rn, .int dn, .ref (Aa14 4), .ref (Aa14 5), .ref (Aa14 7)])) := hXw20.1
  refine ww_ow0 hz (fun owo22 => ?_)
  have H4 : h4 (A 4) = some (.inl (gA (xG X) 0, (49, .inl (fun x => nI (Bl B x))))) := hS21.2.1
  have H5 : h4 (Aa14 4) = some (.inl (gA (xG X) 0, (49, .inl (fun x => nI (Bl B2 x))))) := hXw20.2.1
  have n45 : A 4 ≠ Aa14 4 := fun e => absurd (hNa14 _ (Or.inr (Or.inr (Or.inr (Or.inl rfl))))) (fun q => q.elim (fun f => hdj _ f (Or.inr (Or.inr (Or.inr (Or.inl e.symm))))) (fun f => by rw [← e, hM.2.1] at f; cases f))
  refine ww_aload_n C dX3_copy_70 rfl 1 rfl rfl ?_
  refine gf_X3_28_X3 C dX3_copy_71 (Or.inl hS21.1) rfl ?_
  refine ww_iconst C dX3_copy_74 cI_0 ?_
  refine ww_aload_n C dX3_copy_75 rfl 0 rfl rfl ?_
  refine gf_X3_28_X3 C dX3_copy_76 (Or.inl Hah21) rfl ?_
  refine ww_iconst C dX3_copy_79 cI_0 ?_
  refine ww_aload_n C dX3_copy_80 rfl 0 rfl rfl ?_
  refine gf_X3_28_X3 C dX3_copy_81 (Or.inl Hah21) rfl ?_
  refine ww_alen (t := 0) C dX3_copy_84 (by decide) (Or.inl H5) ?_
  refine ww_copyi (t := 0) (n := 49) (sp := 0) (dp := 0) (n0 := 49) (n1 := 49) C q2110 q429 q428 q126 dX3_copy_85 (by decide) (by decide +kernel) H4 H5 (by omega) (by omega) (by omega) (by omega) (fun _ _ => rfl) (by omega) (Nat.le_of_ble_eq_true rfl) ?_
  refine ww_gen (fun h5 hE5 => ?_)
  have Hah21_h5 : h5 ah = some (.inr (2, [.int (nI (Bc B)), .int (nI (Br B)), .ref (Aa14 0), .ref (Aa14 2), .int rn, .int dn, .ref (Aa14 4), .ref (Aa14 5), .ref (Aa14 7)])) := by rw [hE5, up_n (ne_ob Hah21 H5 (by simp))]; exact Hah21
  have H4_h5 : h5 (A 4) = some (.inl (gA (xG X) 0, (49, .inl (fun x => nI (Bl B x))))) := by rw [hE5, up_n n45]; exact H4
  have H5_h5 : h5 (Aa14 4) = some (.inl (gA (xG X) 0, (49, .inl (va_cpy (fun x => nI (Bl B x)) (fun x => nI (Bl B2 x)) 0 0 49)))) := by rw [hE5]; exact up_s
  refine ww_extI (t := 0) (g := fun x => nI (Bl B x)) H5_h5 (fun i hi => ?_) ?_
  · simp only [va_cpy]; rw [if_pos (by omega)]; congr 2; omega
  refine ww_gen (fun k44 hk44 => ?_)
  rw [hE5, up_up] at hk44
  have hX44 := hXw20.ce owo22 hk44
  have hF44 : ∀ q e, h q = some e → ¬ fpG (xG X) ah D q → k44 q = some e ∧ ¬ fpG (xG X) ah Aa14 q := fun q e hq nf => ⟨by rw [hk44, up_n (fun f => (hFw20 q e hq nf).2 (Or.inr (Or.inr (Or.inr (Or.inl f)))))]; exact (hFw20 q e hq nf).1, (hFw20 q e hq nf).2⟩
  have hS23 : GmM (xG X) z k44 g A B G rn dn := hM.ext (fun q e hq fq => (hF44 q e hq (fun f => hdj q f fq)).1)
  have Hah23 : k44 ah = some (.inr (2, [.int (nI (Bc B)), .int (nI (Br B)), .ref (Aa14 0), .ref (Aa14 2), .int rn, .int dn, .ref (Aa14 4), .ref (Aa14 5), .ref (Aa14 7)])) := hX44.1
  refine ww_aload_n C dX3_copy_88 rfl 0 rfl rfl ?_
  refine gf_X3_32_X3 C dX3_copy_89 (Or.inl Hah23) rfl ?_
  refine ww_ow0 hz (fun owc24 => ?_)
  have Lc24 : ALm (xG X) k44 (Aa14 5) (Aa14 6) (Bt B2) (G2.1 2) (G2.2.1 2) (fun k => bxA (xG X) (oI (Bp B2 k))) := hX44.2.2.1 2 (by decide)
  have ec24 : G2.2.1 2 = 0 → Aa14 6 = gE (xG X) 0 := hX44.2.2.2.2 2 (by decide)
  refine cv_X3_201_q (As := []) (rest := []) C dX3_copy_92 (ct_J2_clear (Cx.fl C) (Cx.ok C) hz Lc24) (rc_J2 (Cx.ok C) (Or.inl Lc24.1)) rfl rfl (Nat.le_of_ble_eq_true rfl) (by decide) (Nat.zero_le _) (Nat.zero_le _) (fun zc24 kc24 qc24 => ?_)
  obtain ⟨hq, lac24, frc24⟩ := qc24; replace hq := hq.symm; subst hq
  obtain ⟨arc24, hrc24⟩ : ∃ x, x = Aa14 6 := ⟨_, rfl⟩
  have fac24 : arc24 = Aa14 6 ∨ (k44 arc24 = none ∧ ∀ e, ¬ z arc24 e) := Or.inl hrc24
  rw [← hrc24] at lac24
  have cac24 : G2.2.1 2 = 0 → arc24 = gE (xG X) 0 := fun q => hrc24.trans (ec24 q)
  have fac24 : arc24 = Aa14 6 ∨ (k44 arc24 = none ∧ arc24 ≠ gE (xG X) 0) := fac24.imp id (fun q => ⟨q.1, fun e => q.2 _ (e ▸ cst_e0 hz)⟩)
  have hXc24 := hX44.set (i := 2) (by decide) owc24 lac24 fac24 cac24 frc24
  have hFc24 : ∀ q e, h q = some e → ¬ fpG (xG X) ah D q → kc24 q = some e ∧ ¬ fpG (xG X) ah (va_up Aa14 (arI 2) arc24) q := fun q e hq nf => by
    obtain ⟨t1, t2⟩ := hF44 q e hq nf
    refine ⟨frc24 q e t1 (fp_hd (i := 2) (by decide) t2) (fp_ar (i := 2) (by decide) t2 (ow0 q e hq)), fun f => ?_⟩
    rcases fp_up (i := 2) (by decide) f with f | ⟨f, -⟩
    · exact t2 f
    · rcases fac24 with g1 | ⟨g1, -⟩
      · exact fp_ar (i := 2) (by decide) t2 (ow0 q e hq) (f.trans g1)
      · rw [f, g1] at t1; cases t1
  have hNc24 : ∀ q, fpG (xG X) ah (va_up Aa14 (arI 2) arc24) q → fpG (xG X) ah D q ∨ h q = none := fun q hq => by
    rcases fp_up (i := 2) (by decide) hq with f | ⟨f, f2⟩
    · exact hNa14 q f
    · rcases fac24 with g1 | ⟨g1, -⟩
      · exact hNa14 q (Or.inr (Or.inr (Or.inr (Or.inr (Or.inr (Or.inr ⟨Or.inr (Or.inr (Or.inl (f.trans g1))), f2⟩))))))
      · by_cases hfp : fpG (xG X) ah D q
        · exact Or.inl hfp
        · refine Or.inr (Option.eq_none_iff_forall_ne_some.mpr (fun e he => ?_))
          have := (hF44 q e he hfp).1
          rw [f, g1] at this; cases this
  obtain ⟨Ac24, hAc24⟩ : ∃ A9, A9 = va_up Aa14 (arI 2) arc24 := ⟨_, rfl⟩
  rw [← hAc24] at hXc24 hFc24 hNc24
  have hS25 : GmM (xG X) z kc24 g A B G rn dn := hM.ext (fun q e hq fq => (hFc24 q e hq (fun f => hdj q f fq)).1)
  have Hah25 : kc24 ah = some (.inr (2, [.int (nI (Bc B)), .int (nI (Br B)), .ref (Ac24 0), .ref (Ac24 2), .int rn, .int dn, .ref (Ac24 4), .ref (Ac24 5), .ref (Ac24 7)])) := hXc24.1
  refine ww_aload_n C dX3_copy_95 rfl 0 rfl rfl ?_
  refine gf_X3_32_X3 C dX3_copy_96 (Or.inl Hah25) rfl ?_
  refine ww_aload_n C dX3_copy_99 rfl 1 rfl rfl ?_
  refine gf_X3_32_X3 C dX3_copy_100 (Or.inl hS25.1) rfl ?_
  refine ww_ow0 hz (fun owa26 => ?_)
  have La26 : ALm (xG X) kc24 (Ac24 5) (Ac24 6) 0 ((G2.1 2) + nI 1) (G2.2.1 2) (fun k => bxA (xG X) (oI (Bp B2 k))) := hXc24.2.2.1 2 (by decide)
  have ea26 : G2.2.1 2 = 0 → Ac24 6 = gE (xG X) 0 := hXc24.2.2.2.2 2 (by decide)
  have nwa26 : nwC (G2.2.1 2) (Bt B) ≤ 48 := nwC_48 (by omega) (by omega)
  refine cv_X3_204_q (As := [.ref (A 5)]) (rest := []) C dX3_copy_103 (ct_J2_addAll (Cx.fl C) (Cx.ok C) (n := Bt B) (xs := fun k => bxA (xG X) (oI (Bp B k))) hz La26 ea26 (by omega) hS25.2.2.2.2.2.1 (by omega) (fun i hi => bx_ob hz (oI_rng (hB.2.2.2.2.1 i)))) (rc_J2 (Cx.ok C) (Or.inl La26.1)) rfl rfl (Nat.le_of_ble_eq_true rfl) (by decide) (by omega) (by omega) (fun va26 za26 ka26 qa26 => ?_)
  obtain ⟨⟨xa26, rfl⟩, hq, ara26, cpa26, laa26, faa26, caa26, cka26, fra26⟩ := qa26; replace hq := hq.symm; subst hq
  refine ww_le (kc' := 2) (ns' := 64) (by omega) (by omega) ?_
  have cba26 : cpa26 ≤ 32 := by rw [cka26]; exact nwC_32 (by omega) (by omega)
  have faa26 : ara26 = Ac24 6 ∨ (kc24 ara26 = none ∧ ara26 ≠ gE (xG X) 0) := faa26.imp id (fun q => ⟨q.1, fun e => q.2 _ (e ▸ cst_e0 hz)⟩)
  have hXa26 := hXc24.set (i := 2) (by decide) owa26 laa26 faa26 caa26 fra26
  have hFa26 : ∀ q e, h q = some e → ¬ fpG (xG X) ah D q → ka26 q = some e ∧ ¬ fpG (xG X) ah (va_up Ac24 (arI 2) ara26) q := fun q e hq nf => by
    obtain ⟨t1, t2⟩ := hFc24 q e hq nf
    refine ⟨fra26 q e t1 (fp_hd (i := 2) (by decide) t2) (fp_ar (i := 2) (by decide) t2 (ow0 q e hq)), fun f => ?_⟩
    rcases fp_up (i := 2) (by decide) f with f | ⟨f, -⟩
    · exact t2 f
    · rcases faa26 with g1 | ⟨g1, -⟩
      · exact fp_ar (i := 2) (by decide) t2 (ow0 q e hq) (f.trans g1)
      · rw [f, g1] at t1; cases t1
  have hNa26 : ∀ q, fpG (xG X) ah (va_up Ac24 (arI 2) ara26) q → fpG (xG X) ah D q ∨ h q = none := fun q hq => by
    rcases fp_up (i := 2) (by decide) hq with f | ⟨f, f2⟩
    · exact hNc24 q f
    · rcases faa26 with g1 | ⟨g1, -⟩
      · exact hNc24 q (Or.inr (Or.inr (Or.inr (Or.inr (Or.inr (Or.inr ⟨Or.inr (Or.inr (Or.inl (f.trans g1))), f2⟩))))))
      · by_cases hfp : fpG (xG X) ah D q
        · exact Or.inl hfp
        · refine Or.inr (Option.eq_none_iff_forall_ne_some.mpr (fun e he => ?_))
          have := (hFc24 q e he hfp).1
          rw [f, g1] at this; cases this
  obtain ⟨Aa26, hAa26⟩ : ∃ A9, A9 = va_up Ac24 (arI 2) ara26 := ⟨_, rfl⟩
  rw [← hAa26] at hXa26 hFa26 hNa26
  have hS27 : GmM (xG X) z ka26 g A B G rn dn := hM.ext (fun q e hq fq => (hFa26 q e hq (fun f => hdj q f fq)).1)
  have Hah27 : ka26 ah = some (.inr (2, [.int (nI (Bc B)), .int (nI (Br B)), .ref (Aa26 0), .ref (Aa26 2), .int rn, .int dn, .ref (Aa26 4), .ref (Aa26 5), .ref (Aa26 7)])) := hXa26.1
  refine ww_pop C dX3_copy_106 rfl ?_
  refine ww_aload_n C dX3_copy_107 rfl 0 rfl rfl ?_
  refine gf_X3_35_X3 C dX3_copy_108 (Or.inl Hah27) rfl ?_
  refine ww_ow0 hz (fun owc28 => ?_)
  have Lc28 : ALm (xG X) ka26 (Aa26 7) (Aa26 8) (Bt B2) (G2.1 3) (G2.2.1 3) (fun k => bxA (xG X) (nI (Bu B2 k))) := hXa26.2.2.1 3 (by decide)
  have ec28 : G2.2.1 3 = 0 → Aa26 8 = gE (xG X) 0 := hXa26.2.2.2.2 3 (by decide)
  refine cv_X3_201_q (As := []) (rest := []) C dX3_copy_111 (ct_J2_clear (Cx.fl C) (Cx.ok C) hz Lc28) (rc_J2 (Cx.ok C) (Or.inl Lc28.1)) rfl rfl (Nat.le_of_ble_eq_true rfl) (by decide) (Nat.zero_le _) (Nat.zero_le _) (fun zc28 kc28 qc28 => ?_)
  obtain ⟨hq, lac28, frc28⟩ := qc28; replace hq := hq.symm; subst hq
  obtain ⟨arc28, hrc28⟩ : ∃ x, x = Aa26 8 := ⟨_, rfl⟩
  have fac28 : arc28 = Aa26 8 ∨ (ka26 arc28 = none ∧ ∀ e, ¬ z arc28 e) := Or.inl hrc28
  rw [← hrc28] at lac28
  have cac28 : G2.2.1 3 = 0 → arc28 = gE (xG X) 0 := fun q => hrc28.trans (ec28 q)
  have fac28 : arc28 = Aa26 8 ∨ (ka26 arc28 = none ∧ arc28 ≠ gE (xG X) 0) := fac28.imp id (fun q => ⟨q.1, fun e => q.2 _ (e ▸ cst_e0 hz)⟩)
  have hXc28 := hXa26.set (i := 3) (by decide) owc28 lac28 fac28 cac28 frc28
  have hFc28 : ∀ q e, h q = some e → ¬ fpG (xG X) ah D q → kc28 q = some e ∧ ¬ fpG (xG X) ah (va_up Aa26 (arI 3) arc28) q := fun q e hq nf => by
    obtain ⟨t1, t2⟩ := hFa26 q e hq nf
    refine ⟨frc28 q e t1 (fp_hd (i := 3) (by decide) t2) (fp_ar (i := 3) (by decide) t2 (ow0 q e hq)), fun f => ?_⟩
    rcases fp_up (i := 3) (by decide) f with f | ⟨f, -⟩
    · exact t2 f
    · rcases fac28 with g1 | ⟨g1, -⟩
      · exact fp_ar (i := 3) (by decide) t2 (ow0 q e hq) (f.trans g1)
      · rw [f, g1] at t1; cases t1
  have hNc28 : ∀ q, fpG (xG X) ah (va_up Aa26 (arI 3) arc28) q → fpG (xG X) ah D q ∨ h q = none := fun q hq => by
    rcases fp_up (i := 3) (by decide) hq with f | ⟨f, f2⟩
    · exact hNa26 q f
    · rcases fac28 with g1 | ⟨g1, -⟩
      · exact hNa26 q (Or.inr (Or.inr (Or.inr (Or.inr (Or.inr (Or.inr ⟨Or.inr (Or.inr (Or.inr (f.trans g1))), f2⟩))))))
      · by_cases hfp : fpG (xG X) ah D q
        · exact Or.inl hfp
        · refine Or.inr (Option.eq_none_iff_forall_ne_some.mpr (fun e he => ?_))
          have := (hFa26 q e he hfp).1
          rw [f, g1] at this; cases this
  obtain ⟨Ac28, hAc28⟩ : ∃ A9, A9 = va_up Aa26 (arI 3) arc28 := ⟨_, rfl⟩
  rw [← hAc28] at hXc28 hFc28 hNc28
  have hS29 : GmM (xG X) z kc28 g A B G rn dn := hM.ext (fun q e hq fq => (hFc28 q e hq (fun f => hdj q f fq)).1)
  have Hah29 : kc28 ah = some (.inr (2, [.int (nI (Bc B)), .int (nI (Br B)), .ref (Ac28 0), .ref (Ac28 2), .int rn, .int dn, .ref (Ac28 4), .ref (Ac28 5), .ref (Ac28 7)])) := hXc28.1
  refine ww_aload_n C dX3_copy_114 rfl 0 rfl rfl ?_
  refine gf_X3_35_X3 C dX3_copy_115 (Or.inl Hah29) rfl ?_
  refine ww_aload_n C dX3_copy_118 rfl 1 rfl rfl ?_
  refine gf_X3_35_X3 C dX3_copy_119 (Or.inl hS29.1) rfl ?_
  refine ww_ow0 hz (fun owa30 => ?_)
  have La30 : ALm (xG X) kc28 (Ac28 7) (Ac28 8) 0 ((G2.1 3) + nI 1) (G2.2.1 3) (fun k => bxA (xG X) (nI (Bu B2 k))) := hXc28.2.2.1 3 (by decide)
  have ea30 : G2.2.1 3 = 0 → Ac28 8 = gE (xG X) 0 := hXc28.2.2.2.2 3 (by decide)
  have nwa30 : nwC (G2.2.1 3) (Bt B) ≤ 48 := nwC_48 (by omega) (by omega)
  refine cv_X3_204_q (As := [.ref (A 7)]) (rest := []) C dX3_copy_122 (ct_J2_addAll (Cx.fl C) (Cx.ok C) (n := Bt B) (xs := fun k => bxA (xG X) (nI (Bu B k))) hz La30 ea30 (by omega) hS29.2.2.2.2.2.2.1 (by omega) (fun i hi => bx_ob hz (nI_rng (Nat.lt_trans (hB.2.2.2.1 i hi) (by decide))))) (rc_J2 (Cx.ok C) (Or.inl La30.1)) rfl rfl (Nat.le_of_ble_eq_true rfl) (by decide) (by omega) (by omega) (fun va30 za30 ka30 qa30 => ?_)
  obtain ⟨⟨xa30, rfl⟩, hq, ara30, cpa30, laa30, faa30, caa30, cka30, fra30⟩ := qa30; replace hq := hq.symm; subst hq
  refine ww_le (kc' := 0) (ns' := 0) (by omega) (by omega) ?_
  have cba30 : cpa30 ≤ 32 := by rw [cka30]; exact nwC_32 (by omega) (by omega)
  have faa30 : ara30 = Ac28 8 ∨ (kc28 ara30 = none ∧ ara30 ≠ gE (xG X) 0) := faa30.imp id (fun q => ⟨q.1, fun e => q.2 _ (e ▸ cst_e0 hz)⟩)
  have hXa30 := hXc28.set (i := 3) (by decide) owa30 laa30 faa30 caa30 fra30
  have hFa30 : ∀ q e, h q = some e → ¬ fpG (xG X) ah D q → ka30 q = some e ∧ ¬ fpG (xG X) ah (va_up Ac28 (arI 3) ara30) q := fun q e hq nf => by
    obtain ⟨t1, t2⟩ := hFc28 q e hq nf
    refine ⟨fra30 q e t1 (fp_hd (i := 3) (by decide) t2) (fp_ar (i := 3) (by decide) t2 (ow0 q e hq)), fun f => ?_⟩
    rcases fp_up (i := 3) (by decide) f with f | ⟨f, -⟩
    · exact t2 f
    · rcases faa30 with g1 | ⟨g1, -⟩
      · exact fp_ar (i := 3) (by decide) t2 (ow0 q e hq) (f.trans g1)
      · rw [f, g1] at t1; cases t1
  have hNa30 : ∀ q, fpG (xG X) ah (va_up Ac28 (arI 3) ara30) q → fpG (xG X) ah D q ∨ h q = none := fun q hq => by
    rcases fp_up (i := 3) (by decide) hq with f | ⟨f, f2⟩
    · exact hNc28 q f
    · rcases faa30 with g1 | ⟨g1, -⟩
      · exact hNc28 q (Or.inr (Or.inr (Or.inr (Or.inr (Or.inr (Or.inr ⟨Or.inr (Or.inr (Or.inr (f.trans g1))), f2⟩))))))
      · by_cases hfp : fpG (xG X) ah D q
        · exact Or.inl hfp
        · refine Or.inr (Option.eq_none_iff_forall_ne_some.mpr (fun e he => ?_))
          have := (hFc28 q e he hfp).1
          rw [f, g1] at this; cases this
  obtain ⟨Aa30, hAa30⟩ : ∃ A9, A9 = va_up Ac28 (arI 3) ara30 := ⟨_, rfl⟩
  rw [← hAa30] at hXa30 hFa30 hNa30
  have hS31 : GmM (xG X) z ka30 g A B G rn dn := hM.ext (fun q e hq fq => (hFa30 q e hq (fun f => hdj q f fq)).1)
  have Hah31 : ka30 ah = some (.inr (2, [.int (nI (Bc B)), .int (nI (Br B)), .ref (Aa30 0), .ref (Aa30 2), .int rn, .int dn, .ref (Aa30 4), .ref (Aa30 5), .ref (Aa30 7)])) := hXa30.1
  refine ww_pop C dX3_copy_125 rfl ?_
  refine ww_aload_n C dX3_copy_126 rfl 0 rfl rfl ?_
  obtain ⟨AA, hAd⟩ : ∃ f : Nat → Nat, f = (fun i => if i < 9 then Aa30 i else A i) := ⟨_, rfl⟩
  have hAA : ∀ i, i < 9 → AA i = Aa30 i := fun i hi => by rw [hAd]; exact if_pos hi
  have hge : ∀ i, 9 ≤ i → AA i = A i := fun i hi => by rw [hAd]; exact if_neg (by omega)
  have key := hXa30.m (z := z) (B := B) (A' := AA) hAA rfl rfl rfl rfl rfl rfl (fun k hk => by rw [hge _ (by omega)]; exact hTT k hk) (fun k hk => (hge _ (by omega)).symm) (fun k hk => (hge _ (by omega)).symm) (fun k hk => rfl) (fun k hk => rfl)
  refine ww_aret C (Or.inl ⟨_, rfl⟩) dX3_copy_127 rfl ⟨rfl, rfl, AA, _, key.1, key.2, rfl, fun i hi => ?_, fun k => hge _ (by omega), fun q hq => hNa30 q (fp_cg hAA hq), fun q e hq nf => ⟨(hFa30 q e hq nf).1, fun f => (hFa30 q e hq nf).2 (fp_cg hAA f)⟩⟩
  rcases lt4 hi with rfl | rfl | rfl | rfl
  · exact cba10
  · exact cba14
  · exact cba26
  · exact cba30
end GAME9
