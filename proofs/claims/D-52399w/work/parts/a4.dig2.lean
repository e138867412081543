section DIG2
set_option maxRecDepth 100000
/-- the model answers a long -/
def Ml (Γ : Gm) (z : ZR) (h : AH) (D : Nat → Nat) (M : MS) (q : Int64) : Value → ZR → AH → Prop := fun v z' h' => v = .long q ∧ z' = z ∧ ∃ M', Mag M M' ∧ M'.1 0 = nI 0 ∧ Mx Γ h' D M' ∧ FrD h h' D
theorem Mx.o {Γ : Gm} {h : AH} {D : Nat → Nat} {M : MS} {a : Nat} {e : va_E} (hX : Mx Γ h D M) (ha : ∀ i, mi i = true → a ≠ D i) : Mx Γ (up h a e) D M := ⟨fun i hi => by rw [up_n (Ne.symm (ha i hi))]; exact hX.1 i hi, hX.2⟩
theorem Mx.j {Γ : Gm} {h : AH} {D : Nat → Nat} {M : MS} {I1 : Nat → Int32} (hX : Mx Γ h D M) (hI : ∀ j, ¬ j < 11 → I1 j = M.1 j) : Mx Γ (up h (D 0) (cMd I1 D)) D (I1, M.2) := by
  refine Mx.w (i := 0) hX (by decide) rfl (fun i _ hi => ?_)
  unfold mdC
  rw [if_neg hi, if_neg hi]
  have k : ∀ j, 11 ≤ j → I1 j = M.1 j := fun j hj => hI j (by omega)
  show (if i = 7 then cTd (I1 20) (I1 21) (I1 22) (I1 23) (I1 24) _ else if i = 8 then cTd (I1 25) (I1 26) (I1 27) (I1 28) (I1 29) _ else if i = 10 then cSt _ (I1 30) (I1 31) else if i = 11 then cSt _ (I1 32) (I1 33) else _) = _
  rw [k 20 (by decide), k 21 (by decide), k 22 (by decide), k 23 (by decide), k 24 (by decide), k 25 (by decide), k 26 (by decide), k 27 (by decide), k 28 (by decide), k 29 (by decide), k 30 (by decide), k 31 (by decide), k 32 (by decide), k 33 (by decide)]
theorem del_s {h : AH} {a : Nat} : del h a a = none := by simp [del]
theorem del_n {h : AH} {a q : Nat} (hq : q ≠ a) : del h a q = h q := by simp [del, hq]
theorem del_le {h : AH} {a q : Nat} {e : va_E} (hq : del h a q = some e) : h q = some e := by
  by_cases e9 : q = a
  · subst e9; rw [del_s] at hq; cases hq
  · rwa [del_n e9] at hq
set_option maxHeartbeats 2000000 in
theorem ct_X4_digest {l : Launch} {Γ : Gm} (hl : l.flags = flags0) (hΓ : GOK Γ) {z : ZR} {h : AH} {B : GB} {M : MS} {D : Nat → Nat} (hz : zle (cst Γ) z) (hX : Mx Γ h D M) (hb : MBd M 30 40 B) (hC : BC B) : Ct l Γ yX4_digest cX4_digest 8 (some .long) 9 1 10 [.ref (D 0)] z h (Rv (Ml Γ z h D M (dgA B (M.1 31)))) := by
  refine Ct.of hl hΓ (by decide +kernel) (Nat.le_of_ble_eq_true rfl) (fun X e1 e2 C => ?_)
  subst e1; subst e2
  have C : Cx X cX4_digest 8 "RingDominoModel" "digest" (some .long) [] 9 := C
  have hB := hC.1
  obtain ⟨⟨⟨c1, c2⟩, ⟨r1, r2⟩⟩, t1, bl1, bu1, bp1, bn1⟩ := id hB
  have hzz := BO.z hB
  have hz0 : 0 < Bz B := Nat.mul_pos (by omega) (by omega)
  have X0 := hX.m
  have hR := Mx.n (z := z) hX hb
  have hP : MrP (xG X) z h (D 0) (D 10) B := ⟨_, D, Or.inl X0, hR⟩
  obtain ⟨o, nn, rn, nu, tu, S, Ht, Hn, hnu, Hs, Ha, Hc, Hu, htu⟩ := id hR
  show WW X (Rv (Ml (xG X) z h D M (dgA B (M.1 31)))) z h 1 10 0 [(0, .ref (D 0))] []
  have hrn : M.1 31 = M.1 31 := rfl
  refine ww_bipush C dX4_digest_0 cB_10 ?_
  refine ww_newa (t := 0) (n := 10) (a0 := (10, .inl (fun _ => 0))) C dX4_digest_2 (by decide) rfl q267 (fun cA => vp_cell_el cA _) (by decide) (by decide) (by decide) (fun ar ar_n ar_z ar_g => ?_)
  refine ww_gen (fun h1 hE1 => ?_)
  have X0_h1 : h1 (D 0) = some (.inr (3, [.int (M.1 0), .ref (D 1), .int (M.1 1), .int (M.1 2), .ref (D 2), .ref (D 3), .ref (D 4), .ref (D 5), .int (M.1 3), .int (M.1 4), .int (M.1 5), .int (M.1 6), .int (M.1 7), .ref (D 6), .ref (D 7), .ref (D 8), .ref (D 9), .ref (D 10), .ref (D 11), .ref (D 12), .ref (D 13), .int (M.1 8), .int (M.1 9), .int (M.1 10)])) := by rw [hE1, up_n (ne_nw X0 ar_n)]; exact X0
  have N1_h1 : h1 ar = some (.inl (gA (xG X) 0, (10, .inl (fun _ => 0)))) := by rw [hE1]; exact up_s
  have arD : ∀ i, mi i = true → ar ≠ D i := fun i hi => (ne_nw (hX.1 i hi) ar_n).symm
  have hX0 : Mx (xG X) h1 D M := by rw [hE1]; exact hX.o arD
  have hF0 : ∀ q, (∀ i, mi i = true → q ≠ D i) → q ≠ ar → h1 q = h q := fun q _ hn => by rw [hE1, up_n hn]
  have mgq0 : Mag M M := Mag.rf
  have hbq0 := mgq0.b hb
  have X0q0 := hX0.m
  have hRq0 := Mx.n (z := z) hX0 hbq0
  have hPq0 : MrP (xG X) z h1 (D 0) (D 10) B := ⟨_, D, Or.inl X0q0, hRq0⟩
  obtain ⟨oq0, nnq0, rnq0, nuq0, tuq0, Sq0, Htq0, Hnq0, hnuq0, Hsq0, Haq0, Hcq0, Huq0, htuq0⟩ := id hRq0
  have Hxq0 : h1 (D 10) = some (cSt (fun i => D (40 + i)) (nI (plN B)) (M.1 31)) := by have := hX0.1 10 (by decide); rw [show mdC (xG X) D M 10 = cSt (fun i => D (40 + i)) (M.1 30) (M.1 31) from rfl, mgq0.1 30 (by omega), mgq0.1 31 (by omega), hb.2.2.2.2.1] at this; exact this
  have Hatq0 : h1 (D 40) = some (cI (xG X) 49 (fun x => oI (atO B x))) := by have := hX0.1 40 (by decide); rw [show mdC (xG X) D M 40 = cI (xG X) 49 (M.2.1 40) from rfl, hbq0.2.2.2.2.2.1] at this; exact this
  have Hceq0 : h1 (D 41) = some (cI (xG X) 16 (fun k => oI (Bp B k))) := by have := hX0.1 41 (by decide); rw [show mdC (xG X) D M 41 = cI (xG X) 16 (M.2.1 41) from rfl, hbq0.2.2.2.2.2.2.1] at this; exact this
  have Htuq0 : h1 (D 42) = some (cI (xG X) 16 (M.2.1 42)) := hX0.1 42 (by decide)
  refine ww_dup C dX4_digest_4 rfl ?_
  refine ww_iconst C dX4_digest_5 cI_0 ?_
  refine ww_aload_n C dX4_digest_6 rfl 0 rfl rfl ?_
  refine gf_X4_35_X4 C dX4_digest_7 (Or.inl X0q0) rfl ?_
  refine gf_X4_245_X5 C dX4_digest_10 Htq0 rfl ?_
  refine ww_iast C dX4_digest_13 N1_h1 (by decide) (by decide) ?_
  refine ww_gen (fun h2 hE2 => ?_)
  have N1_h2 : h2 ar = some (.inl (gA (xG X) 0, (10, .inl (upd (fun _ => 0) 0 (nI (Bc B)))))) := by rw [hE2]; exact up_s
  have hX1 : Mx (xG X) h2 D M := by rw [hE2]; exact hX0.o arD
  have hF1 : ∀ q, (∀ i, mi i = true → q ≠ D i) → q ≠ ar → h2 q = h q := fun q h1 h2 => by rw [hE2, up_n h2]; exact hF0 q h1 h2
  have mgq1 : Mag M M := Mag.rf
  have hbq1 := mgq1.b hb
  have X0q1 := hX1.m
  have hRq1 := Mx.n (z := z) hX1 hbq1
  have hPq1 : MrP (xG X) z h2 (D 0) (D 10) B := ⟨_, D, Or.inl X0q1, hRq1⟩
  obtain ⟨oq1, nnq1, rnq1, nuq1, tuq1, Sq1, Htq1, Hnq1, hnuq1, Hsq1, Haq1, Hcq1, Huq1, htuq1⟩ := id hRq1
  have Hxq1 : h2 (D 10) = some (cSt (fun i => D (40 + i)) (nI (plN B)) (M.1 31)) := by have := hX1.1 10 (by decide); rw [show mdC (xG X) D M 10 = cSt (fun i => D (40 + i)) (M.1 30) (M.1 31) from rfl, mgq1.1 30 (by omega), mgq1.1 31 (by omega), hb.2.2.2.2.1] at this; exact this
  have Hatq1 : h2 (D 40) = some (cI (xG X) 49 (fun x => oI (atO B x))) := by have := hX1.1 40 (by decide); rw [show mdC (xG X) D M 40 = cI (xG X) 49 (M.2.1 40) from rfl, hbq1.2.2.2.2.2.1] at this; exact this
  have Hceq1 : h2 (D 41) = some (cI (xG X) 16 (fun k => oI (Bp B k))) := by have := hX1.1 41 (by decide); rw [show mdC (xG X) D M 41 = cI (xG X) 16 (M.2.1 41) from rfl, hbq1.2.2.2.2.2.2.1] at this; exact this
  have Htuq1 : h2 (D 42) = some (cI (xG X) 16 (M.2.1 42)) := hX1.1 42 (by decide)
  refine ww_dup C dX4_digest_14 rfl ?_
  refine ww_iconst C dX4_digest_15 cI_1 ?_
  refine ww_aload_n C dX4_digest_16 rfl 0 rfl rfl ?_
  refine gf_X4_35_X4 C dX4_digest_17 (Or.inl X0q1) rfl ?_
  refine gf_X4_248_X5 C dX4_digest_20 Htq1 rfl ?_
  refine ww_iast C dX4_digest_23 N1_h2 (by decide) (by decide) ?_
  refine ww_gen (fun h3 hE3 => ?_)
  have N1_h3 : h3 ar = some (.inl (gA (xG X) 0, (10, .inl (upd (upd (fun _ => 0) 0 (nI (Bc B))) 1 (nI (Br B)))))) := by rw [hE3]; exact up_s
  have hX2 : Mx (xG X) h3 D M := by rw [hE3]; exact hX1.o arD
  have hF2 : ∀ q, (∀ i, mi i = true → q ≠ D i) → q ≠ ar → h3 q = h q := fun q h1 h2 => by rw [hE3, up_n h2]; exact hF1 q h1 h2
  have mgq2 : Mag M M := Mag.rf
  have hbq2 := mgq2.b hb
  have X0q2 := hX2.m
  have hRq2 := Mx.n (z := z) hX2 hbq2
  have hPq2 : MrP (xG X) z h3 (D 0) (D 10) B := ⟨_, D, Or.inl X0q2, hRq2⟩
  obtain ⟨oq2, nnq2, rnq2, nuq2, tuq2, Sq2, Htq2, Hnq2, hnuq2, Hsq2, Haq2, Hcq2, Huq2, htuq2⟩ := id hRq2
  have Hxq2 : h3 (D 10) = some (cSt (fun i => D (40 + i)) (nI (plN B)) (M.1 31)) := by have := hX2.1 10 (by decide); rw [show mdC (xG X) D M 10 = cSt (fun i => D (40 + i)) (M.1 30) (M.1 31) from rfl, mgq2.1 30 (by omega), mgq2.1 31 (by omega), hb.2.2.2.2.1] at this; exact this
  have Hatq2 : h3 (D 40) = some (cI (xG X) 49 (fun x => oI (atO B x))) := by have := hX2.1 40 (by decide); rw [show mdC (xG X) D M 40 = cI (xG X) 49 (M.2.1 40) from rfl, hbq2.2.2.2.2.2.1] at this; exact this
  have Hceq2 : h3 (D 41) = some (cI (xG X) 16 (fun k => oI (Bp B k))) := by have := hX2.1 41 (by decide); rw [show mdC (xG X) D M 41 = cI (xG X) 16 (M.2.1 41) from rfl, hbq2.2.2.2.2.2.2.1] at this; exact this
  have Htuq2 : h3 (D 42) = some (cI (xG X) 16 (M.2.1 42)) := hX2.1 42 (by decide)
  refine ww_dup C dX4_digest_24 rfl ?_
  refine ww_iconst C dX4_digest_25 cI_2 ?_
  refine ww_aload_n C dX4_digest_26 rfl 0 rfl rfl ?_
  refine gf_X4_35_X4 C dX4_digest_27 (Or.inl X0q2) rfl ?_
  refine gf_X4_150_X5 C dX4_digest_30 Htq2 rfl ?_
  refine ww_iast C dX4_digest_33 N1_h3 (by decide) (by decide) ?_
  refine ww_gen (fun h4 hE4 => ?_)
  have N1_h4 : h4 ar = some (.inl (gA (xG X) 0, (10, .inl (upd (upd (upd (fun _ => 0) 0 (nI (Bc B))) 1 (nI (Br B))) 2 (nI (Bt B)))))) := by rw [hE4]; exact up_s
  have hX3 : Mx (xG X) h4 D M := by rw [hE4]; exact hX2.o arD
  have hF3 : ∀ q, (∀ i, mi i = true → q ≠ D i) → q ≠ ar → h4 q = h q := fun q h1 h2 => by rw [hE4, up_n h2]; exact hF2 q h1 h2
  have mgq3 : Mag M M := Mag.rf
  have hbq3 := mgq3.b hb
  have X0q3 := hX3.m
  have hRq3 := Mx.n (z := z) hX3 hbq3
  have hPq3 : MrP (xG X) z h4 (D 0) (D 10) B := ⟨_, D, Or.inl X0q3, hRq3⟩
  obtain ⟨oq3, nnq3, rnq3, nuq3, tuq3, Sq3, Htq3, Hnq3, hnuq3, Hsq3, Haq3, Hcq3, Huq3, htuq3⟩ := id hRq3
  have Hxq3 : h4 (D 10) = some (cSt (fun i => D (40 + i)) (nI (plN B)) (M.1 31)) := by have := hX3.1 10 (by decide); rw [show mdC (xG X) D M 10 = cSt (fun i => D (40 + i)) (M.1 30) (M.1 31) from rfl, mgq3.1 30 (by omega), mgq3.1 31 (by omega), hb.2.2.2.2.1] at this; exact this
  have Hatq3 : h4 (D 40) = some (cI (xG X) 49 (fun x => oI (atO B x))) := by have := hX3.1 40 (by decide); rw [show mdC (xG X) D M 40 = cI (xG X) 49 (M.2.1 40) from rfl, hbq3.2.2.2.2.2.1] at this; exact this
  have Hceq3 : h4 (D 41) = some (cI (xG X) 16 (fun k => oI (Bp B k))) := by have := hX3.1 41 (by decide); rw [show mdC (xG X) D M 41 = cI (xG X) 16 (M.2.1 41) from rfl, hbq3.2.2.2.2.2.2.1] at this; exact this
  have Htuq3 : h4 (D 42) = some (cI (xG X) 16 (M.2.1 42)) := hX3.1 42 (by decide)
  refine ww_dup C dX4_digest_34 rfl ?_
  refine ww_iconst C dX4_digest_35 cI_3 ?_
  refine ww_aload_n C dX4_digest_36 rfl 0 rfl rfl ?_
  refine gf_X4_48_X4 C dX4_digest_37 (Or.inl X0q3) rfl ?_
  refine gf_X4_343_X6 C dX4_digest_40 (Or.inl Hxq3) rfl ?_
  refine ww_iast C dX4_digest_43 N1_h4 (by decide) (by decide) ?_
  refine ww_gen (fun h5 hE5 => ?_)
  have N1_h5 : h5 ar = some (.inl (gA (xG X) 0, (10, .inl (upd (upd (upd (upd (fun _ => 0) 0 (nI (Bc B))) 1 (nI (Br B))) 2 (nI (Bt B))) 3 (M.1 31))))) := by rw [hE5]; exact up_s
  have hX4 : Mx (xG X) h5 D M := by rw [hE5]; exact hX3.o arD
  have hF4 : ∀ q, (∀ i, mi i = true → q ≠ D i) → q ≠ ar → h5 q = h q := fun q h1 h2 => by rw [hE5, up_n h2]; exact hF3 q h1 h2
  have mgq4 : Mag M M := Mag.rf
  have hbq4 := mgq4.b hb
  have X0q4 := hX4.m
  have hRq4 := Mx.n (z := z) hX4 hbq4
  have hPq4 : MrP (xG X) z h5 (D 0) (D 10) B := ⟨_, D, Or.inl X0q4, hRq4⟩
  obtain ⟨oq4, nnq4, rnq4, nuq4, tuq4, Sq4, Htq4, Hnq4, hnuq4, Hsq4, Haq4, Hcq4, Huq4, htuq4⟩ := id hRq4
  have Hxq4 : h5 (D 10) = some (cSt (fun i => D (40 + i)) (nI (plN B)) (M.1 31)) := by have := hX4.1 10 (by decide); rw [show mdC (xG X) D M 10 = cSt (fun i => D (40 + i)) (M.1 30) (M.1 31) from rfl, mgq4.1 30 (by omega), mgq4.1 31 (by omega), hb.2.2.2.2.1] at this; exact this
  have Hatq4 : h5 (D 40) = some (cI (xG X) 49 (fun x => oI (atO B x))) := by have := hX4.1 40 (by decide); rw [show mdC (xG X) D M 40 = cI (xG X) 49 (M.2.1 40) from rfl, hbq4.2.2.2.2.2.1] at this; exact this
  have Hceq4 : h5 (D 41) = some (cI (xG X) 16 (fun k => oI (Bp B k))) := by have := hX4.1 41 (by decide); rw [show mdC (xG X) D M 41 = cI (xG X) 16 (M.2.1 41) from rfl, hbq4.2.2.2.2.2.2.1] at this; exact this
  have Htuq4 : h5 (D 42) = some (cI (xG X) 16 (M.2.1 42)) := hX4.1 42 (by decide)
  refine ww_dup C dX4_digest_44 rfl ?_
  refine ww_iconst C dX4_digest_45 cI_4 ?_
  refine ww_aload_n C dX4_digest_46 rfl 0 rfl rfl ?_
  refine gf_X4_48_X4 C dX4_digest_47 (Or.inl X0q4) rfl ?_
  refine gf_X4_296_X6 C dX4_digest_50 (Or.inl Hxq4) rfl ?_
  refine ww_iast C dX4_digest_53 N1_h5 (by decide) (by decide) ?_
  refine ww_gen (fun h6 hE6 => ?_)
  have N1_h6 : h6 ar = some (.inl (gA (xG X) 0, (10, .inl (upd (upd (upd (upd (upd (fun _ => 0) 0 (nI (Bc B))) 1 (nI (Br B))) 2 (nI (Bt B))) 3 (M.1 31)) 4 (nI (plN B)))))) := by rw [hE6]; exact up_s
  have hX5 : Mx (xG X) h6 D M := by rw [hE6]; exact hX4.o arD
  have hF5 : ∀ q, (∀ i, mi i = true → q ≠ D i) → q ≠ ar → h6 q = h q := fun q h1 h2 => by rw [hE6, up_n h2]; exact hF4 q h1 h2
  have mgq5 : Mag M M := Mag.rf
  have hbq5 := mgq5.b hb
  have X0q5 := hX5.m
  have hRq5 := Mx.n (z := z) hX5 hbq5
  have hPq5 : MrP (xG X) z h6 (D 0) (D 10) B := ⟨_, D, Or.inl X0q5, hRq5⟩
  obtain ⟨oq5, nnq5, rnq5, nuq5, tuq5, Sq5, Htq5, Hnq5, hnuq5, Hsq5, Haq5, Hcq5, Huq5, htuq5⟩ := id hRq5
  have Hxq5 : h6 (D 10) = some (cSt (fun i => D (40 + i)) (nI (plN B)) (M.1 31)) := by have := hX5.1 10 (by decide); rw [show mdC (xG X) D M 10 = cSt (fun i => D (40 + i)) (M.1 30) (M.1 31) from rfl, mgq5.1 30 (by omega), mgq5.1 31 (by omega), hb.2.2.2.2.1] at this; exact this
  have Hatq5 : h6 (D 40) = some (cI (xG X) 49 (fun x => oI (atO B x))) := by have := hX5.1 40 (by decide); rw [show mdC (xG X) D M 40 = cI (xG X) 49 (M.2.1 40) from rfl, hbq5.2.2.2.2.2.1] at this; exact this
  have Hceq5 : h6 (D 41) = some (cI (xG X) 16 (fun k => oI (Bp B k))) := by have := hX5.1 41 (by decide); rw [show mdC (xG X) D M 41 = cI (xG X) 16 (M.2.1 41) from rfl, hbq5.2.2.2.2.2.2.1] at this; exact this
  have Htuq5 : h6 (D 42) = some (cI (xG X) 16 (M.2.1 42)) := hX5.1 42 (by decide)
  refine ww_dup C dX4_digest_54 rfl ?_
  refine ww_iconst C dX4_digest_55 cI_5 ?_
  refine ww_aload_n C dX4_digest_56 rfl 0 rfl rfl ?_
  refine ww_aload_n C dX4_digest_57 rfl 0 rfl rfl ?_
  refine gf_X4_48_X4 C dX4_digest_58 (Or.inl X0q5) rfl ?_
  refine cv_X4_346_r (As := [.ref (D 10)]) (rest := [.int (nI 5), .ref ar, .ref ar]) C dX4_digest_61 (ct_X4_matches_2 (Cx.fl C) (Cx.ok C) hz hPq5 hC) (rc_X4 (Cx.ok C) (Or.inl X0q5)) rfl rfl (Nat.le_of_ble_eq_true rfl) (by decide) (Nat.zero_le _) (Nat.zero_le _) ?_
  refine ww_iast C dX4_digest_64 N1_h6 (by decide) (by decide) ?_
  refine ww_gen (fun h7 hE7 => ?_)
  have N1_h7 : h7 ar = some (.inl (gA (xG X) 0, (10, .inl (upd (upd (upd (upd (upd (upd (fun _ => 0) 0 (nI (Bc B))) 1 (nI (Br B))) 2 (nI (Bt B))) 3 (M.1 31)) 4 (nI (plN B))) 5 (nI (maN B)))))) := by rw [hE7]; exact up_s
  have hX6 : Mx (xG X) h7 D M := by rw [hE7]; exact hX5.o arD
  have hF6 : ∀ q, (∀ i, mi i = true → q ≠ D i) → q ≠ ar → h7 q = h q := fun q h1 h2 => by rw [hE7, up_n h2]; exact hF5 q h1 h2
  have mgq6 : Mag M M := Mag.rf
  have hbq6 := mgq6.b hb
  have X0q6 := hX6.m
  have hRq6 := Mx.n (z := z) hX6 hbq6
  have hPq6 : MrP (xG X) z h7 (D 0) (D 10) B := ⟨_, D, Or.inl X0q6, hRq6⟩
  obtain ⟨oq6, nnq6, rnq6, nuq6, tuq6, Sq6, Htq6, Hnq6, hnuq6, Hsq6, Haq6, Hcq6, Huq6, htuq6⟩ := id hRq6
  have Hxq6 : h7 (D 10) = some (cSt (fun i => D (40 + i)) (nI (plN B)) (M.1 31)) := by have := hX6.1 10 (by decide); rw [show mdC (xG X) D M 10 = cSt (fun i => D (40 + i)) (M.1 30) (M.1 31) from rfl, mgq6.1 30 (by omega), mgq6.1 31 (by omega), hb.2.2.2.2.1] at this; exact this
  have Hatq6 : h7 (D 40) = some (cI (xG X) 49 (fun x => oI (atO B x))) := by have := hX6.1 40 (by decide); rw [show mdC (xG X) D M 40 = cI (xG X) 49 (M.2.1 40) from rfl, hbq6.2.2.2.2.2.1] at this; exact this
  have Hceq6 : h7 (D 41) = some (cI (xG X) 16 (fun k => oI (Bp B k))) := by have := hX6.1 41 (by decide); rw [show mdC (xG X) D M 41 = cI (xG X) 16 (M.2.1 41) from rfl, hbq6.2.2.2.2.2.2.1] at this; exact this
  have Htuq6 : h7 (D 42) = some (cI (xG X) 16 (M.2.1 42)) := hX6.1 42 (by decide)
  refine ww_dup C dX4_digest_65 rfl ?_
  refine ww_bipush C dX4_digest_66 cB_6 ?_
  refine ww_aload_n C dX4_digest_68 rfl 0 rfl rfl ?_
  refine ww_aload_n C dX4_digest_69 rfl 0 rfl rfl ?_
  refine gf_X4_48_X4 C dX4_digest_70 (Or.inl X0q6) rfl ?_
  refine cv_X4_349_r (As := [.ref (D 10)]) (rest := [.int (nI 6), .ref ar, .ref ar]) C dX4_digest_73 (ct_X4_points_2 (Cx.fl C) (Cx.ok C) hz hPq6 hC) (rc_X4 (Cx.ok C) (Or.inl X0q6)) rfl rfl (Nat.le_of_ble_eq_true rfl) (by decide) (Nat.zero_le _) (Nat.zero_le _) ?_
  refine ww_iast C dX4_digest_76 N1_h7 (by decide) (by decide) ?_
  refine ww_gen (fun h8 hE8 => ?_)
  have N1_h8 : h8 ar = some (.inl (gA (xG X) 0, (10, .inl (upd (upd (upd (upd (upd (upd (upd (fun _ => 0) 0 (nI (Bc B))) 1 (nI (Br B))) 2 (nI (Bt B))) 3 (M.1 31)) 4 (nI (plN B))) 5 (nI (maN B))) 6 (nI (poN B)))))) := by rw [hE8]; exact up_s
  have hX7 : Mx (xG X) h8 D M := by rw [hE8]; exact hX6.o arD
  have hF7 : ∀ q, (∀ i, mi i = true → q ≠ D i) → q ≠ ar → h8 q = h q := fun q h1 h2 => by rw [hE8, up_n h2]; exact hF6 q h1 h2
  have mgq7 : Mag M M := Mag.rf
  have hbq7 := mgq7.b hb
  have X0q7 := hX7.m
  have hRq7 := Mx.n (z := z) hX7 hbq7
  have hPq7 : MrP (xG X) z h8 (D 0) (D 10) B := ⟨_, D, Or.inl X0q7, hRq7⟩
  obtain ⟨oq7, nnq7, rnq7, nuq7, tuq7, Sq7, Htq7, Hnq7, hnuq7, Hsq7, Haq7, Hcq7, Huq7, htuq7⟩ := id hRq7
  have Hxq7 : h8 (D 10) = some (cSt (fun i => D (40 + i)) (nI (plN B)) (M.1 31)) := by have := hX7.1 10 (by decide); rw [show mdC (xG X) D M 10 = cSt (fun i => D (40 + i)) (M.1 30) (M.1 31) from rfl, mgq7.1 30 (by omega), mgq7.1 31 (by omega), hb.2.2.2.2.1] at this; exact this
  have Hatq7 : h8 (D 40) = some (cI (xG X) 49 (fun x => oI (atO B x))) := by have := hX7.1 40 (by decide); rw [show mdC (xG X) D M 40 = cI (xG X) 49 (M.2.1 40) from rfl, hbq7.2.2.2.2.2.1] at this; exact this
  have Hceq7 : h8 (D 41) = some (cI (xG X) 16 (fun k => oI (Bp B k))) := by have := hX7.1 41 (by decide); rw [show mdC (xG X) D M 41 = cI (xG X) 16 (M.2.1 41) from rfl, hbq7.2.2.2.2.2.2.1] at this; exact this
  have Htuq7 : h8 (D 42) = some (cI (xG X) 16 (M.2.1 42)) := hX7.1 42 (by decide)
  refine ww_dup C dX4_digest_77 rfl ?_
  refine ww_bipush C dX4_digest_78 cB_7 ?_
  refine ww_aload_n C dX4_digest_80 rfl 0 rfl rfl ?_
  refine ww_aload_n C dX4_digest_81 rfl 0 rfl rfl ?_
  refine gf_X4_48_X4 C dX4_digest_82 (Or.inl X0q7) rfl ?_
  refine cv_X4_325_r (As := [.ref (D 10)]) (rest := [.int (nI 7), .ref ar, .ref ar]) C dX4_digest_85 (ct_X4_rings (Cx.fl C) (Cx.ok C) hz hPq7 hC) (rc_X4 (Cx.ok C) (Or.inl X0q7)) rfl rfl (Nat.le_of_ble_eq_true rfl) (by decide) (Nat.zero_le _) (Nat.zero_le _) ?_
  refine ww_iast C dX4_digest_88 N1_h8 (by decide) (by decide) ?_
  refine ww_gen (fun h9 hE9 => ?_)
  have N1_h9 : h9 ar = some (.inl (gA (xG X) 0, (10, .inl (upd (upd (upd (upd (upd (upd (upd (upd (fun _ => 0) 0 (nI (Bc B))) 1 (nI (Br B))) 2 (nI (Bt B))) 3 (M.1 31)) 4 (nI (plN B))) 5 (nI (maN B))) 6 (nI (poN B))) 7 (nI (rgN B)))))) := by rw [hE9]; exact up_s
  have hX8 : Mx (xG X) h9 D M := by rw [hE9]; exact hX7.o arD
  have hF8 : ∀ q, (∀ i, mi i = true → q ≠ D i) → q ≠ ar → h9 q = h q := fun q h1 h2 => by rw [hE9, up_n h2]; exact hF7 q h1 h2
  have mgq8 : Mag M M := Mag.rf
  have hbq8 := mgq8.b hb
  have X0q8 := hX8.m
  have hRq8 := Mx.n (z := z) hX8 hbq8
  have hPq8 : MrP (xG X) z h9 (D 0) (D 10) B := ⟨_, D, Or.inl X0q8, hRq8⟩
  obtain ⟨oq8, nnq8, rnq8, nuq8, tuq8, Sq8, Htq8, Hnq8, hnuq8, Hsq8, Haq8, Hcq8, Huq8, htuq8⟩ := id hRq8
  have Hxq8 : h9 (D 10) = some (cSt (fun i => D (40 + i)) (nI (plN B)) (M.1 31)) := by have := hX8.1 10 (by decide); rw [show mdC (xG X) D M 10 = cSt (fun i => D (40 + i)) (M.1 30) (M.1 31) from rfl, mgq8.1 30 (by omega), mgq8.1 31 (by omega), hb.2.2.2.2.1] at this; exact this
  have Hatq8 : h9 (D 40) = some (cI (xG X) 49 (fun x => oI (atO B x))) := by have := hX8.1 40 (by decide); rw [show mdC (xG X) D M 40 = cI (xG X) 49 (M.2.1 40) from rfl, hbq8.2.2.2.2.2.1] at this; exact this
  have Hceq8 : h9 (D 41) = some (cI (xG X) 16 (fun k => oI (Bp B k))) := by have := hX8.1 41 (by decide); rw [show mdC (xG X) D M 41 = cI (xG X) 16 (M.2.1 41) from rfl, hbq8.2.2.2.2.2.2.1] at this; exact this
  have Htuq8 : h9 (D 42) = some (cI (xG X) 16 (M.2.1 42)) := hX8.1 42 (by decide)
  refine ww_dup C dX4_digest_89 rfl ?_
  refine ww_bipush C dX4_digest_90 cB_8 ?_
  refine ww_aload_n C dX4_digest_92 rfl 0 rfl rfl ?_
  refine cv_X4_385_q (As := []) (rest := [.int (nI 8), .ref ar, .ref ar]) C dX4_digest_93 (ct_X4_groupsOf (Cx.fl C) (Cx.ok C) hz hX8 hbq8 hC) (rc_X4 (Cx.ok C) (Or.inl X0q8)) rfl rfl (Nat.le_of_ble_eq_true rfl) (by decide) (Nat.zero_le _) (Nat.zero_le _) (fun v8 z8 k8 q8 => ?_)
  obtain ⟨rfl, hz8, f8, sn8, hXg, hFg⟩ := q8; replace hz8 := hz8.symm; subst hz8
  have ar8 : k8 ar = h9 ar := hFg ar arD
  rw [N1_h9] at ar8
  have hF8b : ∀ q, (∀ i, mi i = true → q ≠ D i) → q ≠ ar → k8 q = h q := fun q h1 h2 => (hFg q h1).trans (hF8 q h1 h2)
  have mgq28 : Mag M (M.1, va_up M.2.1 12 f8, sn8) := ⟨fun _ _ => rfl, fun i hi => by show (if i = 12 then _ else _) = _; rw [if_neg (by omega)]⟩
  have hbq28 := mgq28.b hb
  have X0q28 := hXg.m
  have hRq28 := Mx.n (z := z) hXg hbq28
  have hPq28 : MrP (xG X) z k8 (D 0) (D 10) B := ⟨_, D, Or.inl X0q28, hRq28⟩
  obtain ⟨oq28, nnq28, rnq28, nuq28, tuq28, Sq28, Htq28, Hnq28, hnuq28, Hsq28, Haq28, Hcq28, Huq28, htuq28⟩ := id hRq28
  have Hxq28 : k8 (D 10) = some (cSt (fun i => D (40 + i)) (nI (plN B)) (M.1 31)) := by have := hXg.1 10 (by decide); rw [show mdC (xG X) D (M.1, va_up M.2.1 12 f8, sn8) 10 = cSt (fun i => D (40 + i)) ((M.1, va_up M.2.1 12 f8, sn8).1 30) ((M.1, va_up M.2.1 12 f8, sn8).1 31) from rfl, mgq28.1 30 (by omega), mgq28.1 31 (by omega), hb.2.2.2.2.1] at this; exact this
  have Hatq28 : k8 (D 40) = some (cI (xG X) 49 (fun x => oI (atO B x))) := by have := hXg.1 40 (by decide); rw [show mdC (xG X) D (M.1, va_up M.2.1 12 f8, sn8) 40 = cI (xG X) 49 ((M.1, va_up M.2.1 12 f8, sn8).2.1 40) from rfl, hbq28.2.2.2.2.2.1] at this; exact this
  have Hceq28 : k8 (D 41) = some (cI (xG X) 16 (fun k => oI (Bp B k))) := by have := hXg.1 41 (by decide); rw [show mdC (xG X) D (M.1, va_up M.2.1 12 f8, sn8) 41 = cI (xG X) 16 ((M.1, va_up M.2.1 12 f8, sn8).2.1 41) from rfl, hbq28.2.2.2.2.2.2.1] at this; exact this
  have Htuq28 : k8 (D 42) = some (cI (xG X) 16 ((M.1, va_up M.2.1 12 f8, sn8).2.1 42)) := hXg.1 42 (by decide)
  refine ww_iast C dX4_digest_96 ar8 (by decide) (by decide) ?_
  refine ww_gen (fun h10 hE10 => ?_)
  have ar8_h10 : h10 ar = some (.inl (gA (xG X) 0, (10, .inl (upd (upd (upd (upd (upd (upd (upd (upd (upd (fun _ => 0) 0 (nI (Bc B))) 1 (nI (Br B))) 2 (nI (Bt B))) 3 (M.1 31)) 4 (nI (plN B))) 5 (nI (maN B))) 6 (nI (poN B))) 7 (nI (rgN B))) 8 (nI ((grp B (Bz B)).1)))))) := by rw [hE10]; exact up_s
  have hX29 : Mx (xG X) h10 D (M.1, va_up M.2.1 12 f8, sn8) := by rw [hE10]; exact hXg.o arD
  have hF29 : ∀ q, (∀ i, mi i = true → q ≠ D i) → q ≠ ar → h10 q = h q := fun q h1 h2 => by rw [hE10, up_n h2]; exact hF8b q h1 h2
  have mgq29 : Mag M (M.1, va_up M.2.1 12 f8, sn8) := ⟨fun _ _ => rfl, fun i hi => by show (if i = 12 then _ else _) = _; rw [if_neg (by omega)]⟩
  have hbq29 := mgq29.b hb
  have X0q29 := hX29.m
  have hRq29 := Mx.n (z := z) hX29 hbq29
  have hPq29 : MrP (xG X) z h10 (D 0) (D 10) B := ⟨_, D, Or.inl X0q29, hRq29⟩
  obtain ⟨oq29, nnq29, rnq29, nuq29, tuq29, Sq29, Htq29, Hnq29, hnuq29, Hsq29, Haq29, Hcq29, Huq29, htuq29⟩ := id hRq29
  have Hxq29 : h10 (D 10) = some (cSt (fun i => D (40 + i)) (nI (plN B)) (M.1 31)) := by have := hX29.1 10 (by decide); rw [show mdC (xG X) D (M.1, va_up M.2.1 12 f8, sn8) 10 = cSt (fun i => D (40 + i)) ((M.1, va_up M.2.1 12 f8, sn8).1 30) ((M.1, va_up M.2.1 12 f8, sn8).1 31) from rfl, mgq29.1 30 (by omega), mgq29.1 31 (by omega), hb.2.2.2.2.1] at this; exact this
  have Hatq29 : h10 (D 40) = some (cI (xG X) 49 (fun x => oI (atO B x))) := by have := hX29.1 40 (by decide); rw [show mdC (xG X) D (M.1, va_up M.2.1 12 f8, sn8) 40 = cI (xG X) 49 ((M.1, va_up M.2.1 12 f8, sn8).2.1 40) from rfl, hbq29.2.2.2.2.2.1] at this; exact this
  have Hceq29 : h10 (D 41) = some (cI (xG X) 16 (fun k => oI (Bp B k))) := by have := hX29.1 41 (by decide); rw [show mdC (xG X) D (M.1, va_up M.2.1 12 f8, sn8) 41 = cI (xG X) 16 ((M.1, va_up M.2.1 12 f8, sn8).2.1 41) from rfl, hbq29.2.2.2.2.2.2.1] at this; exact this
  have Htuq29 : h10 (D 42) = some (cI (xG X) 16 ((M.1, va_up M.2.1 12 f8, sn8).2.1 42)) := hX29.1 42 (by decide)
  refine ww_dup C dX4_digest_97 rfl ?_
  refine ww_bipush C dX4_digest_98 cB_9 ?_
  refine ww_aload_n C dX4_digest_100 rfl 0 rfl rfl ?_
  refine cv_X4_421_q (As := []) (rest := [.int (nI 9), .ref ar, .ref ar]) C dX4_digest_101 (ct_X4_best (Cx.fl C) (Cx.ok C) hz X0q29 hRq29 hC) (rc_X4 (Cx.ok C) (Or.inl X0q29)) rfl rfl (Nat.le_of_ble_eq_true rfl) (by decide) (Nat.zero_le _) (Nat.zero_le _) (fun v9 z9 k9 q9 => ?_)
  obtain ⟨rfl, hz9, I9, hI9, hE9⟩ := q9; replace hz9 := hz9.symm; subst hz9
  obtain ⟨J, hJd⟩ : ∃ J : Nat → Int32, J = fun j => if j < 11 then I9 j else M.1 j := ⟨_, rfl⟩
  have hJ : ∀ j, ¬ j < 11 → J j = M.1 j := fun j hj => by rw [hJd]; exact if_neg hj
  have hJ2 : cMd J D = cMd I9 D := cMd_c (fun j hj => by rw [hJd]; exact if_pos hj)
  have hJ8 : ∀ j, j < 8 → J j = M.1 j := fun j hj => by rw [hJd]; exact (if_pos (by omega)).trans (hI9 j hj)
  have hXh : Mx (xG X) k9 D (J, va_up M.2.1 12 f8, sn8) := by rw [hE9, ← hJ2]; exact Mx.j hX29 hJ
  have ar9 : k9 ar = some (.inl (gA (xG X) 0, (10, .inl (upd (upd (upd (upd (upd (upd (upd (upd (upd (fun _ => 0) 0 (nI (Bc B))) 1 (nI (Br B))) 2 (nI (Bt B))) 3 (M.1 31)) 4 (nI (plN B))) 5 (nI (maN B))) 6 (nI (poN B))) 7 (nI (rgN B))) 8 (nI ((grp B (Bz B)).1)))))) := by rw [hE9, up_n (arD 0 (by decide))]; exact ar8_h10
  have hF9b : ∀ q, (∀ i, mi i = true → q ≠ D i) → q ≠ ar → k9 q = h q := fun q h1 h2 => by rw [hE9, up_n (h1 0 (by decide))]; exact hF29 q h1 h2
  have mgq49 : Mag M (J, va_up M.2.1 12 f8, sn8) := ⟨fun j hj => by rcases (show j < 8 ∨ ¬ j < 11 by omega) with q | q; { exact hJ8 j q }; { exact hJ j q }, fun i hi => by show (if i = 12 then _ else _) = _; rw [if_neg (by omega)]⟩
  have hbq49 := mgq49.b hb
  have X0q49 := hXh.m
  have hRq49 := Mx.n (z := z) hXh hbq49
  have hPq49 : MrP (xG X) z k9 (D 0) (D 10) B := ⟨_, D, Or.inl X0q49, hRq49⟩
  obtain ⟨oq49, nnq49, rnq49, nuq49, tuq49, Sq49, Htq49, Hnq49, hnuq49, Hsq49, Haq49, Hcq49, Huq49, htuq49⟩ := id hRq49
  have Hxq49 : k9 (D 10) = some (cSt (fun i => D (40 + i)) (nI (plN B)) (M.1 31)) := by have := hXh.1 10 (by decide); rw [show mdC (xG X) D (J, va_up M.2.1 12 f8, sn8) 10 = cSt (fun i => D (40 + i)) ((J, va_up M.2.1 12 f8, sn8).1 30) ((J, va_up M.2.1 12 f8, sn8).1 31) from rfl, mgq49.1 30 (by omega), mgq49.1 31 (by omega), hb.2.2.2.2.1] at this; exact this
  have Hatq49 : k9 (D 40) = some (cI (xG X) 49 (fun x => oI (atO B x))) := by have := hXh.1 40 (by decide); rw [show mdC (xG X) D (J, va_up M.2.1 12 f8, sn8) 40 = cI (xG X) 49 ((J, va_up M.2.1 12 f8, sn8).2.1 40) from rfl, hbq49.2.2.2.2.2.1] at this; exact this
  have Hceq49 : k9 (D 41) = some (cI (xG X) 16 (fun k => oI (Bp B k))) := by have := hXh.1 41 (by decide); rw [show mdC (xG X) D (J, va_up M.2.1 12 f8, sn8) 41 = cI (xG X) 16 ((J, va_up M.2.1 12 f8, sn8).2.1 41) from rfl, hbq49.2.2.2.2.2.2.1] at this; exact this
  have Htuq49 : k9 (D 42) = some (cI (xG X) 16 ((J, va_up M.2.1 12 f8, sn8).2.1 42)) := hXh.1 42 (by decide)
  refine ww_iast C dX4_digest_104 ar9 (by decide) (by decide) ?_
  refine ww_gen (fun h11 hE11 => ?_)
  have ar9_h11 : h11 ar = some (.inl (gA (xG X) 0, (10, .inl (upd (upd (upd (upd (upd (upd (upd (upd (upd (upd (fun _ => 0) 0 (nI (Bc B))) 1 (nI (Br B))) 2 (nI (Bt B))) 3 (M.1 31)) 4 (nI (plN B))) 5 (nI (maN B))) 6 (nI (poN B))) 7 (nI (rgN B))) 8 (nI ((grp B (Bz B)).1))) 9 (oI ((btN B (Bt B)).map Prod.fst)))))) := by rw [hE11]; exact up_s
  have hX50 : Mx (xG X) h11 D (J, va_up M.2.1 12 f8, sn8) := by rw [hE11]; exact hXh.o arD
  have hF50 : ∀ q, (∀ i, mi i = true → q ≠ D i) → q ≠ ar → h11 q = h q := fun q h1 h2 => by rw [hE11, up_n h2]; exact hF9b q h1 h2
  have mgq50 : Mag M (J, va_up M.2.1 12 f8, sn8) := ⟨fun j hj => by rcases (show j < 8 ∨ ¬ j < 11 by omega) with q | q; { exact hJ8 j q }; { exact hJ j q }, fun i hi => by show (if i = 12 then _ else _) = _; rw [if_neg (by omega)]⟩
  have hbq50 := mgq50.b hb
  have X0q50 := hX50.m
  have hRq50 := Mx.n (z := z) hX50 hbq50
  have hPq50 : MrP (xG X) z h11 (D 0) (D 10) B := ⟨_, D, Or.inl X0q50, hRq50⟩
  obtain ⟨oq50, nnq50, rnq50, nuq50, tuq50, Sq50, Htq50, Hnq50, hnuq50, Hsq50, Haq50, Hcq50, Huq50, htuq50⟩ := id hRq50
  have Hxq50 : h11 (D 10) = some (cSt (fun i => D (40 + i)) (nI (plN B)) (M.1 31)) := by have := hX50.1 10 (by decide); rw [show mdC (xG X) D (J, va_up M.2.1 12 f8, sn8) 10 = cSt (fun i => D (40 + i)) ((J, va_up M.2.1 12 f8, sn8).1 30) ((J, va_up M.2.1 12 f8, sn8).1 31) from rfl, mgq50.1 30 (by omega), mgq50.1 31 (by omega), hb.2.2.2.2.1] at this; exact this
  have Hatq50 : h11 (D 40) = some (cI (xG X) 49 (fun x => oI (atO B x))) := by have := hX50.1 40 (by decide); rw [show mdC (xG X) D (J, va_up M.2.1 12 f8, sn8) 40 = cI (xG X) 49 ((J, va_up M.2.1 12 f8, sn8).2.1 40) from rfl, hbq50.2.2.2.2.2.1] at this; exact this
  have Hceq50 : h11 (D 41) = some (cI (xG X) 16 (fun k => oI (Bp B k))) := by have := hX50.1 41 (by decide); rw [show mdC (xG X) D (J, va_up M.2.1 12 f8, sn8) 41 = cI (xG X) 16 ((J, va_up M.2.1 12 f8, sn8).2.1 41) from rfl, hbq50.2.2.2.2.2.2.1] at this; exact this
  have Htuq50 : h11 (D 42) = some (cI (xG X) 16 ((J, va_up M.2.1 12 f8, sn8).2.1 42)) := hX50.1 42 (by decide)
  obtain ⟨F, hFd⟩ : ∃ F : Nat → Int32, F = upd (upd (upd (upd (upd (upd (upd (upd (upd (upd (fun _ => 0) 0 (nI (Bc B))) 1 (nI (Br B))) 2 (nI (Bt B))) 3 (M.1 31)) 4 (nI (plN B))) 5 (nI (maN B))) 6 (nI (poN B))) 7 (nI (rgN B))) 8 (nI ((grp B (Bz B)).1))) 9 (oI ((btN B (Bt B)).map Prod.fst)) := ⟨_, rfl⟩
  have hFX : ∀ j, j < 10 → F j = dgX B (M.1 31) j := fun j hj => by
    rcases (show j = 0 ∨ j = 1 ∨ j = 2 ∨ j = 3 ∨ j = 4 ∨ j = 5 ∨ j = 6 ∨ j = 7 ∨ j = 8 ∨ j = 9 by omega) with rfl | rfl | rfl | rfl | rfl | rfl | rfl | rfl | rfl | rfl <;> (rw [hFd]; rfl)
  have har : h11 ar = some (.inl (gA (xG X) 0, (10, .inl F))) := by rw [hFd]; exact ar9_h11
  have htt : ∀ k x, Bp B k = some x → (J, va_up M.2.1 12 f8, sn8).2.1 42 k = nI (Bu B k) := hbq50.2.2.2.2.2.2.2
  refine ww_astore_n (lv' := [(1, .ref ar), (0, .ref (D 0))]) C dX4_digest_105 rfl (by decide) rfl rfl ?_
  refine ww_ldc2 C q3363 dX4_digest_106 ?_
  refine ww_lstore_n (lv' := [(2, .long (1009 : Int64)), (1, .ref ar), (0, .ref (D 0))]) C dX4_digest_109 rfl (by decide) rfl ?_
  refine ww_aload_n C dX4_digest_110 rfl 1 rfl rfl ?_
  refine ww_astore (lv' := [(4, .ref ar), (2, .long (1009 : Int64)), (1, .ref ar), (0, .ref (D 0))]) C dX4_digest_111 (by decide) rfl rfl ?_
  refine ww_aload C dX4_digest_113 0 rfl rfl ?_
  refine ww_alen (t := 0) C dX4_digest_115 (by decide) (Or.inl har) ?_
  refine ww_istore (lv' := [(5, .int (nI 10)), (4, .ref ar), (2, .long (1009 : Int64)), (1, .ref ar), (0, .ref (D 0))]) C dX4_digest_116 (by decide) rfl ?_
  refine ww_iconst C dX4_digest_118 cI_0 ?_
  refine ww_istore (lv' := [(6, .int (nI 0)), (5, .int (nI 10)), (4, .ref ar), (2, .long (1009 : Int64)), (1, .ref ar), (0, .ref (D 0))]) C dX4_digest_119 (by decide) rfl ?_
  refine ww_sub [5, 3, 2, 1, 0] rfl ?_
  refine loop_up (N := 10) (M := fun j => WW X (Rv (Ml (xG X) z h D M (dgA B (M.1 31)))) z h11 0 0 121 [(0, .ref (D 0)), (2, .long (dgL F j)), (4, .ref ar), (5, .int (nI 10)), (6, .int (nI j))] []) ?_ ?_ 0 (Nat.zero_le _) 
  · skip
    show WW X (Rv (Ml (xG X) z h D M (dgA B (M.1 31)))) z h11 0 0 121 [(0, .ref (D 0)), (2, .long (dgL F 10)), (4, .ref ar), (5, .int (nI 10)), (6, .int (nI 10))] []
    refine ww_iload C dX4_digest_121 4 rfl ?_
    refine ww_iload C dX4_digest_123 3 rfl ?_
    refine ww_icmp_ge_t (tgt := 151) C dX4_digest_125 (by decide) (nI_le (Nat.le_refl _) (by decide)) ?_
    have hd1 : dgL F 10 = dgL (dgX B (M.1 31)) 10 := dgL_c 10 hFX
    refine ww_iconst C dX4_digest_151 cI_0 ?_
    refine ww_istore (lv' := [(4, .int (nI 0)), (0, .ref (D 0)), (2, .long (dgL F 10)), (5, .int (nI 10)), (6, .int (nI 10))]) C dX4_digest_152 (by decide) rfl ?_
    refine ww_sub [1, 2, 0] rfl ?_
    refine ww_lv (lv' := [(0, .ref (D 0)), (2, .long (dgC B (dgL (dgX B (M.1 31)) 10) 0)), (4, .int (nI 0))]) (by rw [hd1]; rfl) ?_
    refine loop_up (N := (Bz B)) (M := fun c => WW X (Rv (Ml (xG X) z h D M (dgA B (M.1 31)))) z h11 0 0 154 [(0, .ref (D 0)), (2, .long (dgC B (dgL (dgX B (M.1 31)) 10) c)), (4, .int (nI c))] []) ?_ ?_ 0 (Nat.zero_le _) 
    · skip
      show WW X (Rv (Ml (xG X) z h D M (dgA B (M.1 31)))) z h11 0 0 154 [(0, .ref (D 0)), (2, .long (dgC B (dgL (dgX B (M.1 31)) 10) (Bz B))), (4, .int (nI (Bz B)))] []
      refine ww_iload C dX4_digest_154 2 rfl ?_
      refine ww_aload_n C dX4_digest_156 rfl 0 rfl rfl ?_
      refine cv_X4_307_r (As := []) (rest := [.int (nI (Bz B))]) C dX4_digest_157 (ct_X4_cells (Cx.fl C) (Cx.ok C) hz hPq50 hC) (rc_X4 (Cx.ok C) (Or.inl X0q50)) rfl rfl (Nat.le_of_ble_eq_true rfl) (by decide) (Nat.zero_le _) (Nat.zero_le _) ?_
      refine ww_icmp_ge_t (tgt := 223) C dX4_digest_160 (by decide) (nI_le (Nat.le_refl _) (by omega)) ?_
      refine ww_iconst C dX4_digest_223 cI_0 ?_
      refine ww_istore (lv' := [(4, .int (nI 0)), (0, .ref (D 0)), (2, .long (dgC B (dgL (dgX B (M.1 31)) 10) (Bz B)))]) C dX4_digest_224 (by decide) rfl ?_
      refine ww_sub [1, 2, 0] rfl ?_
      refine ww_lv (lv' := [(0, .ref (D 0)), (2, .long (dgT B (dgC B (dgL (dgX B (M.1 31)) 10) (Bz B)) 0)), (4, .int (nI 0))]) rfl ?_
      refine loop_up (N := (Bt B)) (M := fun t => WW X (Rv (Ml (xG X) z h D M (dgA B (M.1 31)))) z h11 0 0 226 [(0, .ref (D 0)), (2, .long (dgT B (dgC B (dgL (dgX B (M.1 31)) 10) (Bz B)) t)), (4, .int (nI t))] []) ?_ ?_ 0 (Nat.zero_le _) 
      · skip
        show WW X (Rv (Ml (xG X) z h D M (dgA B (M.1 31)))) z h11 0 0 226 [(0, .ref (D 0)), (2, .long (dgT B (dgC B (dgL (dgX B (M.1 31)) 10) (Bz B)) (Bt B))), (4, .int (nI (Bt B)))] []
        refine ww_iload C dX4_digest_226 2 rfl ?_
        refine ww_aload_n C dX4_digest_228 rfl 0 rfl rfl ?_
        refine gf_X4_35_X4 C dX4_digest_229 (Or.inl X0q50) rfl ?_
        refine gf_X4_150_X5 C dX4_digest_232 Htq50 rfl ?_
        refine ww_icmp_ge_t (tgt := 316) C dX4_digest_235 (by decide) (nI_le (Nat.le_refl _) (by omega)) ?_
        refine ww_hs (h' := del h11 ar) (fun q e hq => del_le hq) ?_
        have hXd : Mx (xG X) (del h11 ar) D (J, va_up M.2.1 12 f8, sn8) := ⟨fun i hi => by rw [del_n (arD i hi).symm]; exact hX50.1 i hi, hX50.2⟩
        have hFd9 : FrD h (del h11 ar) D := fun q hq => by by_cases e : q = ar; { rw [e, del_s, ar_n] }; { rw [del_n e]; exact hF50 q hq e }
        have Xd := hXd.m
        refine ww_aload_n C dX4_digest_316 rfl 0 rfl rfl ?_
        refine ww_iconst C dX4_digest_317 cI_0 ?_
        refine pf_X4_65_X4 (fs' := [.int (nI 0), .ref (D 1), .int ((J, va_up M.2.1 12 f8, sn8).1 1), .int ((J, va_up M.2.1 12 f8, sn8).1 2), .ref (D 2), .ref (D 3), .ref (D 4), .ref (D 5), .int ((J, va_up M.2.1 12 f8, sn8).1 3), .int ((J, va_up M.2.1 12 f8, sn8).1 4), .int ((J, va_up M.2.1 12 f8, sn8).1 5), .int ((J, va_up M.2.1 12 f8, sn8).1 6), .int ((J, va_up M.2.1 12 f8, sn8).1 7), .ref (D 6), .ref (D 7), .ref (D 8), .ref (D 9), .ref (D 10), .ref (D 11), .ref (D 12), .ref (D 13), .int ((J, va_up M.2.1 12 f8, sn8).1 8), .int ((J, va_up M.2.1 12 f8, sn8).1 9), .int ((J, va_up M.2.1 12 f8, sn8).1 10)]) C dX4_digest_318 Xd rfl rfl (Nat.le_of_ble_eq_true rfl) rfl ?_
        refine ww_gen (fun h12 hE12 => ?_)
        have Xd_h12 : h12 (D 0) = some (.inr (3, [.int (nI 0), .ref (D 1), .int ((J, va_up M.2.1 12 f8, sn8).1 1), .int ((J, va_up M.2.1 12 f8, sn8).1 2), .ref (D 2), .ref (D 3), .ref (D 4), .ref (D 5), .int ((J, va_up M.2.1 12 f8, sn8).1 3), .int ((J, va_up M.2.1 12 f8, sn8).1 4), .int ((J, va_up M.2.1 12 f8, sn8).1 5), .int ((J, va_up M.2.1 12 f8, sn8).1 6), .int ((J, va_up M.2.1 12 f8, sn8).1 7), .ref (D 6), .ref (D 7), .ref (D 8), .ref (D 9), .ref (D 10), .ref (D 11), .ref (D 12), .ref (D 13), .int ((J, va_up M.2.1 12 f8, sn8).1 8), .int ((J, va_up M.2.1 12 f8, sn8).1 9), .int ((J, va_up M.2.1 12 f8, sn8).1 10)])) := by rw [hE12]; exact up_s
        refine ww_lload_n C dX4_digest_321 rfl 1 rfl ?_
        exact ww_lret C dX4_digest_322 ⟨rfl, rfl, (upd J 0 (nI 0), va_up M.2.1 12 f8, sn8), Mag.i mgq50 (fun j hj => upd_ne (by omega)), rfl, by rw [hE12]; exact hXd.i (j := 0) (by decide) rfl, by rw [hE12]; exact hFd9.w (i := 0) (by decide)⟩
      · intro t hi ih  
        show WW X (Rv (Ml (xG X) z h D M (dgA B (M.1 31)))) z h11 0 0 226 [(0, .ref (D 0)), (2, .long (dgT B (dgC B (dgL (dgX B (M.1 31)) 10) (Bz B)) t)), (4, .int (nI t))] []
        refine ww_iload C dX4_digest_226 2 rfl ?_
        refine ww_aload_n C dX4_digest_228 rfl 0 rfl rfl ?_
        refine gf_X4_35_X4 C dX4_digest_229 (Or.inl X0q50) rfl ?_
        refine gf_X4_150_X5 C dX4_digest_232 Htq50 rfl ?_
        refine ww_icmp_ge_f (tgt := 316) C dX4_digest_235 (by decide) (nI_ge hi (by omega)) ?_
        refine ww_lload_n C dX4_digest_238 rfl 1 rfl ?_
        refine ww_ldc2 C q3364 dX4_digest_239 ?_
        refine ww_lmul C dX4_digest_242 ?_
        refine ww_aload_n C dX4_digest_243 rfl 0 rfl rfl ?_
        refine gf_X4_48_X4 C dX4_digest_244 (Or.inl X0q50) rfl ?_
        refine gf_X4_293_X6 C dX4_digest_247 (Or.inl Hxq50) rfl ?_
        refine ww_iload C dX4_digest_250 2 rfl ?_
        refine ww_iald C dX4_digest_252 (Or.inl Hceq50) (by omega) (by decide) ?_
        refine ww_iconst C dX4_digest_253 cI_m1 ?_
        refine ww_icmp_ne_o (tgt := 261) C dX4_digest_254 (by decide) (fun y q => Nat.lt_trans (bp1 t y q) (by decide)) (fun c_254 => ?_) (fun c_254 => ?_)
        · skip
          obtain ⟨y, hy⟩ := Option.ne_none_iff_exists'.mp c_254
          have htu : tuI B t = nI (Bu B t) := by unfold tuI; rw [hy]; rfl
          refine ww_aload_n C dX4_digest_261 rfl 0 rfl rfl ?_
          refine gf_X4_48_X4 C dX4_digest_262 (Or.inl X0q50) rfl ?_
          refine gf_X4_283_X6 C dX4_digest_265 (Or.inl Hxq50) rfl ?_
          refine ww_iload C dX4_digest_268 2 rfl ?_
          refine ww_iald C dX4_digest_270 (Or.inl Htuq50) (by omega) (by decide) ?_
          refine ww_st (st' := [.int (tuI B t), .long ((dgT B (dgC B (dgL (dgX B (M.1 31)) 10) (Bz B)) t) * (31 : Int64))]) (by rw [htu, ← htt t y hy]) ?_
          refine ww_i2l C dX4_digest_271 rfl ?_
          refine ww_ladd C dX4_digest_272 ?_
          refine ww_ldc2 C q3364 dX4_digest_273 ?_
          refine ww_lmul C dX4_digest_276 ?_
          refine ww_aload_n C dX4_digest_277 rfl 0 rfl rfl ?_
          refine ww_aload_n C dX4_digest_278 rfl 0 rfl rfl ?_
          refine gf_X4_48_X4 C dX4_digest_279 (Or.inl X0q50) rfl ?_
          refine ww_iload C dX4_digest_282 2 rfl ?_
          refine cv_X4_352_r (As := [.ref (D 10), .int (nI t)]) (rest := [.long ((((dgT B (dgC B (dgL (dgX B (M.1 31)) 10) (Bz B)) t) * (31 : Int64)) + ((tuI B t).toInt64)) * (31 : Int64))]) C dX4_digest_284 (ct_X4_ways (Cx.fl C) (Cx.ok C) hz hPq50 hC hi) (rc_X4 (Cx.ok C) (Or.inl X0q50)) rfl rfl (Nat.le_of_ble_eq_true rfl) (by decide) (Nat.zero_le _) (Nat.zero_le _) ?_
          refine ww_i2l C dX4_digest_287 rfl ?_
          refine ww_ladd C dX4_digest_288 ?_
          refine ww_ldc2 C q3364 dX4_digest_289 ?_
          refine ww_lmul C dX4_digest_292 ?_
          refine ww_aload_n C dX4_digest_293 rfl 0 rfl rfl ?_
          refine ww_iload C dX4_digest_294 2 rfl ?_
          refine cv_X4_409_r (As := [.int (nI t)]) (rest := [.long ((((((dgT B (dgC B (dgL (dgX B (M.1 31)) 10) (Bz B)) t) * (31 : Int64)) + ((tuI B t).toInt64)) * (31 : Int64)) + ((nI (wyN B t)).toInt64)) * (31 : Int64))]) C dX4_digest_296 (ct_X4_leftover (Cx.fl C) (Cx.ok C) hz (Or.inl X0q50) hRq50 hC hi) (rc_X4 (Cx.ok C) (Or.inl X0q50)) rfl rfl (Nat.le_of_ble_eq_true rfl) (by decide) (Nat.zero_le _) (Nat.zero_le _) ?_
          refine ww_tern_eq_b C dX4_digest_299 dX4_digest_302 dX4_digest_303 dX4_digest_306 ?_
          refine ww_i2l C dX4_digest_307 rfl ?_
          refine ww_ladd C dX4_digest_308 ?_
          refine ww_lstore_n (lv' := [(2, .long (((((((dgT B (dgC B (dgL (dgX B (M.1 31)) 10) (Bz B)) t) * (31 : Int64)) + ((tuI B t).toInt64)) * (31 : Int64)) + ((nI (wyN B t)).toInt64)) * (31 : Int64)) + ((bI (lfN B t)).toInt64))), (0, .ref (D 0)), (4, .int (nI t))]) C dX4_digest_309 rfl (by decide) rfl ?_
          refine ww_iinc (lv' := [(4, .int (nI (t + 1))), (2, .long (((((((dgT B (dgC B (dgL (dgX B (M.1 31)) 10) (Bz B)) t) * (31 : Int64)) + ((tuI B t).toInt64)) * (31 : Int64)) + ((nI (wyN B t)).toInt64)) * (31 : Int64)) + ((bI (lfN B t)).toInt64))), (0, .ref (D 0))]) C dX4_digest_310 2 rfl (inc_n _) (by decide) rfl ?_
          refine ww_goto (tgt := 226) C dX4_digest_313 (by decide) ?_
          refine ww_sub [2, 1, 0] rfl ?_
          exact ww_lv (lv' := [(0, .ref (D 0)), (2, .long (dgT B (dgC B (dgL (dgX B (M.1 31)) 10) (Bz B)) (t + 1))), (4, .int (nI (t + 1)))]) (by rfl) ih
        · skip
          have htu : tuI B t = -1 := by unfold tuI; rw [c_254]; rfl
          refine ww_iconst C dX4_digest_257 cI_m1 ?_
          refine ww_goto (tgt := 271) C dX4_digest_258 (by decide) ?_
          refine ww_st (st' := [.int (tuI B t), .long ((dgT B (dgC B (dgL (dgX B (M.1 31)) 10) (Bz B)) t) * (31 : Int64))]) (by rw [htu]) ?_
          refine ww_i2l C dX4_digest_271 rfl ?_
          refine ww_ladd C dX4_digest_272 ?_
          refine ww_ldc2 C q3364 dX4_digest_273 ?_
          refine ww_lmul C dX4_digest_276 ?_
          refine ww_aload_n C dX4_digest_277 rfl 0 rfl rfl ?_
          refine ww_aload_n C dX4_digest_278 rfl 0 rfl rfl ?_
          refine gf_X4_48_X4 C dX4_digest_279 (Or.inl X0q50) rfl ?_
          refine ww_iload C dX4_digest_282 2 rfl ?_
          refine cv_X4_352_r (As := [.ref (D 10), .int (nI t)]) (rest := [.long ((((dgT B (dgC B (dgL (dgX B (M.1 31)) 10) (Bz B)) t) * (31 : Int64)) + ((tuI B t).toInt64)) * (31 : Int64))]) C dX4_digest_284 (ct_X4_ways (Cx.fl C) (Cx.ok C) hz hPq50 hC hi) (rc_X4 (Cx.ok C) (Or.inl X0q50)) rfl rfl (Nat.le_of_ble_eq_true rfl) (by decide) (Nat.zero_le _) (Nat.zero_le _) ?_
          refine ww_i2l C dX4_digest_287 rfl ?_
          refine ww_ladd C dX4_digest_288 ?_
          refine ww_ldc2 C q3364 dX4_digest_289 ?_
          refine ww_lmul C dX4_digest_292 ?_
          refine ww_aload_n C dX4_digest_293 rfl 0 rfl rfl ?_
          refine ww_iload C dX4_digest_294 2 rfl ?_
          refine cv_X4_409_r (As := [.int (nI t)]) (rest := [.long ((((((dgT B (dgC B (dgL (dgX B (M.1 31)) 10) (Bz B)) t) * (31 : Int64)) + ((tuI B t).toInt64)) * (31 : Int64)) + ((nI (wyN B t)).toInt64)) * (31 : Int64))]) C dX4_digest_296 (ct_X4_leftover (Cx.fl C) (Cx.ok C) hz (Or.inl X0q50) hRq50 hC hi) (rc_X4 (Cx.ok C) (Or.inl X0q50)) rfl rfl (Nat.le_of_ble_eq_true rfl) (by decide) (Nat.zero_le _) (Nat.zero_le _) ?_
          refine ww_tern_eq_b C dX4_digest_299 dX4_digest_302 dX4_digest_303 dX4_digest_306 ?_
          refine ww_i2l C dX4_digest_307 rfl ?_
          refine ww_ladd C dX4_digest_308 ?_
          refine ww_lstore_n (lv' := [(2, .long (((((((dgT B (dgC B (dgL (dgX B (M.1 31)) 10) (Bz B)) t) * (31 : Int64)) + ((tuI B t).toInt64)) * (31 : Int64)) + ((nI (wyN B t)).toInt64)) * (31 : Int64)) + ((bI (lfN B t)).toInt64))), (0, .ref (D 0)), (4, .int (nI t))]) C dX4_digest_309 rfl (by decide) rfl ?_
          refine ww_iinc (lv' := [(4, .int (nI (t + 1))), (2, .long (((((((dgT B (dgC B (dgL (dgX B (M.1 31)) 10) (Bz B)) t) * (31 : Int64)) + ((tuI B t).toInt64)) * (31 : Int64)) + ((nI (wyN B t)).toInt64)) * (31 : Int64)) + ((bI (lfN B t)).toInt64))), (0, .ref (D 0))]) C dX4_digest_310 2 rfl (inc_n _) (by decide) rfl ?_
          refine ww_goto (tgt := 226) C dX4_digest_313 (by decide) ?_
          refine ww_sub [2, 1, 0] rfl ?_
          exact ww_lv (lv' := [(0, .ref (D 0)), (2, .long (dgT B (dgC B (dgL (dgX B (M.1 31)) 10) (Bz B)) (t + 1))), (4, .int (nI (t + 1)))]) (by rfl) ih
    · intro c hi ih  
      show WW X (Rv (Ml (xG X) z h D M (dgA B (M.1 31)))) z h11 0 0 154 [(0, .ref (D 0)), (2, .long (dgC B (dgL (dgX B (M.1 31)) 10) c)), (4, .int (nI c))] []
      refine ww_iload C dX4_digest_154 2 rfl ?_
      refine ww_aload_n C dX4_digest_156 rfl 0 rfl rfl ?_
      refine cv_X4_307_r (As := []) (rest := [.int (nI c)]) C dX4_digest_157 (ct_X4_cells (Cx.fl C) (Cx.ok C) hz hPq50 hC) (rc_X4 (Cx.ok C) (Or.inl X0q50)) rfl rfl (Nat.le_of_ble_eq_true rfl) (by decide) (Nat.zero_le _) (Nat.zero_le _) ?_
      refine ww_icmp_ge_f (tgt := 223) C dX4_digest_160 (by decide) (nI_ge hi (by omega)) ?_
      refine ww_lload_n C dX4_digest_163 rfl 1 rfl ?_
      refine ww_ldc2 C q3364 dX4_digest_164 ?_
      refine ww_lmul C dX4_digest_167 ?_
      refine ww_aload_n C dX4_digest_168 rfl 0 rfl rfl ?_
      refine gf_X4_48_X4 C dX4_digest_169 (Or.inl X0q50) rfl ?_
      refine gf_X4_280_X6 C dX4_digest_172 (Or.inl Hxq50) rfl ?_
      refine ww_iload C dX4_digest_175 2 rfl ?_
      refine ww_iald C dX4_digest_177 (Or.inl Hatq50) (by omega) (by decide) ?_
      refine ww_i2l C dX4_digest_178 rfl ?_
      refine ww_ladd C dX4_digest_179 ?_
      refine ww_ldc2 C q3364 dX4_digest_180 ?_
      refine ww_lmul C dX4_digest_183 ?_
      refine ww_aload_n C dX4_digest_184 rfl 0 rfl rfl ?_
      refine ww_iload C dX4_digest_185 2 rfl ?_
      refine cv_X4_397_r (As := [.int (nI c)]) (rest := [.long ((((dgC B (dgL (dgX B (M.1 31)) 10) c) * (31 : Int64)) + ((oI (atO B c)).toInt64)) * (31 : Int64))]) C dX4_digest_187 (ct_X4_matchesAt (Cx.fl C) (Cx.ok C) hz (Or.inl X0q50) hRq50 hC (by omega)) (rc_X4 (Cx.ok C) (Or.inl X0q50)) rfl rfl (Nat.le_of_ble_eq_true rfl) (by decide) (Nat.zero_le _) (Nat.zero_le _) ?_
      refine ww_i2l C dX4_digest_190 rfl ?_
      refine ww_ladd C dX4_digest_191 ?_
      refine ww_ldc2 C q3364 dX4_digest_192 ?_
      refine ww_lmul C dX4_digest_195 ?_
      refine ww_aload_n C dX4_digest_196 rfl 0 rfl rfl ?_
      refine ww_aload_n C dX4_digest_197 rfl 0 rfl rfl ?_
      refine gf_X4_48_X4 C dX4_digest_198 (Or.inl X0q50) rfl ?_
      refine ww_iload C dX4_digest_201 2 rfl ?_
      refine cv_X4_314_r (As := [.ref (D 10), .int (nI c)]) (rest := [.long ((((((dgC B (dgL (dgX B (M.1 31)) 10) c) * (31 : Int64)) + ((oI (atO B c)).toInt64)) * (31 : Int64)) + ((nI (moN B c)).toInt64)) * (31 : Int64))]) C dX4_digest_203 (ct_X4_ring (Cx.fl C) (Cx.ok C) hz hPq50 hC (by omega)) (rc_X4 (Cx.ok C) (Or.inl X0q50)) rfl rfl (Nat.le_of_ble_eq_true rfl) (by decide) (Nat.zero_le _) (Nat.zero_le _) ?_
      refine ww_tern_eq_b C dX4_digest_206 dX4_digest_209 dX4_digest_210 dX4_digest_213 ?_
      refine ww_i2l C dX4_digest_214 rfl ?_
      refine ww_ladd C dX4_digest_215 ?_
      refine ww_lstore_n (lv' := [(2, .long (((((((dgC B (dgL (dgX B (M.1 31)) 10) c) * (31 : Int64)) + ((oI (atO B c)).toInt64)) * (31 : Int64)) + ((nI (moN B c)).toInt64)) * (31 : Int64)) + ((bI (riN B c)).toInt64))), (0, .ref (D 0)), (4, .int (nI c))]) C dX4_digest_216 rfl (by decide) rfl ?_
      refine ww_iinc (lv' := [(4, .int (nI (c + 1))), (2, .long (((((((dgC B (dgL (dgX B (M.1 31)) 10) c) * (31 : Int64)) + ((oI (atO B c)).toInt64)) * (31 : Int64)) + ((nI (moN B c)).toInt64)) * (31 : Int64)) + ((bI (riN B c)).toInt64))), (0, .ref (D 0))]) C dX4_digest_217 2 rfl (inc_n _) (by decide) rfl ?_
      refine ww_goto (tgt := 154) C dX4_digest_220 (by decide) ?_
      refine ww_sub [2, 1, 0] rfl ?_
      exact ww_lv (lv' := [(0, .ref (D 0)), (2, .long (dgC B (dgL (dgX B (M.1 31)) 10) (c + 1))), (4, .int (nI (c + 1)))]) (by rfl) ih
  · intro j hi ih  
    show WW X (Rv (Ml (xG X) z h D M (dgA B (M.1 31)))) z h11 0 0 121 [(0, .ref (D 0)), (2, .long (dgL F j)), (4, .ref ar), (5, .int (nI 10)), (6, .int (nI j))] []
    refine ww_iload C dX4_digest_121 4 rfl ?_
    refine ww_iload C dX4_digest_123 3 rfl ?_
    refine ww_icmp_ge_f (tgt := 151) C dX4_digest_125 (by decide) (nI_ge hi (by decide)) ?_
    refine ww_aload C dX4_digest_128 2 rfl rfl ?_
    refine ww_iload C dX4_digest_130 4 rfl ?_
    refine ww_iald C dX4_digest_132 (Or.inl har) (by omega) (by decide) ?_
    refine ww_istore (lv' := [(7, .int (F j)), (0, .ref (D 0)), (2, .long (dgL F j)), (4, .ref ar), (5, .int (nI 10)), (6, .int (nI j))]) C dX4_digest_133 (by decide) rfl ?_
    refine ww_lload_n C dX4_digest_135 rfl 2 rfl ?_
    refine ww_ldc2 C q3364 dX4_digest_136 ?_
    refine ww_lmul C dX4_digest_139 ?_
    refine ww_iload C dX4_digest_140 0 rfl ?_
    refine ww_i2l C dX4_digest_142 rfl ?_
    refine ww_ladd C dX4_digest_143 ?_
    refine ww_lstore_n (lv' := [(2, .long (((dgL F j) * (31 : Int64)) + ((F j).toInt64))), (7, .int (F j)), (0, .ref (D 0)), (4, .ref ar), (5, .int (nI 10)), (6, .int (nI j))]) C dX4_digest_144 rfl (by decide) rfl ?_
    refine ww_iinc (lv' := [(6, .int (nI (j + 1))), (2, .long (((dgL F j) * (31 : Int64)) + ((F j).toInt64))), (7, .int (F j)), (0, .ref (D 0)), (4, .ref ar), (5, .int (nI 10))]) C dX4_digest_145 5 rfl (inc_n _) (by decide) rfl ?_
    refine ww_goto (tgt := 121) C dX4_digest_148 (by decide) ?_
    refine ww_sub [3, 1, 4, 5, 0] rfl ?_
    exact ww_lv (lv' := [(0, .ref (D 0)), (2, .long (dgL F (j + 1))), (4, .ref ar), (5, .int (nI 10)), (6, .int (nI (j + 1)))]) (by rfl) ih
end DIG2
