section EV7
set_option maxRecDepth 100000
/-- nothing but a Game's own cells has changed -/
def FrG (g : Nat) (A : Nat → Nat) (h h' : AH) : Prop := ∀ a e, h a = some e → a ≠ g → a ≠ A 4 → a ≠ A 6 → a ≠ A 8 → h' a = some e
theorem FrG.rf {g : Nat} {A : Nat → Nat} {h : AH} : FrG g A h h := fun _ _ q _ _ _ _ => q
theorem FrG.tr {g : Nat} {A : Nat → Nat} {h h1 h2 : AH} (q1 : FrG g A h h1) (q2 : FrG g A h1 h2) : FrG g A h h2 := fun a e q n1 n2 n3 n4 => q2 a e (q1 a e q n1 n2 n3 n4) n1 n2 n3 n4
theorem FrG.gm {Γ : Gm} {G : GG} {B : GB} {g : Nat} {A : Nat → Nat} {h : AH} : FrG g A h (gmH Γ h A G B) := fun a e q _ n2 n3 n4 => by rw [gmH_n n2 n3 n4]; exact q
theorem FrG.g {g : Nat} {A : Nat → Nat} {h : AH} {e : va_E} : FrG g A h (up h g e) := fun a e q n1 _ _ _ => by rw [up_n n1]; exact q
theorem FrG.up {g it : Nat} {A : Nat → Nat} {h h1 : AH} {e : va_E} (q1 : FrG g A h h1) (hn : h it = none) : FrG g A h (up h1 it e) := fun a e q n1 n2 n3 n4 => by
  rw [up_n (ne_nw q hn)]; exact q1 a e q n1 n2 n3 n4
theorem ALm.mo {Γ : Gm} {h h' : AH} {a arr n : Nat} {md : Int32} {cap : Nat} {xs : Nat → Nat} (hL : ALm Γ h a arr n md cap xs) (hh : ∀ a e, h a = some e → (e = cAL md arr n ∨ ∃ f, e = cAr Γ cap f) → h' a = some e) : ALm Γ h' a arr n md cap xs := by
  obtain ⟨q1, q2, q3⟩ := hL
  refine ⟨hh _ _ q1 (Or.inl rfl), ?_, q3⟩
  rcases q2 with ⟨q, q'⟩ | q
  · exact Or.inl ⟨hh _ _ q (Or.inr ⟨_, rfl⟩), q'⟩
  · exact Or.inr q
theorem GmM.it {Γ : Gm} {z : ZR} {h : AH} {g : Nat} {A : Nat → Nat} {B : GB} {G : GG} {rn dn : Int32} {it : Nat} {e : va_E} (hG : GmM Γ z h g A B G rn dn) (hi : h it = none ∨ ∃ fs, h it = some (.inr (31, fs))) : GmM Γ z (up h it e) g A B G rn dn := by
  obtain ⟨h1, h2, h3, h4, h5, h6, h7, h8⟩ := hG
  have k : ∀ a e', h a = some e' → (∀ fs, ¬ e' = .inr (31, fs)) → up h it e a = some e' := fun a e' q ne => by
    rw [up_n]
    · exact q
    · rcases hi with hi | ⟨fs, hi⟩
      · exact ne_nw q hi
      · exact ne_ob q hi (ne fs)
  have kL : ∀ {md : Int32} {arr n cap : Nat}, ∀ a e', h a = some e' → (e' = cAL md arr n ∨ ∃ f, e' = cAr Γ cap f) → up h it e a = some e' := fun a e' q o => k a e' q (fun fs q' => by
    rcases o with o | ⟨f, o⟩ <;> rw [o] at q' <;> simp [cAL, cAr] at q')
  exact ⟨k _ _ h1 (fun fs q => by simp [cGm] at q), k _ _ h2 (fun fs q => by simp [cLi] at q), h3.mo kL, h4, h5.mo kL, h6.mo kL, h7.mo kL, h8⟩
theorem GmM.wg {Γ : Gm} {z : ZR} {h : AH} {g : Nat} {A : Nat → Nat} {B : GB} {G : GG} {rn dn rn' dn' : Int32} (hG : GmM Γ z h g A B G rn dn) : GmM Γ z (up h g (cGm A B rn' dn')) g A B G rn' dn' := by
  obtain ⟨h1, h2, h3, h4, h5, h6, h7, h8⟩ := hG
  have k : ∀ a e', h a = some e' → (¬ e' = cGm A B rn dn) → up h g (cGm A B rn' dn') a = some e' := fun a e' q ne => by
    rw [up_n (ne_ob q h1 ne)]; exact q
  have kL : ∀ {md : Int32} {arr n cap : Nat}, ∀ a e', h a = some e' → (e' = cAL md arr n ∨ ∃ f, e' = cAr Γ cap f) → up h g (cGm A B rn' dn') a = some e' := fun a e' q o => k a e' q (fun q' => by
    rcases o with o | ⟨f, o⟩ <;> rw [o] at q' <;> simp [cAL, cAr, cGm] at q')
  exact ⟨up_s, k _ _ h2 (fun q => by simp [cLi, cGm] at q), h3.mo kL, h4, h5.mo kL, h6.mo kL, h7.mo kL, h8⟩
theorem GmM.itn {Γ : Gm} {z : ZR} {h : AH} {g : Nat} {A : Nat → Nat} {B : GB} {G : GG} {rn dn : Int32} {it k : Nat} {fs : List Value} (hG : GmM Γ z h g A B G rn dn) (hk : k < Bt B) (hi : h it = some (.inr (31, fs))) : it ≠ A 4 ∧ it ≠ A 6 ∧ it ≠ A 8 := by
  obtain ⟨h1, h2, h3, h4, h5, h6, h7, h8⟩ := hG
  exact ⟨ne_ob hi h2 (by simp [cLi]), ne_ob hi (h6.ow hk).1 (by simp [cAr]), ne_ob hi (h7.ow hk).1 (by simp [cAr])⟩
theorem cr_168 {X : XT} {P : Oc → ZR → AH → Prop} {kc ns pc nL d : Nat} {lv : List (Nat × Value)} {cc : ByteArray} {mn : String} {ret : Option FieldType} {hh : List (Nat × Nat × Nat × Nat)} (C : Cx X cc nL "RingDomino$Game" mn ret hh d) {z : ZR} {h : AH} {g : Nat} {A : Nat → Nat} {B : GB} {G : GG} {rn dn : Int32} {T : TD} {k o N c1 c2 c3 te : Nat} {rest st0 : List Value} (hd : decode cc pc = .ok (.invokevirtual 168, 3)) (hz : zle (cst (xG X)) z) (hM : GmM (xG X) z h g A B G rn dn) (hC : BC B) (hS : TdS B T) (hR : TdR T) (hk : k < T.1.1) (ht : teB T (evN B rn T k) k = true) (Ho : z o (.inr (15, [.ref (gE (xG X) (crE (T.2.1 21 k))), .int (nI (T.2.1 22 k)), .ref c1, .ref c2, .ref c3, .ref te]))) (hO : T.2.1 21 k = 0 → SuO (xG X) z true T N c1 (T.2.1 25 (3 * k)) ∧ SuO (xG X) z true T N c2 (T.2.1 25 (3 * k + 1)) ∧ SuO (xG X) z true T N c3 (T.2.1 25 (3 * k + 2))) (hs : st0 = [Value.ref g, Value.ref o].reverse ++ .ref (gE (xG X) (crE (T.2.1 21 k))) :: rest) (hst : (rest.map fun v => v.category).sum ≤ 8) (hdy : 5 * N + 30 ≤ d) (hmc : 2 ≤ kc) (hms : 3 ≤ ns) (kk : ∀ z' h', zle z z' → h' = (if (coR B rn T k).1 then gmH (xG X) h A G (coR B rn T k).2 else h) → WW X P z' h' (kc - 2) (ns - 3) (pc + 3) lv (.int (bI (coR B rn T k).1) :: rest)) : WW X P z h kc ns pc lv st0 := by
  obtain ⟨-, -, s3, s4, -⟩ := hS.2.2 k hk
  obtain ⟨-, -, r3⟩ := hR k hk
  rcases (show T.2.1 21 k = 0 ∨ T.2.1 21 k = 1 ∨ T.2.1 21 k = 2 by omega) with h0 | h0 | h0
  · have e : crE (T.2.1 21 k) = 10 := by rw [h0]; rfl
    rw [e] at Ho hs
    rw [cor_0 ht h0] at kk
    exact cy_X3_168_X26_q (As := [.ref g, .ref o]) C hd (ct_X26_carry (Cx.fl C) (Cx.ok C) hz hM hC s3 (Or.inr Ho) (SmC.of (Cx.fl C) (Cx.ok C) hz (GmM.p hz hM) hC (ev_P (rn := rn) hS hR hk) N _ _ (r3 h0 0 (by decide)).1 (r3 h0 0 (by decide)).2 (hO h0).1) (SmC.of (Cx.fl C) (Cx.ok C) hz (GmM.p hz hM) hC (ev_P (rn := rn) hS hR hk) N _ _ (r3 h0 1 (by decide)).1 (r3 h0 1 (by decide)).2 (hO h0).2.1) (SmC.of (Cx.fl C) (Cx.ok C) hz (GmM.p hz hM) hC (ev_P (rn := rn) hS hR hk) N _ _ (r3 h0 2 (by decide)).1 (r3 h0 2 (by decide)).2 (hO h0).2.2) (Nat.le_refl _)) (rcv_ex (Cx.ok C) (k := 10) rfl (by decide +kernel) : rcv (xG X) _ _ (gE (xG X) 10) "RingDomino$Craft$1") rfl hs hst (by omega) (by omega) (by omega) (fun v z' h' q => by
      obtain ⟨rfl, q2, q3⟩ := q
      exact ww_le (kc' := kc - 2) (ns' := ns - 3) (by omega) (by omega) (kk z' h' q2 q3))
  · have e : crE (T.2.1 21 k) = 20 := by rw [h0]; rfl
    rw [e] at Ho hs
    rw [cor_1 ht h0] at kk
    exact cy_X3_168_X28_q (As := [.ref g, .ref o]) C hd (ct_X28_carry (Cx.fl C) (Cx.ok C) hz hM hC s3 (Or.inr Ho)  (Nat.le_refl _)) (rcv_ex (Cx.ok C) (k := 20) rfl (by decide +kernel) : rcv (xG X) _ _ (gE (xG X) 20) "RingDomino$Craft$2") rfl hs hst (by omega) (by omega) (by omega) (fun v z' h' q => by
      obtain ⟨rfl, q2, q3⟩ := q
      exact ww_le (kc' := kc - 2) (ns' := ns - 3) (by omega) (by omega) (kk z' h' q2 q3))
  · have e : crE (T.2.1 21 k) = 21 := by rw [h0]; rfl
    rw [e] at Ho hs
    rw [cor_2 ht h0] at kk
    exact cy_X3_168_X29_q (As := [.ref g, .ref o]) C hd (ct_X29_carry (Cx.fl C) (Cx.ok C) hz hM hC s3 (Or.inr Ho)  (Nat.le_refl _)) (rcv_ex (Cx.ok C) (k := 21) rfl (by decide +kernel) : rcv (xG X) _ _ (gE (xG X) 21) "RingDomino$Craft$3") rfl hs hst (by omega) (by omega) (by omega) (fun v z' h' q => by
      obtain ⟨rfl, q2, q3⟩ := q
      exact ww_le (kc' := kc - 2) (ns' := ns - 3) (by omega) (by omega) (kk z' h' q2 q3))
set_option maxHeartbeats 2000000 in
theorem ct_X3_play {l : Launch} {Γ : Gm} (hl : l.flags = flags0) (hΓ : GOK Γ) {z : ZR} {h : AH} {g n N : Nat} {A : Nat → Nat} {B : GB} {G : GG} {rn dn : Int32} {T : TD} {d9 : Nat} (hz : zle (cst Γ) z) (hM : GmM Γ z h g A B G rn dn) (hC : BC B) (hS : TdS B T) (hR : TdR T) (hG2 : G.2.2 = T.1.1) (hO : ∀ k, k < T.1.1 → OrO Γ z T N (A (200 + k)) k) (hn : n < 2 ^ 31) (hd9 : 5 * N + 30 ≤ d9) : Ct l Γ yX3_play cX3_play 5 none d9 (n * (1 + 2 * T.1.1)) (n * (4 + 3 * T.1.1)) [.ref g, .int (nI n)] z h (Rn (fun z' h' => z' = z ∧ GmM Γ z h' g A (plN_ T B rn n).2 G (rn + nI n) (dn + nI (plN_ T B rn n).1) ∧ FrG g A h h')) := by
  refine Ct.of hl hΓ (by decide +kernel) (Nat.le_of_ble_eq_true rfl) (fun X e1 e2 C => ?_)
  subst e1; subst e2
  have C : Cx X cX3_play 5 "RingDomino$Game" "play" none [] d9 := C
  show WW X (Rn (fun z' h' => z' = z ∧ GmM (xG X) z h' g A (plN_ T B rn n).2 G (rn + nI n) (dn + nI (plN_ T B rn n).1) ∧ FrG g A h h')) z h (n * (1 + 2 * T.1.1)) (n * (4 + 3 * T.1.1)) 0 [(0, .ref g), (1, .int (nI n))] []
  refine ww_z0 (fun hz0 => ?_)
  have hT16 := hS.1
  refine ww_iconst C dX3_play_0 cI_0 ?_
  refine ww_istore_n (lv' := [(2, .int (nI 0)), (0, .ref g), (1, .int (nI n))]) C dX3_play_1 rfl (by decide) rfl ?_
  refine ww_le (kc' := (n - 0) * (1 + 2 * T.1.1)) (ns' := (n - 0) * (4 + 3 * T.1.1)) (by rw [Nat.sub_zero]; exact Nat.le_refl _) (by rw [Nat.sub_zero]; exact Nat.le_refl _) ?_
  refine loop_up (N := n) (M := fun ri => ∀ (h1 : AH), (GmM (xG X) z h1 g A (plN_ T B rn ri).2 G (rn + nI ri) (dn + nI (plN_ T B rn ri).1)) → (FrG g A h h1) → WW X (Rn (fun z' h' => z' = z ∧ GmM (xG X) z h' g A (plN_ T B rn n).2 G (rn + nI n) (dn + nI (plN_ T B rn n).1) ∧ FrG g A h h')) z h1 ((n - ri) * (1 + 2 * T.1.1)) ((n - ri) * (4 + 3 * T.1.1)) 2 [(2, .int (nI ri)), (0, .ref g), (1, .int (nI n))] []) ?_ ?_ 0 (Nat.zero_le _) h (by show GmM _ z h g A B G (rn + nI 0) (dn + nI 0); rw [nI_0, Int32.add_zero, Int32.add_zero]; exact hM) FrG.rf
  · intro h1 hv1 hv2
    show WW X (Rn (fun z' h' => z' = z ∧ GmM (xG X) z h' g A (plN_ T B rn n).2 G (rn + nI n) (dn + nI (plN_ T B rn n).1) ∧ FrG g A h h')) z h1 ((n - n) * (1 + 2 * T.1.1)) ((n - n) * (4 + 3 * T.1.1)) 2 [(2, .int (nI n)), (0, .ref g), (1, .int (nI n))] []
    refine ww_iload_n C dX3_play_2 rfl 0 rfl ?_
    refine ww_iload_n C dX3_play_3 rfl 2 rfl ?_
    refine ww_icmp_ge_t (tgt := 92) C dX3_play_4 (by decide) (nI_le (Nat.le_refl _) (by omega)) ?_
    exact ww_vret C dX3_play_92 ⟨rfl, hv1, hv2⟩
  · intro ri hi ih h1 hv1 hv2
    show WW X (Rn (fun z' h' => z' = z ∧ GmM (xG X) z h' g A (plN_ T B rn n).2 G (rn + nI n) (dn + nI (plN_ T B rn n).1) ∧ FrG g A h h')) z h1 ((n - ri) * (1 + 2 * T.1.1)) ((n - ri) * (4 + 3 * T.1.1)) 2 [(2, .int (nI ri)), (0, .ref g), (1, .int (nI n))] []
    refine ww_iload_n C dX3_play_2 rfl 0 rfl ?_
    refine ww_iload_n C dX3_play_3 rfl 2 rfl ?_
    refine ww_icmp_ge_f (tgt := 92) C dX3_play_4 (by decide) (nI_ge hi (by omega)) ?_
    have hb1 : (n - ri) * (1 + 2 * T.1.1) = (n - (ri + 1)) * (1 + 2 * T.1.1) + (1 + 2 * T.1.1) := by rw [show n - ri = n - (ri + 1) + 1 by omega, Nat.succ_mul]
    have hb2 : (n - ri) * (4 + 3 * T.1.1) = (n - (ri + 1)) * (4 + 3 * T.1.1) + (4 + 3 * T.1.1) := by rw [show n - ri = n - (ri + 1) + 1 by omega, Nat.succ_mul]
    obtain ⟨b1, b2, b3, b4⟩ := plN_ok hC (rn := rn) hS ri
    obtain ⟨B1, hB1⟩ : ∃ x, x = (plN_ T B rn ri).2 := ⟨_, rfl⟩
    obtain ⟨rn1, hrn1⟩ : ∃ x, x = rn + nI ri := ⟨_, rfl⟩
    obtain ⟨dn1, hdn1⟩ : ∃ x, x = dn + nI (plN_ T B rn ri).1 := ⟨_, rfl⟩
    rw [← hB1, ← hrn1, ← hdn1] at hv1; rw [← hB1] at b1 b2 b3
    have hS1 := hS.c b2
    have Hl := hv1.2.2.2.2.1
    have Hg : h1 g = some (.inr (2, [.int (nI (Bc B1)), .int (nI (Br B1)), .ref (A 0), .ref (A 2), .int rn1, .int dn1, .ref (A 4), .ref (A 5), .ref (A 7)])) := hv1.1
    refine ww_aload_n C dX3_play_7 rfl 1 rfl rfl ?_
    refine gf_X3_25_X3 C dX3_play_8 (Or.inl Hg) rfl ?_
    refine cv_X3_139_q (As := []) (rest := []) C dX3_play_11 (ct_J2_iterator (Cx.fl C) (Cx.ok C) Hl.1) (rc_J2 (Cx.ok C) (Or.inl Hl.1)) rfl rfl (Nat.le_of_ble_eq_true rfl) (by omega) (by omega) (by omega) (fun v z2 h2 q => ?_)
    obtain ⟨it, rfl, hq1, hq2, hq3⟩ := q; replace hq1 := hq1.symm; subst hq1
    refine ww_le (kc' := (n - (ri + 1)) * (1 + 2 * T.1.1) + 2 * (T.1.1 - 0)) (ns' := (n - (ri + 1)) * (4 + 3 * T.1.1) + 3 * (T.1.1 - 0)) (by omega) (by omega) ?_
    refine ww_astore_n (lv' := [(3, .ref it), (2, .int (nI ri)), (0, .ref g), (1, .int (nI n))]) C dX3_play_14 rfl (by decide) rfl rfl ?_
    refine loop_up (N := T.1.1) (M := fun k => ∀ (h3 : AH), (GmM (xG X) z h3 g A (plR B1 rn1 T k).2 G rn1 (dn1 + nI (plR B1 rn1 T k).1)) → (FrG g A h1 h3) → (∃ lr, h3 it = some (.inr (31, [.int (nI k), .int lr, .int (G.1 1), .ref (A 2)]))) → WW X (Rn (fun z' h' => z' = z ∧ GmM (xG X) z h' g A (plN_ T B rn n).2 G (rn + nI n) (dn + nI (plN_ T B rn n).1) ∧ FrG g A h h')) z h3 ((n - (ri + 1)) * (1 + 2 * T.1.1) + 2 * (T.1.1 - k)) ((n - (ri + 1)) * (4 + 3 * T.1.1) + 3 * (T.1.1 - k)) 15 [(3, .ref it), (2, .int (nI ri)), (0, .ref g), (1, .int (nI n))] []) ?_ ?_ 0 (Nat.zero_le _) h2 (by rw [hq3]; show GmM _ _ _ _ _ B1 _ rn1 (dn1 + nI 0); rw [nI_0, Int32.add_zero]; exact hv1.it (Or.inl hq2)) (by rw [hq3]; exact FrG.rf.up hq2) ⟨_, by rw [hq3]; exact up_s⟩
    · intro h3 hw1 hw2 hw3
      show WW X (Rn (fun z' h' => z' = z ∧ GmM (xG X) z h' g A (plN_ T B rn n).2 G (rn + nI n) (dn + nI (plN_ T B rn n).1) ∧ FrG g A h h')) z h3 ((n - (ri + 1)) * (1 + 2 * T.1.1) + 2 * (T.1.1 - T.1.1)) ((n - (ri + 1)) * (4 + 3 * T.1.1) + 3 * (T.1.1 - T.1.1)) 15 [(3, .ref it), (2, .int (nI ri)), (0, .ref g), (1, .int (nI n))] []
      obtain ⟨lr, hw3⟩ := hw3
      have Hl3 := hw1.2.2.2.2.1
      refine ww_aload_n C dX3_play_15 rfl 0 rfl rfl ?_
      refine cf_X3_143_J32_r (As := []) (rest := []) C dX3_play_16 (ct_J32_hasNext (Cx.fl C) (Cx.ok C) Hl3 hw3 (by omega) (by omega)) (rc_J32 (Cx.ok C) (Or.inl hw3)) rfl rfl (Nat.le_of_ble_eq_true rfl) (by omega) (Nat.zero_le _) (Nat.zero_le _) ?_
      refine ww_if_eq_t (tgt := 76) C dX3_play_21 (by decide) (by rw [decide_eq_false (show ¬ T.1.1 < G.2.2 by omega)]; rfl) ?_
      have Hg3 : h3 g = some (.inr (2, [.int (nI (Bc ((plR B1 rn1 T T.1.1).2))), .int (nI (Br ((plR B1 rn1 T T.1.1).2))), .ref (A 0), .ref (A 2), .int rn1, .int (dn1 + nI (plR B1 rn1 T T.1.1).1), .ref (A 4), .ref (A 5), .ref (A 7)])) := hw1.1
      refine ww_aload_n C dX3_play_76 rfl 2 rfl rfl ?_
      refine ww_dup C dX3_play_77 rfl ?_
      refine gf_X3_177_X3 C dX3_play_78 (Or.inl Hg3) rfl ?_
      refine ww_iconst C dX3_play_81 cI_1 ?_
      refine ww_iadd C dX3_play_82 ?_
      refine pf_X3_177_X3 (fs' := [.int (nI (Bc ((plR B1 rn1 T T.1.1).2))), .int (nI (Br ((plR B1 rn1 T T.1.1).2))), .ref (A 0), .ref (A 2), .int (rn1 + (nI 1)), .int (dn1 + nI (plR B1 rn1 T T.1.1).1), .ref (A 4), .ref (A 5), .ref (A 7)]) C dX3_play_83 Hg3 rfl rfl (Nat.le_of_ble_eq_true rfl) rfl ?_
      refine ww_gen (fun h1 hE1 => ?_)
      have Hg3_h1 : h1 g = some (.inr (2, [.int (nI (Bc ((plR B1 rn1 T T.1.1).2))), .int (nI (Br ((plR B1 rn1 T T.1.1).2))), .ref (A 0), .ref (A 2), .int (rn1 + (nI 1)), .int (dn1 + nI (plR B1 rn1 T T.1.1).1), .ref (A 4), .ref (A 5), .ref (A 7)])) := by rw [hE1]; exact up_s
      refine ww_iinc (lv' := [(2, .int (nI (ri + 1))), (3, .ref it), (0, .ref g), (1, .int (nI n))]) C dX3_play_86 1 rfl (inc_n _) (by decide) rfl ?_
      refine ww_goto (tgt := 2) C dX3_play_89 (by decide) ?_
      refine ww_le (kc' := (n - (ri + 1)) * (1 + 2 * T.1.1)) (ns' := (n - (ri + 1)) * (4 + 3 * T.1.1)) (by omega) (by omega) ?_
      refine ww_sub [0, 2, 3] rfl ?_
      refine ih h1 ?_ ?_
      · rw [hE1]
        have q := hw1.wg (rn' := rn + nI (ri + 1)) (dn' := dn + nI (plN_ T B rn (ri + 1)).1)
        have e1 : rn + nI (ri + 1) = rn1 + nI 1 := by rw [hrn1, ← nI_add, Int32.add_assoc]
        have e2 : dn + nI (plN_ T B rn (ri + 1)).1 = dn1 + nI (plR B1 rn1 T T.1.1).1 := by rw [hdn1, hB1, hrn1, Int32.add_assoc, nI_add]; rfl
        have e3 : (plN_ T B rn (ri + 1)).2 = (plR B1 rn1 T T.1.1).2 := by rw [hB1, hrn1]; rfl
        rw [e3, e2, e1]; rw [e2, e1] at q; exact q
      · rw [hE1]; exact hv2.tr (hw2.tr FrG.g)
    · intro k hk ih2 h3 hw1 hw2 hw3
      show WW X (Rn (fun z' h' => z' = z ∧ GmM (xG X) z h' g A (plN_ T B rn n).2 G (rn + nI n) (dn + nI (plN_ T B rn n).1) ∧ FrG g A h h')) z h3 ((n - (ri + 1)) * (1 + 2 * T.1.1) + 2 * (T.1.1 - k)) ((n - (ri + 1)) * (4 + 3 * T.1.1) + 3 * (T.1.1 - k)) 15 [(3, .ref it), (2, .int (nI ri)), (0, .ref g), (1, .int (nI n))] []
      obtain ⟨lr, hw3⟩ := hw3
      have Hl3 := hw1.2.2.2.2.1
      refine ww_aload_n C dX3_play_15 rfl 0 rfl rfl ?_
      refine cf_X3_143_J32_r (As := []) (rest := []) C dX3_play_16 (ct_J32_hasNext (Cx.fl C) (Cx.ok C) Hl3 hw3 (by omega) (by omega)) (rc_J32 (Cx.ok C) (Or.inl hw3)) rfl rfl (Nat.le_of_ble_eq_true rfl) (by omega) (Nat.zero_le _) (Nat.zero_le _) ?_
      refine ww_if_eq_f (tgt := 76) C dX3_play_21 (by decide) (by rw [decide_eq_true (show k < G.2.2 by omega)]; decide) ?_
      obtain ⟨c1, c2, c3, te, Ho, hO1, hO2⟩ := hO k hk
      obtain ⟨d1, d2, d3, d4⟩ := plR_ok b1 (rn := rn1) hS1 k (Nat.le_of_lt hk)
      have hS2 := hS1.c d2
      have hkB := (hS2.2.2 k hk).2.2.1
      have hsu : plR B1 rn1 T (k + 1) = ((plR B1 rn1 T k).1 + (if (coR (plR B1 rn1 T k).2 rn1 T k).1 then 1 else 0), (coR (plR B1 rn1 T k).2 rn1 T k).2) := rfl
      refine ww_aload_n C dX3_play_24 rfl 0 rfl rfl ?_
      refine cf_X3_148_J32_q (As := []) (rest := []) C dX3_play_25 (ct_J32_next (Cx.fl C) (Cx.ok C) Hl3 hw3 (by omega)) (rc_J32 (Cx.ok C) (Or.inl hw3)) rfl rfl (Nat.le_of_ble_eq_true rfl) (by omega) (Nat.zero_le _) (Nat.zero_le _) (fun v z4 h4 q => ?_)
      obtain ⟨rfl, hq1, hq4⟩ := q; replace hq1 := hq1.symm; subst hq1
      have hM4 := hw1.it (e := .inr (31, [.int (nI (k + 1)), .int (nI k), .int (G.1 1), .ref (A 2)])) (Or.inr ⟨_, hw3⟩)
      rw [← hq4] at hM4
      have hF4 : FrG g A h1 h4 := by rw [hq4]; exact hw2.up hq2
      have hi4 : h4 it = some (.inr (31, [.int (nI (k + 1)), .int (nI k), .int (G.1 1), .ref (A 2)])) := by rw [hq4]; exact up_s
      show WW X (Rn (fun z' h' => z' = z ∧ GmM (xG X) z h' g A (plN_ T B rn n).2 G (rn + nI n) (dn + nI (plN_ T B rn n).1) ∧ FrG g A h h')) z h4 ((n - (ri + 1)) * (1 + 2 * T.1.1) + 2 * (T.1.1 - k)) ((n - (ri + 1)) * (4 + 3 * T.1.1) + 3 * (T.1.1 - k)) 30 [(3, .ref it), (2, .int (nI ri)), (0, .ref g), (1, .int (nI n))] [.ref (A (200 + k))]
      refine ww_castS (ci := 15) C q2161 rfl dX3_play_30 (rc_X17 (Cx.ok C) (Or.inr Ho)) ?_
      refine ww_astore (lv' := [(4, .ref (A (200 + k))), (3, .ref it), (2, .int (nI ri)), (0, .ref g), (1, .int (nI n))]) C dX3_play_33 (by decide) rfl rfl ?_
      refine ww_aload C dX3_play_35 0 rfl rfl ?_
      refine gf_X3_154_X17 C dX3_play_37 (Or.inr Ho) rfl ?_
      refine ww_aload_n C dX3_play_40 rfl 3 rfl rfl ?_
      have hTM := te_C (l := xl X) (Cx.fl C) (Cx.ok C) hz (GmM.p hz hM4) d1 hS2 hR hk hO2
      refine tm_X3_158 C dX3_play_41 hTM rfl (Nat.le_of_ble_eq_true rfl) (by omega) ?_
      refine ww_if_eq_b (tgt := 73) C dX3_play_46 (by decide) (fun c_46 => ?_) (fun c_46 => ?_)
      · skip
        have hcf := cor_f c_46
        refine ww_goto (tgt := 15) C dX3_play_73 (by decide) ?_
        refine ww_le (kc' := (n - (ri + 1)) * (1 + 2 * T.1.1) + 2 * (T.1.1 - (k + 1))) (ns' := (n - (ri + 1)) * (4 + 3 * T.1.1) + 3 * (T.1.1 - (k + 1))) (by omega) (by omega) ?_
        refine ww_sub [1, 2, 3, 4] rfl ?_
        refine ih2 h4 ?_ hF4 ⟨_, hi4⟩
        rw [hsu, hcf]; exact hM4
      · skip
        refine ww_aload C dX3_play_49 0 rfl rfl ?_
        refine gf_X3_164_X17 C dX3_play_51 (Or.inr Ho) rfl ?_
        refine ww_aload_n C dX3_play_54 rfl 3 rfl rfl ?_
        refine ww_aload C dX3_play_55 0 rfl rfl ?_
        refine cr_168 C dX3_play_57 hz hM4 d1 hS2 hR hk c_46 Ho hO1 rfl (Nat.le_of_ble_eq_true rfl) (by omega) (by omega) (by omega) (fun z5 h5 hq5 hq6 => ?_)
        refine ww_zs hz0 hq5 ?_
        refine ww_le (kc' := (n - (ri + 1)) * (1 + 2 * T.1.1) + 2 * (T.1.1 - (k + 1))) (ns' := (n - (ri + 1)) * (4 + 3 * T.1.1) + 3 * (T.1.1 - (k + 1))) (by omega) (by omega) ?_
        refine ww_if_eq_b (tgt := 73) C dX3_play_60 (by decide) (fun c_60 => ?_) (fun c_60 => ?_)
        · skip
          rw [c_60, if_neg (by decide)] at hq6; subst hq6
          have hcn := cor_n c_60
          refine ww_goto (tgt := 15) C dX3_play_73 (by decide) ?_
          refine ww_sub [1, 2, 3, 4] rfl ?_
          refine ih2 _ ?_ hF4 ⟨_, hi4⟩
          rw [hsu, hcn, c_60]; exact hM4
        · skip
          rw [c_60, if_pos rfl] at hq6
          have hM5 := hM4.st (B' := (coR (plR B1 rn1 T k).2 rn1 T k).2) hkB coB_1.1 coB_1.2
          have hne := hM4.itn hkB hi4
          rw [← hq6] at hM5
          have Hg5 : h5 g = some (.inr (2, [.int (nI (Bc ((coR (plR B1 rn1 T k).2 rn1 T k).2))), .int (nI (Br ((coR (plR B1 rn1 T k).2 rn1 T k).2))), .ref (A 0), .ref (A 2), .int rn1, .int (dn1 + nI (plR B1 rn1 T k).1), .ref (A 4), .ref (A 5), .ref (A 7)])) := hM5.1
          refine ww_aload_n C dX3_play_63 rfl 3 rfl rfl ?_
          refine ww_dup C dX3_play_64 rfl ?_
          refine gf_X3_174_X3 C dX3_play_65 (Or.inl Hg5) rfl ?_
          refine ww_iconst C dX3_play_68 cI_1 ?_
          refine ww_iadd C dX3_play_69 ?_
          refine pf_X3_174_X3 (fs' := [.int (nI (Bc ((coR (plR B1 rn1 T k).2 rn1 T k).2))), .int (nI (Br ((coR (plR B1 rn1 T k).2 rn1 T k).2))), .ref (A 0), .ref (A 2), .int rn1, .int ((dn1 + nI (plR B1 rn1 T k).1) + (nI 1)), .ref (A 4), .ref (A 5), .ref (A 7)]) C dX3_play_70 Hg5 rfl rfl (Nat.le_of_ble_eq_true rfl) rfl ?_
          refine ww_gen (fun h2 hE2 => ?_)
          have Hg5_h2 : h2 g = some (.inr (2, [.int (nI (Bc ((coR (plR B1 rn1 T k).2 rn1 T k).2))), .int (nI (Br ((coR (plR B1 rn1 T k).2 rn1 T k).2))), .ref (A 0), .ref (A 2), .int rn1, .int ((dn1 + nI (plR B1 rn1 T k).1) + (nI 1)), .ref (A 4), .ref (A 5), .ref (A 7)])) := by rw [hE2]; exact up_s
          refine ww_goto (tgt := 15) C dX3_play_73 (by decide) ?_
          refine ww_sub [1, 2, 3, 4] rfl ?_
          refine ih2 h2 ?_ ?_ ⟨nI k, ?_⟩
          · rw [hE2, hsu, c_60]
            have e2 : dn1 + nI ((plR B1 rn1 T k).1 + (if true = true then 1 else 0)) = dn1 + nI (plR B1 rn1 T k).1 + nI 1 := by rw [if_pos rfl, ← nI_add, Int32.add_assoc]
            show GmM _ _ _ _ _ _ _ _ (dn1 + nI ((plR B1 rn1 T k).1 + (if true = true then 1 else 0)))
            rw [e2]; exact hM5.wg
          · rw [hE2, hq6]; exact hF4.tr (FrG.gm.tr FrG.g)
          · rw [hE2, up_n (ne_ob (by rw [hq6, gmH_n hne.1 hne.2.1 hne.2.2]; exact hi4) Hg5 (by simp)), hq6, gmH_n hne.1 hne.2.1 hne.2.2]; exact hi4
end EV7
