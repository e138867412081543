section INIT2
set_option maxRecDepth 100000
theorem fp_ex {Γ : Gm} {z : ZR} {h : AH} {g : Nat} {A : Nat → Nat} {B : GB} {G : GG} {rn dn : Int32} {q : Nat} (hG : GmM Γ z h g A B G rn dn) (f : fpG Γ g A q) : ∃ e, h q = some e := by
  obtain ⟨h1, h2, h3, -, h5, h6, h7, -⟩ := hG
  have k : ∀ {a arr n : Nat} {md : Int32} {cap : Nat} {xs : Nat → Nat}, ALm Γ h a arr n md cap xs → arr ≠ gE Γ 0 → ∃ e, h arr = some e := fun hL hn => hL.2.1.elim (fun q => ⟨_, q.1⟩) (fun q => absurd q.2 hn)
  rcases f with rfl | rfl | rfl | rfl | rfl | rfl | ⟨f | f | f | f, n⟩
  · exact ⟨_, h1⟩
  · exact ⟨_, h3.1⟩
  · exact ⟨_, h5.1⟩
  · exact ⟨_, h2⟩
  · exact ⟨_, h6.1⟩
  · exact ⟨_, h7.1⟩
  · rw [f] at n ⊢; exact k h3 n
  · rw [f] at n ⊢; exact k h5 n
  · rw [f] at n ⊢; exact k h6 n
  · rw [f] at n ⊢; exact k h7 n
set_option maxHeartbeats 2000000 in
theorem ct_X1_init {l : Launch} {Γ : Gm} (hl : l.flags = flags0) (hΓ : GOK Γ) {z : ZR} {h : AH} {a : Nat} (hz : zle (cst Γ) z) (Hm : h a = some (.inr (0, [.null, .int (nI 0), .null, .null]))) : Ct l Γ yX1_init cX1_init 1 none 7 14 2200 [.ref a] z h (Rn (fun z' h' => z' = z ∧ ∃ tp ba g ah A D, CoI Γ z h' a tp ba g ah A D (-1) t00 bd0 (nI 0) td0 ∧ (∀ q, fpC Γ a tp ba g ah A D q → q = a ∨ h q = none) ∧ ∀ q e, h q = some e → q ≠ a → h' q = some e)) := by
  refine Ct.of hl hΓ (by decide +kernel) (Nat.le_of_ble_eq_true rfl) (fun X e1 e2 C => ?_)
  subst e1; subst e2
  have C : Cx X cX1_init 1 "RingDomino" "<init>" none [] 7 := C
  show WW X (Rn (fun z' h' => z' = z ∧ ∃ tp ba g ah A D, CoI (xG X) z h' a tp ba g ah A D (-1) t00 bd0 (nI 0) td0 ∧ (∀ q, fpC (xG X) a tp ba g ah A D q → q = a ∨ h q = none) ∧ ∀ q e, h q = some e → q ≠ a → h' q = some e)) z h 14 2200 0 [(0, .ref a)] []
  refine ww_aload_n C dX1_init_0 rfl 0 rfl rfl ?_
  refine ww_objInit C q171 q172 q173 dX1_init_1 (by decide) (Nat.le_of_ble_eq_true rfl) ?_
  refine ww_aload_n C dX1_init_4 rfl 0 rfl rfl ?_
  refine ww_ow0 hz (fun ow0 => ?_)
  refine nw_X1_36 C dX1_init_5 (by decide) (by decide) (fun tp tp_n tp_z tp_g => ?_)
  refine ww_gen (fun h1 hE1 => ?_)
  have Hm_h1 : h1 a = some (.inr (0, [.null, .int (nI 0), .null, .null])) := by rw [hE1, up_n (ne_nw Hm tp_n)]; exact Hm
  have N1_h1 : h1 tp = some (.inr (1, [.null, .int (nI 0)])) := by rw [hE1]; exact up_s
  refine ww_dup C dX1_init_8 rfl ?_
  refine ci_X1_38_q (As := []) (rest := [.ref tp, .ref a]) C dX1_init_9 (ct_X2_init (Cx.fl C) (Cx.ok C) N1_h1) rfl rfl (Nat.le_of_ble_eq_true rfl) (by decide) (by omega) (by omega) (fun z1 k1 q1 => ?_)
  obtain ⟨hq, ba, b_n, hK1⟩ := q1; replace hq := hq.symm; subst hq
  have hbt : ba ≠ tp := fun q => by rw [q, hE1, up_s] at b_n; cases b_n
  have tp0 : h tp = none := tp_n
  have hb0 : h ba = none := by rw [hE1, up_n hbt] at b_n; exact b_n
  have hta : tp ≠ a := (ne_nw Hm tp_n).symm
  have hba : ba ≠ a := fun q => by rw [q, Hm] at hb0; cases hb0
  have F1 : ∀ q e, h q = some e → k1 q = some e ∧ q ≠ tp ∧ q ≠ ba := fun q e hq => by
    have n1 : q ≠ tp := ne_nw hq tp_n
    have n2 : q ≠ ba := ne_nw hq hb0
    exact ⟨by rw [hK1, up_n n1, up_n n2, hE1, up_n n1]; exact hq, n1, n2⟩
  have Tp1 : k1 tp = some (.inr (1, [.ref ba, .int (nI 0)])) := by rw [hK1]; exact up_s
  have Ba1 : k1 ba = some (.inl (gA (xG X) 1, (2000, .inl (fun _ => 0)))) := by rw [hK1, up_n hbt]; exact up_s
  have Ha1 : k1 a = some (.inr (0, [.null, .int (nI 0), .null, .null])) := (F1 a _ Hm).1
  refine ww_le (kc' := 12) (ns' := 190) (by omega) (by omega) ?_
  refine pf_X1_39_X1 (fs' := [.ref tp, .int (nI 0), .null, .null]) C dX1_init_12 Ha1 rfl rfl (Nat.le_of_ble_eq_true rfl) rfl ?_
  refine ww_gen (fun h2 hE2 => ?_)
  have Ha1_h2 : h2 a = some (.inr (0, [.ref tp, .int (nI 0), .null, .null])) := by rw [hE2]; exact up_s
  refine ww_aload_n C dX1_init_15 rfl 0 rfl rfl ?_
  refine ww_iconst C dX1_init_16 cI_m1 ?_
  refine pf_X1_43_X1 (fs' := [.ref tp, .int (-1), .null, .null]) C dX1_init_17 Ha1_h2 rfl rfl (Nat.le_of_ble_eq_true rfl) rfl ?_
  refine ww_gen (fun h3 hE3 => ?_)
  have Ha1_h3 : h3 a = some (.inr (0, [.ref tp, .int (-1), .null, .null])) := by rw [hE3]; exact up_s
  refine ww_aload_n C dX1_init_20 rfl 0 rfl rfl ?_
  have F2 : ∀ q, q ≠ a → h3 q = k1 q := fun q hq => by rw [hE3, up_n hq, hE2, up_n hq]
  refine nw_X1_47 C dX1_init_21 (by decide) (by decide) (fun g g_n g_z g_g => ?_)
  refine ww_gen (fun h4 hE4 => ?_)
  have Ha1_h4 : h4 a = some (.inr (0, [.ref tp, .int (-1), .null, .null])) := by rw [hE4, up_n (ne_nw Ha1_h3 g_n)]; exact Ha1_h3
  have N4_h4 : h4 g = some (.inr (2, [.int (nI 0), .int (nI 0), .null, .null, .int (nI 0), .int (nI 0), .null, .null, .null])) := by rw [hE4]; exact up_s
  refine ww_dup C dX1_init_24 rfl ?_
  refine ci_X1_49_q (As := []) (rest := [.ref g, .ref a]) C dX1_init_25 (ct_X3_init (Cx.fl C) (Cx.ok C) N4_h4) rfl rfl (Nat.le_of_ble_eq_true rfl) (by decide) (by omega) (by omega) (fun z3 k3 q3 => ?_)
  obtain ⟨hq, A3, hM3, hL3, hN3, hF3⟩ := q3; replace hq := hq.symm; subst hq
  have G3 : ∀ q e, h3 q = some e → k3 q = some e ∧ q ≠ g := fun q e hq => ⟨hF3 q e (by rw [hE4, up_n (ne_nw hq g_n)]; exact hq) (ne_nw hq g_n), ne_nw hq g_n⟩
  have N3 : ∀ q, fpG (xG X) g A3 q → h3 q = none := fun q hq => by
    rcases hN3 q hq with f | ⟨f, -⟩
    · rw [f]; exact g_n
    · rw [hE4] at f; exact up_none f
  have Ha3 : k3 a = some (.inr (0, [.ref tp, .int (-1), .null, .null])) := (G3 a _ Ha1_h3).1
  refine ww_le (kc' := 6) (ns' := 120) (by omega) (by omega) ?_
  refine pf_X1_50_X1 (fs' := [.ref tp, .int (-1), .ref g, .null]) C dX1_init_28 Ha3 rfl rfl (Nat.le_of_ble_eq_true rfl) rfl ?_
  refine ww_gen (fun h5 hE5 => ?_)
  have Ha3_h5 : h5 a = some (.inr (0, [.ref tp, .int (-1), .ref g, .null])) := by rw [hE5]; exact up_s
  have F4 : ∀ q, q ≠ a → h5 q = k3 q := fun q hq => by rw [hE5, up_n hq]
  refine ww_aload_n C dX1_init_31 rfl 0 rfl rfl ?_
  refine nw_X1_47 C dX1_init_32 (by decide) (by decide) (fun ah ah_n ah_z ah_g => ?_)
  refine ww_gen (fun h6 hE6 => ?_)
  have Ha3_h6 : h6 a = some (.inr (0, [.ref tp, .int (-1), .ref g, .null])) := by rw [hE6, up_n (ne_nw Ha3_h5 ah_n)]; exact Ha3_h5
  have N6_h6 : h6 ah = some (.inr (2, [.int (nI 0), .int (nI 0), .null, .null, .int (nI 0), .int (nI 0), .null, .null, .null])) := by rw [hE6]; exact up_s
  refine ww_dup C dX1_init_35 rfl ?_
  refine ci_X1_49_q (As := []) (rest := [.ref ah, .ref a]) C dX1_init_36 (ct_X3_init (Cx.fl C) (Cx.ok C) N6_h6) rfl rfl (Nat.le_of_ble_eq_true rfl) (by decide) (by omega) (by omega) (fun z5 k5 q5 => ?_)
  obtain ⟨hq, A5, hM5, hL5, hN5, hF5⟩ := q5; replace hq := hq.symm; subst hq
  have G5 : ∀ q e, h5 q = some e → k5 q = some e ∧ q ≠ ah := fun q e hq => ⟨hF5 q e (by rw [hE6, up_n (ne_nw hq ah_n)]; exact hq) (ne_nw hq ah_n), ne_nw hq ah_n⟩
  have N5 : ∀ q, fpG (xG X) ah A5 q → h5 q = none := fun q hq => by
    rcases hN5 q hq with f | ⟨f, -⟩
    · rw [f]; exact ah_n
    · rw [hE6] at f; exact up_none f
  have Ha5 : k5 a = some (.inr (0, [.ref tp, .int (-1), .ref g, .null])) := (G5 a _ Ha3_h5).1
  refine ww_le (kc' := 0) (ns' := 0) (by omega) (by omega) ?_
  refine pf_X1_54_X1 (fs' := [.ref tp, .int (-1), .ref g, .ref ah]) C dX1_init_39 Ha5 rfl rfl (Nat.le_of_ble_eq_true rfl) rfl ?_
  refine ww_gen (fun h7 hE7 => ?_)
  have Ha5_h7 : h7 a = some (.inr (0, [.ref tp, .int (-1), .ref g, .ref ah])) := by rw [hE7]; exact up_s
  have F6 : ∀ q, q ≠ a → h7 q = k5 q := fun q hq => by rw [hE7, up_n hq]
  have h2 := F2
  have s2 : ∀ q e, k1 q = some e → q ≠ a → h3 q = some e := fun q e hq na => (F2 q na).trans hq
  have s3 : ∀ q e, h3 q = some e → q ≠ a → h5 q = some e := fun q e hq na => (F4 q na).trans (G3 q e hq).1
  have s5 : ∀ q e, h5 q = some e → q ≠ a → h7 q = some e := fun q e hq na => (F6 q na).trans (G5 q e hq).1
  have hfr : ∀ q e, h q = some e → q ≠ a → h7 q = some e := fun q e hq na => s5 q e (s3 q e (s2 q e (F1 q e hq).1 na) na) na
  have HA2 : h3 a = some (.inr (0, [.ref tp, .int (-1), .null, .null])) := by rw [hE3]; exact up_s
  have HA4 : h5 a = some (.inr (0, [.ref tp, .int (-1), .ref g, .null])) := by rw [hE5]; exact up_s
  have HA6 : h7 a = some (.inr (0, [.ref tp, .int (-1), .ref g, .ref ah])) := by rw [hE7]; exact up_s
  have Tp2 := s2 _ _ Tp1 hta
  have Ba2 := s2 _ _ Ba1 hba
  have Tp4 := s3 _ _ Tp2 hta
  have Ba4 := s3 _ _ Ba2 hba
  have no2 : ∀ q e, h3 q = some e → ¬ fpG (xG X) g A3 q := fun q e hq f => by rw [N3 q f] at hq; cases hq
  have no4 : ∀ q e, h5 q = some e → ¬ fpG (xG X) ah A5 q := fun q e hq f => by rw [N5 q f] at hq; cases hq
  have hM4 : GmM (xG X) z h5 g A3 bd0 gg0 (nI 0) (nI 0) := hM3.ext (fun q e hq f => (F4 q (fun x => no2 a _ HA2 (x ▸ f))).trans hq)
  have ow4 : ∀ q, fpG (xG X) g A3 q → ∃ e, h5 q = some e := fun q f => fp_ex hM4 f
  have hM6 : GmM (xG X) z h7 g A3 bd0 gg0 (nI 0) (nI 0) := hM4.ext (fun q e hq f => s5 q e hq (fun x => no2 a _ HA2 (x ▸ f)))
  have hA6 : AhI (xG X) z h7 ah A5 := ⟨_, _, _, _, hM5.ext (fun q e hq f => (F6 q (fun x => no4 a _ HA4 (x ▸ f))).trans hq), hL5, fun _ _ => Nat.zero_le _⟩
  have hdj : ∀ q, fpG (xG X) ah A5 q → ¬ fpG (xG X) g A3 q := fun q f5 f3 => by obtain ⟨e, he⟩ := ow4 q f3; exact no4 q e he f5
  have hCo : CoI (xG X) z h7 a tp ba g ah A3 A5 (-1) t00 bd0 (nI 0) td0 := ⟨fun _ => 0, gg0, nI 0, 0, HA6, ⟨s5 _ _ Tp4 hta, s5 _ _ Ba4 hba, fun a ha => absurd ha (Nat.not_lt_zero a)⟩, t00_o, hM6, bd0_C, td0_S, td0_R, rfl, Nat.zero_le _, fun k hk => absurd hk (Nat.not_lt_zero k), hA6, hdj, fun q hq => ?_⟩
  rotate_left
  · rcases hq with rfl | rfl | rfl
    · exact ⟨no2 _ _ HA2, no4 _ _ HA4⟩
    · exact ⟨no2 _ _ Tp2, no4 _ _ Tp4⟩
    · exact ⟨no2 _ _ Ba2, no4 _ _ Ba4⟩
  have back : ∀ q, q ≠ a → h3 q = none → h q = none := fun q na hq => Option.eq_none_iff_forall_ne_some.mpr (fun e he => by rw [s2 q e (F1 q e he).1 na] at hq; cases hq)
  have back4 : ∀ q, q ≠ a → h5 q = none → h q = none := fun q na hq => Option.eq_none_iff_forall_ne_some.mpr (fun e he => by rw [s3 q e (s2 q e (F1 q e he).1 na) na] at hq; cases hq)
  refine ww_vret C dX1_init_42 ⟨rfl, tp, ba, g, ah, A3, A5, hCo, fun q hq => ?_, hfr⟩
  rcases hq with f | f | f | f | f
  · exact Or.inl f
  · right; rw [f]; exact tp0
  · right; rw [f]; exact hb0
  · by_cases na : q = a
    · exact Or.inl na
    · exact Or.inr (back q na (N3 q f))
  · by_cases na : q = a
    · exact Or.inl na
    · exact Or.inr (back4 q na (N5 q f))
end INIT2
