section GAME7
set_option maxRecDepth 100000
/-- the board of a new Game -/
def bd0 : GB := ((5, 5, 0), fun _ _ => 0, fun _ => 0, fun _ => none, fun _ => 0)
def gg0 : GG := (fun _ => nI 0, fun _ => 0, 0)
def aA0 (e l0 l1 li l2 l3 : Nat) : Nat → Nat := fun i => if i = 0 then l0 else if i = 2 then l1 else if i = 4 then li else if i = 5 then l2 else if i = 7 then l3 else e
/-- a list without room has the empty row -/
def GmL (Γ : Gm) (A : Nat → Nat) (G : GG) : Prop := (G.2.1 0 = 0 → A 1 = gE Γ 0) ∧ (G.2.1 1 = 0 → A 3 = gE Γ 0) ∧ (G.2.1 2 = 0 → A 6 = gE Γ 0) ∧ (G.2.1 3 = 0 → A 8 = gE Γ 0)
/-- a Game's own cells -/
def fpG (Γ : Gm) (g : Nat) (A : Nat → Nat) (q : Nat) : Prop := q = g ∨ q = A 0 ∨ q = A 2 ∨ q = A 4 ∨ q = A 5 ∨ q = A 7 ∨ ((q = A 1 ∨ q = A 3 ∨ q = A 6 ∨ q = A 8) ∧ q ≠ gE Γ 0)
theorem al0 {Γ : Gm} {h : AH} {a : Nat} {xs : Nat → Nat} (ha : h a = some (cAL (nI 0) (gE Γ 0) 0)) : ALm Γ h a (gE Γ 0) 0 (nI 0) 0 xs := ⟨ha, Or.inr ⟨rfl, rfl⟩, Nat.le_refl _, by decide⟩
theorem aA0_d {e a b c d f : Nat} (h1 : a ≠ b) (h2 : a ≠ c) (h3 : a ≠ d) (h4 : a ≠ f) (h5 : b ≠ c) (h6 : b ≠ d) (h7 : b ≠ f) (h8 : c ≠ d) (h9 : c ≠ f) (h0 : d ≠ f) : ∀ i j, i < 9 → j < 9 → aA0 e a b c d f i = aA0 e a b c d f j → i = j ∨ aA0 e a b c d f i = e := by
  intro i j hi hj q
  have k : ∀ i, i = 0 ∨ i = 2 ∨ i = 4 ∨ i = 5 ∨ i = 7 ∨ aA0 e a b c d f i = e := fun i => by
    by_cases i0 : i = 0
    · exact Or.inl i0
    · by_cases i2 : i = 2
      · exact Or.inr (Or.inl i2)
      · by_cases i4 : i = 4
        · exact Or.inr (Or.inr (Or.inl i4))
        · by_cases i5 : i = 5
          · exact Or.inr (Or.inr (Or.inr (Or.inl i5)))
          · by_cases i7 : i = 7
            · exact Or.inr (Or.inr (Or.inr (Or.inr (Or.inl i7))))
            · refine Or.inr (Or.inr (Or.inr (Or.inr (Or.inr ?_))))
              unfold aA0
              rw [if_neg i0, if_neg i2, if_neg i4, if_neg i5, if_neg i7]
  rcases k i with rfl | rfl | rfl | rfl | rfl | ki
  all_goals try exact Or.inr ki
  all_goals rcases k j with rfl | rfl | rfl | rfl | rfl | kj
  all_goals first | exact Or.inl rfl | exact Or.inr (q.trans kj) | (exfalso; simp only [aA0] at q; first | exact h1 q | exact h1 q.symm | exact h2 q | exact h2 q.symm | exact h3 q | exact h3 q.symm | exact h4 q | exact h4 q.symm | exact h5 q | exact h5 q.symm | exact h6 q | exact h6 q.symm | exact h7 q | exact h7 q.symm | exact h8 q | exact h8 q.symm | exact h9 q | exact h9 q.symm | exact h0 q | exact h0 q.symm)
set_option maxHeartbeats 2000000 in
theorem ct_X3_init {l : Launch} {Γ : Gm} (hl : l.flags = flags0) (hΓ : GOK Γ) {z : ZR} {h : AH} {g : Nat} (Hg : h g = some (.inr (2, [.int (nI 0), .int (nI 0), .null, .null, .int (nI 0), .int (nI 0), .null, .null, .null]))) : Ct l Γ yX3_init cX3_init 1 none 5 5 61 [.ref g] z h (Rn (fun z' h' => z' = z ∧ ∃ A, GmM Γ z h' g A bd0 gg0 (nI 0) (nI 0) ∧ GmL Γ A gg0 ∧ (∀ q, fpG Γ g A q → q = g ∨ (h q = none ∧ ∀ e, ¬ z q e)) ∧ ∀ q e, h q = some e → q ≠ g → h' q = some e)) := by
  refine Ct.of hl hΓ (by decide +kernel) (Nat.le_of_ble_eq_true rfl) (fun X e1 e2 C => ?_)
  subst e1; subst e2
  have C : Cx X cX3_init 1 "RingDomino$Game" "<init>" none [] 5 := C
  show WW X (Rn (fun z' h' => z' = z ∧ ∃ A, GmM (xG X) z h' g A bd0 gg0 (nI 0) (nI 0) ∧ GmL (xG X) A gg0 ∧ (∀ q, fpG (xG X) g A q → q = g ∨ (h q = none ∧ ∀ e, ¬ z q e)) ∧ ∀ q e, h q = some e → q ≠ g → h' q = some e)) z h 5 61 0 [(0, .ref g)] []
  refine ww_aload_n C dX3_init_0 rfl 0 rfl rfl ?_
  refine ww_objInit C q195 q172 q173 dX3_init_1 (by decide) (Nat.le_of_ble_eq_true rfl) ?_
  refine ww_aload_n C dX3_init_4 rfl 0 rfl rfl ?_
  refine ww_iconst C dX3_init_5 cI_5 ?_
  refine pf_X3_9_X3 (fs' := [.int (nI 5), .int (nI 0), .null, .null, .int (nI 0), .int (nI 0), .null, .null, .null]) C dX3_init_6 Hg rfl rfl (Nat.le_of_ble_eq_true rfl) rfl ?_
  refine ww_gen (fun h1 hE1 => ?_)
  have Hg_h1 : h1 g = some (.inr (2, [.int (nI 5), .int (nI 0), .null, .null, .int (nI 0), .int (nI 0), .null, .null, .null])) := by rw [hE1]; exact up_s
  refine ww_aload_n C dX3_init_9 rfl 0 rfl rfl ?_
  refine ww_iconst C dX3_init_10 cI_5 ?_
  refine pf_X3_15_X3 (fs' := [.int (nI 5), .int (nI 5), .null, .null, .int (nI 0), .int (nI 0), .null, .null, .null]) C dX3_init_11 Hg_h1 rfl rfl (Nat.le_of_ble_eq_true rfl) rfl ?_
  refine ww_gen (fun h2 hE2 => ?_)
  have Hg_h2 : h2 g = some (.inr (2, [.int (nI 5), .int (nI 5), .null, .null, .int (nI 0), .int (nI 0), .null, .null, .null])) := by rw [hE2]; exact up_s
  refine ww_aload_n C dX3_init_14 rfl 0 rfl rfl ?_
  refine nw_X3_18 C dX3_init_15 (by decide) (by decide) (fun l0 l0_n l0_z l0_g => ?_)
  refine ww_gen (fun h3 hE3 => ?_)
  have Hg_h3 : h3 g = some (.inr (2, [.int (nI 5), .int (nI 5), .null, .null, .int (nI 0), .int (nI 0), .null, .null, .null])) := by rw [hE3, up_n (ne_nw Hg_h2 l0_n)]; exact Hg_h2
  have N3_h3 : h3 l0 = some (.inr (23, [.int (nI 0), .null, .int (nI 0)])) := by rw [hE3]; exact up_s
  refine ww_dup C dX3_init_18 rfl ?_
  refine ci_X3_20_q (As := []) (rest := [.ref l0, .ref g]) C dX3_init_19 (ct_J2_init (Cx.fl C) (Cx.ok C) N3_h3) rfl rfl (Nat.le_of_ble_eq_true rfl) (by decide) (Nat.zero_le _) (Nat.zero_le _) (fun z4 h4 q4 => ?_)
  obtain ⟨hq, hE4⟩ := q4; replace hq := hq.symm; subst hq
  have Hg_h5 : h4 g = some (.inr (2, [.int (nI 5), .int (nI 5), .null, .null, .int (nI 0), .int (nI 0), .null, .null, .null])) := by rw [hE4, up_n (ne_ob Hg_h3 N3_h3 (by simp))]; exact Hg_h3
  have N3_h5 : h4 l0 = some (.inr (23, [.int (nI 0), .ref (gE (xG X) 0), .int (nI 0)])) := by rw [hE4]; exact up_s
  refine pf_X3_21_X3 (fs' := [.int (nI 5), .int (nI 5), .ref l0, .null, .int (nI 0), .int (nI 0), .null, .null, .null]) C dX3_init_22 Hg_h5 rfl rfl (Nat.le_of_ble_eq_true rfl) rfl ?_
  refine ww_gen (fun h6 hE6 => ?_)
  have N3_h6 : h6 l0 = some (.inr (23, [.int (nI 0), .ref (gE (xG X) 0), .int (nI 0)])) := by rw [hE6, up_n (ne_ob N3_h5 Hg_h5 (by simp))]; exact N3_h5
  have Hg_h6 : h6 g = some (.inr (2, [.int (nI 5), .int (nI 5), .ref l0, .null, .int (nI 0), .int (nI 0), .null, .null, .null])) := by rw [hE6]; exact up_s
  refine ww_aload_n C dX3_init_25 rfl 0 rfl rfl ?_
  refine nw_X3_18 C dX3_init_26 (by decide) (by decide) (fun l1 l1_n l1_z l1_g => ?_)
  refine ww_gen (fun h7 hE7 => ?_)
  have Hg_h7 : h7 g = some (.inr (2, [.int (nI 5), .int (nI 5), .ref l0, .null, .int (nI 0), .int (nI 0), .null, .null, .null])) := by rw [hE7, up_n (ne_nw Hg_h6 l1_n)]; exact Hg_h6
  have N3_h7 : h7 l0 = some (.inr (23, [.int (nI 0), .ref (gE (xG X) 0), .int (nI 0)])) := by rw [hE7, up_n (ne_nw N3_h6 l1_n)]; exact N3_h6
  have N7_h7 : h7 l1 = some (.inr (23, [.int (nI 0), .null, .int (nI 0)])) := by rw [hE7]; exact up_s
  refine ww_dup C dX3_init_29 rfl ?_
  refine ci_X3_20_q (As := []) (rest := [.ref l1, .ref g]) C dX3_init_30 (ct_J2_init (Cx.fl C) (Cx.ok C) N7_h7) rfl rfl (Nat.le_of_ble_eq_true rfl) (by decide) (Nat.zero_le _) (Nat.zero_le _) (fun z8 h8 q8 => ?_)
  obtain ⟨hq, hE8⟩ := q8; replace hq := hq.symm; subst hq
  have Hg_h9 : h8 g = some (.inr (2, [.int (nI 5), .int (nI 5), .ref l0, .null, .int (nI 0), .int (nI 0), .null, .null, .null])) := by rw [hE8, up_n (ne_ob Hg_h7 N7_h7 (by simp))]; exact Hg_h7
  have N3_h9 : h8 l0 = some (.inr (23, [.int (nI 0), .ref (gE (xG X) 0), .int (nI 0)])) := by rw [hE8, up_n (ne_ob N3_h7 N7_h7 (by simp))]; exact N3_h7
  have N7_h9 : h8 l1 = some (.inr (23, [.int (nI 0), .ref (gE (xG X) 0), .int (nI 0)])) := by rw [hE8]; exact up_s
  refine pf_X3_25_X3 (fs' := [.int (nI 5), .int (nI 5), .ref l0, .ref l1, .int (nI 0), .int (nI 0), .null, .null, .null]) C dX3_init_33 Hg_h9 rfl rfl (Nat.le_of_ble_eq_true rfl) rfl ?_
  refine ww_gen (fun h10 hE10 => ?_)
  have N3_h10 : h10 l0 = some (.inr (23, [.int (nI 0), .ref (gE (xG X) 0), .int (nI 0)])) := by rw [hE10, up_n (ne_ob N3_h9 Hg_h9 (by simp))]; exact N3_h9
  have N7_h10 : h10 l1 = some (.inr (23, [.int (nI 0), .ref (gE (xG X) 0), .int (nI 0)])) := by rw [hE10, up_n (ne_ob N7_h9 Hg_h9 (by simp))]; exact N7_h9
  have Hg_h10 : h10 g = some (.inr (2, [.int (nI 5), .int (nI 5), .ref l0, .ref l1, .int (nI 0), .int (nI 0), .null, .null, .null])) := by rw [hE10]; exact up_s
  refine ww_aload_n C dX3_init_36 rfl 0 rfl rfl ?_
  refine ww_bipush C dX3_init_37 cB_49 ?_
  refine ww_newa (t := 0) (n := 49) (a0 := (49, .inl (fun _ => 0))) C dX3_init_39 (by decide) rfl q267 (fun cA => vp_cell_el cA _) (by decide) (by decide) (by decide) (fun li li_n li_z li_g => ?_)
  refine ww_gen (fun h11 hE11 => ?_)
  have Hg_h11 : h11 g = some (.inr (2, [.int (nI 5), .int (nI 5), .ref l0, .ref l1, .int (nI 0), .int (nI 0), .null, .null, .null])) := by rw [hE11, up_n (ne_nw Hg_h10 li_n)]; exact Hg_h10
  have N3_h11 : h11 l0 = some (.inr (23, [.int (nI 0), .ref (gE (xG X) 0), .int (nI 0)])) := by rw [hE11, up_n (ne_nw N3_h10 li_n)]; exact N3_h10
  have N7_h11 : h11 l1 = some (.inr (23, [.int (nI 0), .ref (gE (xG X) 0), .int (nI 0)])) := by rw [hE11, up_n (ne_nw N7_h10 li_n)]; exact N7_h10
  have N11_h11 : h11 li = some (.inl (gA (xG X) 0, (49, .inl (fun _ => 0)))) := by rw [hE11]; exact up_s
  refine pf_X3_28_X3 (fs' := [.int (nI 5), .int (nI 5), .ref l0, .ref l1, .int (nI 0), .int (nI 0), .ref li, .null, .null]) C dX3_init_41 Hg_h11 rfl rfl (Nat.le_of_ble_eq_true rfl) rfl ?_
  refine ww_gen (fun h12 hE12 => ?_)
  have N3_h12 : h12 l0 = some (.inr (23, [.int (nI 0), .ref (gE (xG X) 0), .int (nI 0)])) := by rw [hE12, up_n (ne_ob N3_h11 Hg_h11 (by simp))]; exact N3_h11
  have N7_h12 : h12 l1 = some (.inr (23, [.int (nI 0), .ref (gE (xG X) 0), .int (nI 0)])) := by rw [hE12, up_n (ne_ob N7_h11 Hg_h11 (by simp))]; exact N7_h11
  have N11_h12 : h12 li = some (.inl (gA (xG X) 0, (49, .inl (fun _ => 0)))) := by rw [hE12, up_n (ne_ob N11_h11 Hg_h11 (by simp))]; exact N11_h11
  have Hg_h12 : h12 g = some (.inr (2, [.int (nI 5), .int (nI 5), .ref l0, .ref l1, .int (nI 0), .int (nI 0), .ref li, .null, .null])) := by rw [hE12]; exact up_s
  refine ww_aload_n C dX3_init_44 rfl 0 rfl rfl ?_
  refine nw_X3_18 C dX3_init_45 (by decide) (by decide) (fun l2 l2_n l2_z l2_g => ?_)
  refine ww_gen (fun h13 hE13 => ?_)
  have Hg_h13 : h13 g = some (.inr (2, [.int (nI 5), .int (nI 5), .ref l0, .ref l1, .int (nI 0), .int (nI 0), .ref li, .null, .null])) := by rw [hE13, up_n (ne_nw Hg_h12 l2_n)]; exact Hg_h12
  have N3_h13 : h13 l0 = some (.inr (23, [.int (nI 0), .ref (gE (xG X) 0), .int (nI 0)])) := by rw [hE13, up_n (ne_nw N3_h12 l2_n)]; exact N3_h12
  have N7_h13 : h13 l1 = some (.inr (23, [.int (nI 0), .ref (gE (xG X) 0), .int (nI 0)])) := by rw [hE13, up_n (ne_nw N7_h12 l2_n)]; exact N7_h12
  have N11_h13 : h13 li = some (.inl (gA (xG X) 0, (49, .inl (fun _ => 0)))) := by rw [hE13, up_n (ne_nw N11_h12 l2_n)]; exact N11_h12
  have N13_h13 : h13 l2 = some (.inr (23, [.int (nI 0), .null, .int (nI 0)])) := by rw [hE13]; exact up_s
  refine ww_dup C dX3_init_48 rfl ?_
  refine ci_X3_20_q (As := []) (rest := [.ref l2, .ref g]) C dX3_init_49 (ct_J2_init (Cx.fl C) (Cx.ok C) N13_h13) rfl rfl (Nat.le_of_ble_eq_true rfl) (by decide) (Nat.zero_le _) (Nat.zero_le _) (fun z14 h14 q14 => ?_)
  obtain ⟨hq, hE14⟩ := q14; replace hq := hq.symm; subst hq
  have Hg_h15 : h14 g = some (.inr (2, [.int (nI 5), .int (nI 5), .ref l0, .ref l1, .int (nI 0), .int (nI 0), .ref li, .null, .null])) := by rw [hE14, up_n (ne_ob Hg_h13 N13_h13 (by simp))]; exact Hg_h13
  have N3_h15 : h14 l0 = some (.inr (23, [.int (nI 0), .ref (gE (xG X) 0), .int (nI 0)])) := by rw [hE14, up_n (ne_ob N3_h13 N13_h13 (by simp))]; exact N3_h13
  have N7_h15 : h14 l1 = some (.inr (23, [.int (nI 0), .ref (gE (xG X) 0), .int (nI 0)])) := by rw [hE14, up_n (ne_ob N7_h13 N13_h13 (by simp))]; exact N7_h13
  have N11_h15 : h14 li = some (.inl (gA (xG X) 0, (49, .inl (fun _ => 0)))) := by rw [hE14, up_n (ne_ob N11_h13 N13_h13 (by simp))]; exact N11_h13
  have N13_h15 : h14 l2 = some (.inr (23, [.int (nI 0), .ref (gE (xG X) 0), .int (nI 0)])) := by rw [hE14]; exact up_s
  refine pf_X3_32_X3 (fs' := [.int (nI 5), .int (nI 5), .ref l0, .ref l1, .int (nI 0), .int (nI 0), .ref li, .ref l2, .null]) C dX3_init_52 Hg_h15 rfl rfl (Nat.le_of_ble_eq_true rfl) rfl ?_
  refine ww_gen (fun h16 hE16 => ?_)
  have N3_h16 : h16 l0 = some (.inr (23, [.int (nI 0), .ref (gE (xG X) 0), .int (nI 0)])) := by rw [hE16, up_n (ne_ob N3_h15 Hg_h15 (by simp))]; exact N3_h15
  have N7_h16 : h16 l1 = some (.inr (23, [.int (nI 0), .ref (gE (xG X) 0), .int (nI 0)])) := by rw [hE16, up_n (ne_ob N7_h15 Hg_h15 (by simp))]; exact N7_h15
  have N11_h16 : h16 li = some (.inl (gA (xG X) 0, (49, .inl (fun _ => 0)))) := by rw [hE16, up_n (ne_ob N11_h15 Hg_h15 (by simp))]; exact N11_h15
  have N13_h16 : h16 l2 = some (.inr (23, [.int (nI 0), .ref (gE (xG X) 0), .int (nI 0)])) := by rw [hE16, up_n (ne_ob N13_h15 Hg_h15 (by simp))]; exact N13_h15
  have Hg_h16 : h16 g = some (.inr (2, [.int (nI 5), .int (nI 5), .ref l0, .ref l1, .int (nI 0), .int (nI 0), .ref li, .ref l2, .null])) := by rw [hE16]; exact up_s
  refine ww_aload_n C dX3_init_55 rfl 0 rfl rfl ?_
  refine nw_X3_18 C dX3_init_56 (by decide) (by decide) (fun l3 l3_n l3_z l3_g => ?_)
  refine ww_gen (fun h17 hE17 => ?_)
  have Hg_h17 : h17 g = some (.inr (2, [.int (nI 5), .int (nI 5), .ref l0, .ref l1, .int (nI 0), .int (nI 0), .ref li, .ref l2, .null])) := by rw [hE17, up_n (ne_nw Hg_h16 l3_n)]; exact Hg_h16
  have N3_h17 : h17 l0 = some (.inr (23, [.int (nI 0), .ref (gE (xG X) 0), .int (nI 0)])) := by rw [hE17, up_n (ne_nw N3_h16 l3_n)]; exact N3_h16
  have N7_h17 : h17 l1 = some (.inr (23, [.int (nI 0), .ref (gE (xG X) 0), .int (nI 0)])) := by rw [hE17, up_n (ne_nw N7_h16 l3_n)]; exact N7_h16
  have N11_h17 : h17 li = some (.inl (gA (xG X) 0, (49, .inl (fun _ => 0)))) := by rw [hE17, up_n (ne_nw N11_h16 l3_n)]; exact N11_h16
  have N13_h17 : h17 l2 = some (.inr (23, [.int (nI 0), .ref (gE (xG X) 0), .int (nI 0)])) := by rw [hE17, up_n (ne_nw N13_h16 l3_n)]; exact N13_h16
  have N17_h17 : h17 l3 = some (.inr (23, [.int (nI 0), .null, .int (nI 0)])) := by rw [hE17]; exact up_s
  refine ww_dup C dX3_init_59 rfl ?_
  refine ci_X3_20_q (As := []) (rest := [.ref l3, .ref g]) C dX3_init_60 (ct_J2_init (Cx.fl C) (Cx.ok C) N17_h17) rfl rfl (Nat.le_of_ble_eq_true rfl) (by decide) (Nat.zero_le _) (Nat.zero_le _) (fun z18 h18 q18 => ?_)
  obtain ⟨hq, hE18⟩ := q18; replace hq := hq.symm; subst hq
  have Hg_h19 : h18 g = some (.inr (2, [.int (nI 5), .int (nI 5), .ref l0, .ref l1, .int (nI 0), .int (nI 0), .ref li, .ref l2, .null])) := by rw [hE18, up_n (ne_ob Hg_h17 N17_h17 (by simp))]; exact Hg_h17
  have N3_h19 : h18 l0 = some (.inr (23, [.int (nI 0), .ref (gE (xG X) 0), .int (nI 0)])) := by rw [hE18, up_n (ne_ob N3_h17 N17_h17 (by simp))]; exact N3_h17
  have N7_h19 : h18 l1 = some (.inr (23, [.int (nI 0), .ref (gE (xG X) 0), .int (nI 0)])) := by rw [hE18, up_n (ne_ob N7_h17 N17_h17 (by simp))]; exact N7_h17
  have N11_h19 : h18 li = some (.inl (gA (xG X) 0, (49, .inl (fun _ => 0)))) := by rw [hE18, up_n (ne_ob N11_h17 N17_h17 (by simp))]; exact N11_h17
  have N13_h19 : h18 l2 = some (.inr (23, [.int (nI 0), .ref (gE (xG X) 0), .int (nI 0)])) := by rw [hE18, up_n (ne_ob N13_h17 N17_h17 (by simp))]; exact N13_h17
  have N17_h19 : h18 l3 = some (.inr (23, [.int (nI 0), .ref (gE (xG X) 0), .int (nI 0)])) := by rw [hE18]; exact up_s
  refine pf_X3_35_X3 (fs' := [.int (nI 5), .int (nI 5), .ref l0, .ref l1, .int (nI 0), .int (nI 0), .ref li, .ref l2, .ref l3]) C dX3_init_63 Hg_h19 rfl rfl (Nat.le_of_ble_eq_true rfl) rfl ?_
  refine ww_gen (fun h20 hE20 => ?_)
  have N3_h20 : h20 l0 = some (.inr (23, [.int (nI 0), .ref (gE (xG X) 0), .int (nI 0)])) := by rw [hE20, up_n (ne_ob N3_h19 Hg_h19 (by simp))]; exact N3_h19
  have N7_h20 : h20 l1 = some (.inr (23, [.int (nI 0), .ref (gE (xG X) 0), .int (nI 0)])) := by rw [hE20, up_n (ne_ob N7_h19 Hg_h19 (by simp))]; exact N7_h19
  have N11_h20 : h20 li = some (.inl (gA (xG X) 0, (49, .inl (fun _ => 0)))) := by rw [hE20, up_n (ne_ob N11_h19 Hg_h19 (by simp))]; exact N11_h19
  have N13_h20 : h20 l2 = some (.inr (23, [.int (nI 0), .ref (gE (xG X) 0), .int (nI 0)])) := by rw [hE20, up_n (ne_ob N13_h19 Hg_h19 (by simp))]; exact N13_h19
  have N17_h20 : h20 l3 = some (.inr (23, [.int (nI 0), .ref (gE (xG X) 0), .int (nI 0)])) := by rw [hE20, up_n (ne_ob N17_h19 Hg_h19 (by simp))]; exact N17_h19
  have Hg_h20 : h20 g = some (.inr (2, [.int (nI 5), .int (nI 5), .ref l0, .ref l1, .int (nI 0), .int (nI 0), .ref li, .ref l2, .ref l3])) := by rw [hE20]; exact up_s
  have hfr : ∀ q e, h q = some e → q ≠ g → h20 q = some e := fun q e hq ng => by
    have n0 : q ≠ l0 ∧ q ≠ l1 ∧ q ≠ li ∧ q ≠ l2 ∧ q ≠ l3 := by
      have t0 : h q = some e := hq
      have t1 : h1 q = some e := by rw [hE1, up_n ng]; exact t0
      have t2 : h2 q = some e := by rw [hE2, up_n ng]; exact t1
      have e_l0 : q ≠ l0 := ne_nw t2 l0_n
      have t3 : h3 q = some e := by rw [hE3, up_n e_l0]; exact t2
      have t4 : h4 q = some e := by rw [hE4, up_n e_l0]; exact t3
      have t5 : h6 q = some e := by rw [hE6, up_n ng]; exact t4
      have e_l1 : q ≠ l1 := ne_nw t5 l1_n
      have t6 : h7 q = some e := by rw [hE7, up_n e_l1]; exact t5
      have t7 : h8 q = some e := by rw [hE8, up_n e_l1]; exact t6
      have t8 : h10 q = some e := by rw [hE10, up_n ng]; exact t7
      have e_li : q ≠ li := ne_nw t8 li_n
      have t9 : h11 q = some e := by rw [hE11, up_n e_li]; exact t8
      have t10 : h12 q = some e := by rw [hE12, up_n ng]; exact t9
      have e_l2 : q ≠ l2 := ne_nw t10 l2_n
      have t11 : h13 q = some e := by rw [hE13, up_n e_l2]; exact t10
      have t12 : h14 q = some e := by rw [hE14, up_n e_l2]; exact t11
      have t13 : h16 q = some e := by rw [hE16, up_n ng]; exact t12
      have e_l3 : q ≠ l3 := ne_nw t13 l3_n
      have t14 : h17 q = some e := by rw [hE17, up_n e_l3]; exact t13
      have t15 : h18 q = some e := by rw [hE18, up_n e_l3]; exact t14
      have t16 : h20 q = some e := by rw [hE20, up_n ng]; exact t15
      exact ⟨e_l0, e_l1, e_li, e_l2, e_l3⟩
    obtain ⟨e_l0, e_l1, e_li, e_l2, e_l3⟩ := n0
    rw [hE20, up_n ng, hE18, up_n e_l3, hE17, up_n e_l3, hE16, up_n ng, hE14, up_n e_l2, hE13, up_n e_l2, hE12, up_n ng, hE11, up_n e_li, hE10, up_n ng, hE8, up_n e_l1, hE7, up_n e_l1, hE6, up_n ng, hE4, up_n e_l0, hE3, up_n e_l0, hE2, up_n ng, hE1, up_n ng]; exact hq
  have hA4 : h20 li = some (cLi (xG X) bd0) := N11_h20
  have n_l0_l1 : l0 ≠ l1 := ne_nw N3_h6 l1_n
  have n_l0_li : l0 ≠ li := ne_nw N3_h10 li_n
  have n_l1_li : l1 ≠ li := ne_nw N7_h10 li_n
  have n_l0_l2 : l0 ≠ l2 := ne_nw N3_h12 l2_n
  have n_l1_l2 : l1 ≠ l2 := ne_nw N7_h12 l2_n
  have n_li_l2 : li ≠ l2 := ne_nw N11_h12 l2_n
  have n_l0_l3 : l0 ≠ l3 := ne_nw N3_h16 l3_n
  have n_l1_l3 : l1 ≠ l3 := ne_nw N7_h16 l3_n
  have n_li_l3 : li ≠ l3 := ne_nw N11_h16 l3_n
  have n_l2_l3 : l2 ≠ l3 := ne_nw N13_h16 l3_n
  have hfp : ∀ q, fpG (xG X) g (aA0 (gE (xG X) 0) l0 l1 li l2 l3) q → q = g ∨ (h q = none ∧ ∀ e, ¬ z q e) := fun q hq => by
    have hn : ∀ b, b ≠ g → (∀ e, h b = some e → b ≠ g → False) → h b = none := fun b hb hh => Option.eq_none_iff_forall_ne_some.mpr (fun e he => hh e he hb)
    have g_l0 : h l0 = none := Option.eq_none_iff_forall_ne_some.mpr (fun e he => by
      have ng : l0 ≠ g := (ne_ob N3_h20 Hg_h20 (by simp))
      have t1 : h1 l0 = some e := by rw [hE1, up_n ng]; exact he
      have t2 : h2 l0 = some e := by rw [hE2, up_n ng]; exact t1
      exact absurd t2 (by rw [l0_n]; simp))
    have g_l1 : h l1 = none := Option.eq_none_iff_forall_ne_some.mpr (fun e he => by
      have ng : l1 ≠ g := (ne_ob N7_h20 Hg_h20 (by simp))
      have t1 : h1 l1 = some e := by rw [hE1, up_n ng]; exact he
      have t2 : h2 l1 = some e := by rw [hE2, up_n ng]; exact t1
      have t3 : h3 l1 = some e := by rw [hE3, up_n n_l0_l1.symm]; exact t2
      have t4 : h4 l1 = some e := by rw [hE4, up_n n_l0_l1.symm]; exact t3
      have t5 : h6 l1 = some e := by rw [hE6, up_n ng]; exact t4
      exact absurd t5 (by rw [l1_n]; simp))
    have g_li : h li = none := Option.eq_none_iff_forall_ne_some.mpr (fun e he => by
      have ng : li ≠ g := (ne_ob N11_h20 Hg_h20 (by simp))
      have t1 : h1 li = some e := by rw [hE1, up_n ng]; exact he
      have t2 : h2 li = some e := by rw [hE2, up_n ng]; exact t1
      have t3 : h3 li = some e := by rw [hE3, up_n n_l0_li.symm]; exact t2
      have t4 : h4 li = some e := by rw [hE4, up_n n_l0_li.symm]; exact t3
      have t5 : h6 li = some e := by rw [hE6, up_n ng]; exact t4
      have t6 : h7 li = some e := by rw [hE7, up_n n_l1_li.symm]; exact t5
      have t7 : h8 li = some e := by rw [hE8, up_n n_l1_li.symm]; exact t6
      have t8 : h10 li = some e := by rw [hE10, up_n ng]; exact t7
      exact absurd t8 (by rw [li_n]; simp))
    have g_l2 : h l2 = none := Option.eq_none_iff_forall_ne_some.mpr (fun e he => by
      have ng : l2 ≠ g := (ne_ob N13_h20 Hg_h20 (by simp))
      have t1 : h1 l2 = some e := by rw [hE1, up_n ng]; exact he
      have t2 : h2 l2 = some e := by rw [hE2, up_n ng]; exact t1
      have t3 : h3 l2 = some e := by rw [hE3, up_n n_l0_l2.symm]; exact t2
      have t4 : h4 l2 = some e := by rw [hE4, up_n n_l0_l2.symm]; exact t3
      have t5 : h6 l2 = some e := by rw [hE6, up_n ng]; exact t4
      have t6 : h7 l2 = some e := by rw [hE7, up_n n_l1_l2.symm]; exact t5
      have t7 : h8 l2 = some e := by rw [hE8, up_n n_l1_l2.symm]; exact t6
      have t8 : h10 l2 = some e := by rw [hE10, up_n ng]; exact t7
      have t9 : h11 l2 = some e := by rw [hE11, up_n n_li_l2.symm]; exact t8
      have t10 : h12 l2 = some e := by rw [hE12, up_n ng]; exact t9
      exact absurd t10 (by rw [l2_n]; simp))
    have g_l3 : h l3 = none := Option.eq_none_iff_forall_ne_some.mpr (fun e he => by
      have ng : l3 ≠ g := (ne_ob N17_h20 Hg_h20 (by simp))
      have t1 : h1 l3 = some e := by rw [hE1, up_n ng]; exact he
      have t2 : h2 l3 = some e := by rw [hE2, up_n ng]; exact t1
      have t3 : h3 l3 = some e := by rw [hE3, up_n n_l0_l3.symm]; exact t2
      have t4 : h4 l3 = some e := by rw [hE4, up_n n_l0_l3.symm]; exact t3
      have t5 : h6 l3 = some e := by rw [hE6, up_n ng]; exact t4
      have t6 : h7 l3 = some e := by rw [hE7, up_n n_l1_l3.symm]; exact t5
      have t7 : h8 l3 = some e := by rw [hE8, up_n n_l1_l3.symm]; exact t6
      have t8 : h10 l3 = some e := by rw [hE10, up_n ng]; exact t7
      have t9 : h11 l3 = some e := by rw [hE11, up_n n_li_l3.symm]; exact t8
      have t10 : h12 l3 = some e := by rw [hE12, up_n ng]; exact t9
      have t11 : h13 l3 = some e := by rw [hE13, up_n n_l2_l3.symm]; exact t10
      have t12 : h14 l3 = some e := by rw [hE14, up_n n_l2_l3.symm]; exact t11
      have t13 : h16 l3 = some e := by rw [hE16, up_n ng]; exact t12
      exact absurd t13 (by rw [l3_n]; simp))
    rcases hq with rfl | rfl | rfl | rfl | rfl | rfl | ⟨q1, q2⟩
    · exact Or.inl rfl
    · exact Or.inr ⟨g_l0, l0_z⟩
    · exact Or.inr ⟨g_l1, l1_z⟩
    · exact Or.inr ⟨g_li, li_z⟩
    · exact Or.inr ⟨g_l2, l2_z⟩
    · exact Or.inr ⟨g_l3, l3_z⟩
    · rcases q1 with rfl | rfl | rfl | rfl <;> exact absurd rfl q2
  exact ww_vret C dX3_init_66 ⟨rfl, aA0 (gE (xG X) 0) l0 l1 li l2 l3, ⟨Hg_h20, hA4, al0 N3_h20, fun k hk => absurd hk (Nat.not_lt_zero k), al0 N7_h20, al0 N13_h20, al0 N17_h20, aA0_d n_l0_l1 n_l0_li n_l0_l2 n_l0_l3 n_l1_li n_l1_l2 n_l1_l3 n_li_l2 n_li_l3 n_l2_l3⟩, ⟨fun _ => rfl, fun _ => rfl, fun _ => rfl, fun _ => rfl⟩, hfp, hfr⟩
end GAME7
