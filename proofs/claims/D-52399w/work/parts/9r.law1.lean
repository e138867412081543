section LAW1
set_option maxRecDepth 100000
theorem ixO_c (x : Int32) (n : Nat) : ixO x n = none ∨ ∃ k, ixO x n = some k := by cases ixO x n <;> simp
theorem aHas_b (B : GB) (x : Int32) : ∃ b, (aHas B x).1 = bI b := by
  unfold aHas
  split
  · exact ⟨false, rfl⟩
  · exact ⟨_, rfl⟩
theorem aRin_b (B : GB) (x : Int32) : ∃ b, (aRin B x).1 = bI b := by
  unfold aRin
  split
  · exact ⟨false, rfl⟩
  · exact ⟨_, rfl⟩
theorem aPla_b (B : GB) (x : Int32) : ∃ b, (aPla B x).1 = bI b := by
  unfold aPla
  split
  · exact ⟨false, rfl⟩
  · exact ⟨_, rfl⟩
theorem aLef_b (B : GB) (x : Int32) : ∃ b, (aLef B x).1 = bI b := by
  unfold aLef
  split
  · exact ⟨false, rfl⟩
  · exact ⟨_, rfl⟩
theorem aFit_b (B : GB) (x y t : Int32) : ∃ b, (aFit B x y t).1 = bI b := by
  unfold aFit
  repeat' split
  all_goals first | exact ⟨false, rfl⟩ | exact ⟨_, rfl⟩
set_option maxHeartbeats 2000000 in
theorem ct_X0_hasTile {l : Launch} {Γ : Gm} (hl : l.flags = flags0) (hΓ : GOK Γ) {z : ZR} {h : AH} {a tp g ah : Nat} {er : Int32} {A : Nat → Nat} {B : GB} {rn dn : Int32} {o : Nat} {f : Nat → Int64} {x : Int32} (hz : zle (cst Γ) z) (Ha : rd z h a (.inr (0, [.ref tp, .int er, .ref g, .ref ah]))) (hG : GmP Γ z h g A B rn dn) (hB : BO B) (Ho : h o = some (cOu Γ f)) : CtW l Γ yX0_hasTile cX0_hasTile 4 (some .int) [(0, 16, 19, 25)] 10 1 6 [.ref a, .int x, .ref o] z h (HlP Γ z h o (aHas B x)) := by
  refine CtW.of hl hΓ (by decide +kernel) (Nat.le_of_ble_eq_true rfl) (fun X e1 e2 C => ?_)
  subst e1; subst e2
  have C : Cx X cX0_hasTile 4 "RingDominoLaw" "hasTile" (some .int) [(0, 16, 19, 25)] 10 := C
  have Ho : h o = some (.inl (gA (xG X) 2, (1, .inr (.inl f)))) := Ho
  show WW X (HlP (xG X) z h o (aHas B x)) z h 1 6 0 [(0, .ref a), (1, .int x), (2, .ref o)] []
  refine ww_aload_n C dX0_hasTile_0 rfl 2 rfl rfl ?_
  refine ww_iconst C dX0_hasTile_1 cI_0 ?_
  refine ww_aload_n C dX0_hasTile_2 rfl 0 rfl rfl ?_
  refine ww_iload_n C dX0_hasTile_3 rfl 1 rfl ?_
  refine cv_X0_21 (As := [.int x]) (rest := [.int (nI 0), .ref o]) C dX0_hasTile_4 (ct_X1_hasTile (Cx.fl C) (Cx.ok C) hz Ha hG hB) (rc_X1 (Cx.ok C) Ha) rfl rfl (Nat.le_of_ble_eq_true rfl) (by decide) (Nat.le_refl _) (Nat.le_refl _) (fun v9 z9 h9 q9 => ?_) (fun E9 a9 z9 h9 q9 => ?_)
  rotate_left
  · skip
    obtain ⟨hq1, hq2, hq3⟩ := q9; replace hq1 := hq1.symm; replace hq2 := hq2.symm; subst hq1; subst hq2
    rcases hq3 with ⟨hq0, hq3⟩ | ⟨hq0, hq3⟩ <;> subst hq0
    · skip
      refine wx_catchG C (name := "java/lang/IndexOutOfBoundsException") [] { startPc := 0, endPc := 16, handlerPc := 19, catchType := 25 } [] rfl (fun _ hy => nomatch hy) (by decide) (by decide) q2542 q2443 ?_
      show WW X (HlP (xG X) z h o (aHas B x)) z h (1 - 1) (6 - 6) 19 [(0, .ref a), (1, .int x), (2, .ref o)] [.ref a9]
      refine ww_astore_n (lv' := [(3, .ref a9), (0, .ref a), (1, .int x), (2, .ref o)]) C dX0_hasTile_19 rfl (by decide) rfl rfl ?_
      refine ww_iconst C dX0_hasTile_20 cI_1 ?_
      exact ww_iret C dX0_hasTile_21 ⟨by rw [hq3], rfl, f, (up_id Ho).symm, fun q => absurd (q.symm.trans hq3) (by decide)⟩
    · skip
      refine absurd hq3 ?_
      unfold aHas
      repeat' split
      all_goals simp
  refine ww_le (kc' := 0) (ns' := 0) (Nat.zero_le _) (Nat.zero_le _) ?_
  obtain ⟨hq0, hq1, hq2, hq3⟩ := q9; replace hq1 := hq1.symm; replace hq2 := hq2.symm; subst hq0; subst hq1; subst hq2
  obtain ⟨b9, hb9⟩ := aHas_b B x
  refine ww_if_eq (tgt := 14) C dX0_hasTile_7 (by decide) (fun c_7 => ?_) (fun c_7 => ?_)
  · skip
    refine ww_lconst (v := 0) C dX0_hasTile_14 rfl ?_
    refine ww_last C dX0_hasTile_15 Ho (by decide) (by decide) ?_
    refine ww_gen (fun h1 hE1 => ?_)
    have Ho_h1 : h1 o = some (.inl (gA (xG X) 2, (1, .inr (.inl (vp_updL f 0 (0 : Int64)))))) := by rw [hE1]; exact up_s
    refine ww_goto (tgt := 22) C dX0_hasTile_16 (by decide) ?_
    refine ww_iconst C dX0_hasTile_22 cI_0 ?_
    exact ww_iret C dX0_hasTile_23 ⟨by rw [hq3], rfl, _, hE1, fun _ => updL_0.trans (by rw [hb9] at c_7 ⊢; exact (bI_640 c_7).symm)⟩
  · skip
    refine ww_lconst (v := 1) C dX0_hasTile_10 rfl ?_
    refine ww_goto (tgt := 15) C dX0_hasTile_11 (by decide) ?_
    refine ww_last C dX0_hasTile_15 Ho (by decide) (by decide) ?_
    refine ww_gen (fun h2 hE2 => ?_)
    have Ho_h2 : h2 o = some (.inl (gA (xG X) 2, (1, .inr (.inl (vp_updL f 0 (1 : Int64)))))) := by rw [hE2]; exact up_s
    refine ww_goto (tgt := 22) C dX0_hasTile_16 (by decide) ?_
    refine ww_iconst C dX0_hasTile_22 cI_0 ?_
    exact ww_iret C dX0_hasTile_23 ⟨by rw [hq3], rfl, _, hE2, fun _ => updL_0.trans (by rw [hb9] at c_7 ⊢; exact (bI_64 c_7).symm)⟩
set_option maxHeartbeats 2000000 in
theorem ct_X0_matchesOf {l : Launch} {Γ : Gm} (hl : l.flags = flags0) (hΓ : GOK Γ) {z : ZR} {h : AH} {a tp g ah : Nat} {er : Int32} {A : Nat → Nat} {B : GB} {rn dn : Int32} {o : Nat} {f : Nat → Int64} {x : Int32} (hz : zle (cst Γ) z) (Ha : rd z h a (.inr (0, [.ref tp, .int er, .ref g, .ref ah]))) (hG : GmP Γ z h g A B rn dn) (hB : BO B) (Ho : h o = some (cOu Γ f)) : CtW l Γ yX0_matchesOf cX0_matchesOf 4 (some .int) [(0, 9, 12, 25)] 10 1 6 [.ref a, .int x, .ref o] z h (HlP Γ z h o (aMaO B x)) := by
  refine CtW.of hl hΓ (by decide +kernel) (Nat.le_of_ble_eq_true rfl) (fun X e1 e2 C => ?_)
  subst e1; subst e2
  have C : Cx X cX0_matchesOf 4 "RingDominoLaw" "matchesOf" (some .int) [(0, 9, 12, 25)] 10 := C
  have Ho : h o = some (.inl (gA (xG X) 2, (1, .inr (.inl f)))) := Ho
  show WW X (HlP (xG X) z h o (aMaO B x)) z h 1 6 0 [(0, .ref a), (1, .int x), (2, .ref o)] []
  refine ww_aload_n C dX0_matchesOf_0 rfl 2 rfl rfl ?_
  refine ww_iconst C dX0_matchesOf_1 cI_0 ?_
  refine ww_aload_n C dX0_matchesOf_2 rfl 0 rfl rfl ?_
  refine ww_iload_n C dX0_matchesOf_3 rfl 1 rfl ?_
  refine cv_X0_34 (As := [.int x]) (rest := [.int (nI 0), .ref o]) C dX0_matchesOf_4 (ct_X1_matchesOf (Cx.fl C) (Cx.ok C) hz Ha hG hB) (rc_X1 (Cx.ok C) Ha) rfl rfl (Nat.le_of_ble_eq_true rfl) (by decide) (Nat.le_refl _) (Nat.le_refl _) (fun v9 z9 h9 q9 => ?_) (fun E9 a9 z9 h9 q9 => ?_)
  rotate_left
  · skip
    obtain ⟨hq1, hq2, hq3⟩ := q9; replace hq1 := hq1.symm; replace hq2 := hq2.symm; subst hq1; subst hq2
    rcases hq3 with ⟨hq0, hq3⟩ | ⟨hq0, hq3⟩ <;> subst hq0
    · skip
      refine wx_catchG C (name := "java/lang/IndexOutOfBoundsException") [] { startPc := 0, endPc := 9, handlerPc := 12, catchType := 25 } [] rfl (fun _ hy => nomatch hy) (by decide) (by decide) q2542 q2443 ?_
      show WW X (HlP (xG X) z h o (aMaO B x)) z h (1 - 1) (6 - 6) 12 [(0, .ref a), (1, .int x), (2, .ref o)] [.ref a9]
      refine ww_astore_n (lv' := [(3, .ref a9), (0, .ref a), (1, .int x), (2, .ref o)]) C dX0_matchesOf_12 rfl (by decide) rfl rfl ?_
      refine ww_iconst C dX0_matchesOf_13 cI_1 ?_
      exact ww_iret C dX0_matchesOf_14 ⟨by rw [hq3], rfl, f, (up_id Ho).symm, fun q => absurd (q.symm.trans hq3) (by decide)⟩
    · skip
      refine absurd hq3 ?_
      unfold aMaO
      repeat' split
      all_goals simp
  refine ww_le (kc' := 0) (ns' := 0) (Nat.zero_le _) (Nat.zero_le _) ?_
  obtain ⟨hq0, hq1, hq2, hq3⟩ := q9; replace hq1 := hq1.symm; replace hq2 := hq2.symm; subst hq0; subst hq1; subst hq2
  refine ww_i2l C dX0_matchesOf_7 rfl ?_
  refine ww_last C dX0_matchesOf_8 Ho (by decide) (by decide) ?_
  refine ww_gen (fun h1 hE1 => ?_)
  have Ho_h1 : h1 o = some (.inl (gA (xG X) 2, (1, .inr (.inl (vp_updL f 0 (((aMaO B x).1).toInt64)))))) := by rw [hE1]; exact up_s
  refine ww_goto (tgt := 15) C dX0_matchesOf_9 (by decide) ?_
  refine ww_iconst C dX0_matchesOf_15 cI_0 ?_
  exact ww_iret C dX0_matchesOf_16 ⟨by rw [hq3], rfl, _, hE1, fun _ => updL_0⟩
set_option maxHeartbeats 2000000 in
theorem ct_X0_isRing {l : Launch} {Γ : Gm} (hl : l.flags = flags0) (hΓ : GOK Γ) {z : ZR} {h : AH} {a tp g ah : Nat} {er : Int32} {A : Nat → Nat} {B : GB} {rn dn : Int32} {o : Nat} {f : Nat → Int64} {x : Int32} (hz : zle (cst Γ) z) (Ha : rd z h a (.inr (0, [.ref tp, .int er, .ref g, .ref ah]))) (hG : GmP Γ z h g A B rn dn) (hB : BO B) (Ho : h o = some (cOu Γ f)) : CtW l Γ yX0_isRing cX0_isRing 4 (some .int) [(0, 16, 19, 25)] 10 1 6 [.ref a, .int x, .ref o] z h (HlP Γ z h o (aRin B x)) := by
  refine CtW.of hl hΓ (by decide +kernel) (Nat.le_of_ble_eq_true rfl) (fun X e1 e2 C => ?_)
  subst e1; subst e2
  have C : Cx X cX0_isRing 4 "RingDominoLaw" "isRing" (some .int) [(0, 16, 19, 25)] 10 := C
  have Ho : h o = some (.inl (gA (xG X) 2, (1, .inr (.inl f)))) := Ho
  show WW X (HlP (xG X) z h o (aRin B x)) z h 1 6 0 [(0, .ref a), (1, .int x), (2, .ref o)] []
  refine ww_aload_n C dX0_isRing_0 rfl 2 rfl rfl ?_
  refine ww_iconst C dX0_isRing_1 cI_0 ?_
  refine ww_aload_n C dX0_isRing_2 rfl 0 rfl rfl ?_
  refine ww_iload_n C dX0_isRing_3 rfl 1 rfl ?_
  refine cv_X0_37 (As := [.int x]) (rest := [.int (nI 0), .ref o]) C dX0_isRing_4 (ct_X1_isRing (Cx.fl C) (Cx.ok C) hz Ha hG hB) (rc_X1 (Cx.ok C) Ha) rfl rfl (Nat.le_of_ble_eq_true rfl) (by decide) (Nat.le_refl _) (Nat.le_refl _) (fun v9 z9 h9 q9 => ?_) (fun E9 a9 z9 h9 q9 => ?_)
  rotate_left
  · skip
    obtain ⟨hq1, hq2, hq3⟩ := q9; replace hq1 := hq1.symm; replace hq2 := hq2.symm; subst hq1; subst hq2
    rcases hq3 with ⟨hq0, hq3⟩ | ⟨hq0, hq3⟩ <;> subst hq0
    · skip
      refine wx_catchG C (name := "java/lang/IndexOutOfBoundsException") [] { startPc := 0, endPc := 16, handlerPc := 19, catchType := 25 } [] rfl (fun _ hy => nomatch hy) (by decide) (by decide) q2542 q2443 ?_
      show WW X (HlP (xG X) z h o (aRin B x)) z h (1 - 1) (6 - 6) 19 [(0, .ref a), (1, .int x), (2, .ref o)] [.ref a9]
      refine ww_astore_n (lv' := [(3, .ref a9), (0, .ref a), (1, .int x), (2, .ref o)]) C dX0_isRing_19 rfl (by decide) rfl rfl ?_
      refine ww_iconst C dX0_isRing_20 cI_1 ?_
      exact ww_iret C dX0_isRing_21 ⟨by rw [hq3], rfl, f, (up_id Ho).symm, fun q => absurd (q.symm.trans hq3) (by decide)⟩
    · skip
      refine absurd hq3 ?_
      unfold aRin
      repeat' split
      all_goals simp
  refine ww_le (kc' := 0) (ns' := 0) (Nat.zero_le _) (Nat.zero_le _) ?_
  obtain ⟨hq0, hq1, hq2, hq3⟩ := q9; replace hq1 := hq1.symm; replace hq2 := hq2.symm; subst hq0; subst hq1; subst hq2
  obtain ⟨b9, hb9⟩ := aRin_b B x
  refine ww_if_eq (tgt := 14) C dX0_isRing_7 (by decide) (fun c_7 => ?_) (fun c_7 => ?_)
  · skip
    refine ww_lconst (v := 0) C dX0_isRing_14 rfl ?_
    refine ww_last C dX0_isRing_15 Ho (by decide) (by decide) ?_
    refine ww_gen (fun h1 hE1 => ?_)
    have Ho_h1 : h1 o = some (.inl (gA (xG X) 2, (1, .inr (.inl (vp_updL f 0 (0 : Int64)))))) := by rw [hE1]; exact up_s
    refine ww_goto (tgt := 22) C dX0_isRing_16 (by decide) ?_
    refine ww_iconst C dX0_isRing_22 cI_0 ?_
    exact ww_iret C dX0_isRing_23 ⟨by rw [hq3], rfl, _, hE1, fun _ => updL_0.trans (by rw [hb9] at c_7 ⊢; exact (bI_640 c_7).symm)⟩
  · skip
    refine ww_lconst (v := 1) C dX0_isRing_10 rfl ?_
    refine ww_goto (tgt := 15) C dX0_isRing_11 (by decide) ?_
    refine ww_last C dX0_isRing_15 Ho (by decide) (by decide) ?_
    refine ww_gen (fun h2 hE2 => ?_)
    have Ho_h2 : h2 o = some (.inl (gA (xG X) 2, (1, .inr (.inl (vp_updL f 0 (1 : Int64)))))) := by rw [hE2]; exact up_s
    refine ww_goto (tgt := 22) C dX0_isRing_16 (by decide) ?_
    refine ww_iconst C dX0_isRing_22 cI_0 ?_
    exact ww_iret C dX0_isRing_23 ⟨by rw [hq3], rfl, _, hE2, fun _ => updL_0.trans (by rw [hb9] at c_7 ⊢; exact (bI_64 c_7).symm)⟩
set_option maxHeartbeats 2000000 in
theorem ct_X0_isPlaced {l : Launch} {Γ : Gm} (hl : l.flags = flags0) (hΓ : GOK Γ) {z : ZR} {h : AH} {a tp g ah : Nat} {er : Int32} {A : Nat → Nat} {B : GB} {rn dn : Int32} {o : Nat} {f : Nat → Int64} {x : Int32} (hz : zle (cst Γ) z) (Ha : rd z h a (.inr (0, [.ref tp, .int er, .ref g, .ref ah]))) (hG : GmP Γ z h g A B rn dn) (hB : BO B) (Ho : h o = some (cOu Γ f)) : CtW l Γ yX0_isPlaced cX0_isPlaced 4 (some .int) [(0, 16, 19, 25)] 10 1 6 [.ref a, .int x, .ref o] z h (HlP Γ z h o (aPla B x)) := by
  refine CtW.of hl hΓ (by decide +kernel) (Nat.le_of_ble_eq_true rfl) (fun X e1 e2 C => ?_)
  subst e1; subst e2
  have C : Cx X cX0_isPlaced 4 "RingDominoLaw" "isPlaced" (some .int) [(0, 16, 19, 25)] 10 := C
  have Ho : h o = some (.inl (gA (xG X) 2, (1, .inr (.inl f)))) := Ho
  show WW X (HlP (xG X) z h o (aPla B x)) z h 1 6 0 [(0, .ref a), (1, .int x), (2, .ref o)] []
  refine ww_aload_n C dX0_isPlaced_0 rfl 2 rfl rfl ?_
  refine ww_iconst C dX0_isPlaced_1 cI_0 ?_
  refine ww_aload_n C dX0_isPlaced_2 rfl 0 rfl rfl ?_
  refine ww_iload_n C dX0_isPlaced_3 rfl 1 rfl ?_
  refine cv_X0_40 (As := [.int x]) (rest := [.int (nI 0), .ref o]) C dX0_isPlaced_4 (ct_X1_isPlaced (Cx.fl C) (Cx.ok C) hz Ha hG hB) (rc_X1 (Cx.ok C) Ha) rfl rfl (Nat.le_of_ble_eq_true rfl) (by decide) (Nat.le_refl _) (Nat.le_refl _) (fun v9 z9 h9 q9 => ?_) (fun E9 a9 z9 h9 q9 => ?_)
  rotate_left
  · skip
    obtain ⟨hq1, hq2, hq3⟩ := q9; replace hq1 := hq1.symm; replace hq2 := hq2.symm; subst hq1; subst hq2
    rcases hq3 with ⟨hq0, hq3⟩ | ⟨hq0, hq3⟩ <;> subst hq0
    · skip
      refine wx_catchG C (name := "java/lang/IndexOutOfBoundsException") [] { startPc := 0, endPc := 16, handlerPc := 19, catchType := 25 } [] rfl (fun _ hy => nomatch hy) (by decide) (by decide) q2542 q2443 ?_
      show WW X (HlP (xG X) z h o (aPla B x)) z h (1 - 1) (6 - 6) 19 [(0, .ref a), (1, .int x), (2, .ref o)] [.ref a9]
      refine ww_astore_n (lv' := [(3, .ref a9), (0, .ref a), (1, .int x), (2, .ref o)]) C dX0_isPlaced_19 rfl (by decide) rfl rfl ?_
      refine ww_iconst C dX0_isPlaced_20 cI_1 ?_
      exact ww_iret C dX0_isPlaced_21 ⟨by rw [hq3], rfl, f, (up_id Ho).symm, fun q => absurd (q.symm.trans hq3) (by decide)⟩
    · skip
      refine absurd hq3 ?_
      unfold aPla
      repeat' split
      all_goals simp
  refine ww_le (kc' := 0) (ns' := 0) (Nat.zero_le _) (Nat.zero_le _) ?_
  obtain ⟨hq0, hq1, hq2, hq3⟩ := q9; replace hq1 := hq1.symm; replace hq2 := hq2.symm; subst hq0; subst hq1; subst hq2
  obtain ⟨b9, hb9⟩ := aPla_b B x
  refine ww_if_eq (tgt := 14) C dX0_isPlaced_7 (by decide) (fun c_7 => ?_) (fun c_7 => ?_)
  · skip
    refine ww_lconst (v := 0) C dX0_isPlaced_14 rfl ?_
    refine ww_last C dX0_isPlaced_15 Ho (by decide) (by decide) ?_
    refine ww_gen (fun h1 hE1 => ?_)
    have Ho_h1 : h1 o = some (.inl (gA (xG X) 2, (1, .inr (.inl (vp_updL f 0 (0 : Int64)))))) := by rw [hE1]; exact up_s
    refine ww_goto (tgt := 22) C dX0_isPlaced_16 (by decide) ?_
    refine ww_iconst C dX0_isPlaced_22 cI_0 ?_
    exact ww_iret C dX0_isPlaced_23 ⟨by rw [hq3], rfl, _, hE1, fun _ => updL_0.trans (by rw [hb9] at c_7 ⊢; exact (bI_640 c_7).symm)⟩
  · skip
    refine ww_lconst (v := 1) C dX0_isPlaced_10 rfl ?_
    refine ww_goto (tgt := 15) C dX0_isPlaced_11 (by decide) ?_
    refine ww_last C dX0_isPlaced_15 Ho (by decide) (by decide) ?_
    refine ww_gen (fun h2 hE2 => ?_)
    have Ho_h2 : h2 o = some (.inl (gA (xG X) 2, (1, .inr (.inl (vp_updL f 0 (1 : Int64)))))) := by rw [hE2]; exact up_s
    refine ww_goto (tgt := 22) C dX0_isPlaced_16 (by decide) ?_
    refine ww_iconst C dX0_isPlaced_22 cI_0 ?_
    exact ww_iret C dX0_isPlaced_23 ⟨by rw [hq3], rfl, _, hE2, fun _ => updL_0.trans (by rw [hb9] at c_7 ⊢; exact (bI_64 c_7).symm)⟩
set_option maxHeartbeats 2000000 in
theorem ct_X0_waysOf {l : Launch} {Γ : Gm} (hl : l.flags = flags0) (hΓ : GOK Γ) {z : ZR} {h : AH} {a tp g ah : Nat} {er : Int32} {A : Nat → Nat} {B : GB} {rn dn : Int32} {o : Nat} {f : Nat → Int64} {x : Int32} (hz : zle (cst Γ) z) (Ha : rd z h a (.inr (0, [.ref tp, .int er, .ref g, .ref ah]))) (hG : GmP Γ z h g A B rn dn) (hB : BO B) (Ho : h o = some (cOu Γ f)) : CtW l Γ yX0_waysOf cX0_waysOf 4 (some .int) [(0, 9, 12, 25)] 10 1 6 [.ref a, .int x, .ref o] z h (HlP Γ z h o (aWay B x)) := by
  refine CtW.of hl hΓ (by decide +kernel) (Nat.le_of_ble_eq_true rfl) (fun X e1 e2 C => ?_)
  subst e1; subst e2
  have C : Cx X cX0_waysOf 4 "RingDominoLaw" "waysOf" (some .int) [(0, 9, 12, 25)] 10 := C
  have Ho : h o = some (.inl (gA (xG X) 2, (1, .inr (.inl f)))) := Ho
  show WW X (HlP (xG X) z h o (aWay B x)) z h 1 6 0 [(0, .ref a), (1, .int x), (2, .ref o)] []
  refine ww_aload_n C dX0_waysOf_0 rfl 2 rfl rfl ?_
  refine ww_iconst C dX0_waysOf_1 cI_0 ?_
  refine ww_aload_n C dX0_waysOf_2 rfl 0 rfl rfl ?_
  refine ww_iload_n C dX0_waysOf_3 rfl 1 rfl ?_
  refine cv_X0_57 (As := [.int x]) (rest := [.int (nI 0), .ref o]) C dX0_waysOf_4 (ct_X1_waysOf (Cx.fl C) (Cx.ok C) hz Ha hG hB) (rc_X1 (Cx.ok C) Ha) rfl rfl (Nat.le_of_ble_eq_true rfl) (by decide) (Nat.le_refl _) (Nat.le_refl _) (fun v9 z9 h9 q9 => ?_) (fun E9 a9 z9 h9 q9 => ?_)
  rotate_left
  · skip
    obtain ⟨hq1, hq2, hq3⟩ := q9; replace hq1 := hq1.symm; replace hq2 := hq2.symm; subst hq1; subst hq2
    rcases hq3 with ⟨hq0, hq3⟩ | ⟨hq0, hq3⟩ <;> subst hq0
    · skip
      refine wx_catchG C (name := "java/lang/IndexOutOfBoundsException") [] { startPc := 0, endPc := 9, handlerPc := 12, catchType := 25 } [] rfl (fun _ hy => nomatch hy) (by decide) (by decide) q2542 q2443 ?_
      show WW X (HlP (xG X) z h o (aWay B x)) z h (1 - 1) (6 - 6) 12 [(0, .ref a), (1, .int x), (2, .ref o)] [.ref a9]
      refine ww_astore_n (lv' := [(3, .ref a9), (0, .ref a), (1, .int x), (2, .ref o)]) C dX0_waysOf_12 rfl (by decide) rfl rfl ?_
      refine ww_iconst C dX0_waysOf_13 cI_1 ?_
      exact ww_iret C dX0_waysOf_14 ⟨by rw [hq3], rfl, f, (up_id Ho).symm, fun q => absurd (q.symm.trans hq3) (by decide)⟩
    · skip
      refine absurd hq3 ?_
      unfold aWay
      repeat' split
      all_goals simp
  refine ww_le (kc' := 0) (ns' := 0) (Nat.zero_le _) (Nat.zero_le _) ?_
  obtain ⟨hq0, hq1, hq2, hq3⟩ := q9; replace hq1 := hq1.symm; replace hq2 := hq2.symm; subst hq0; subst hq1; subst hq2
  refine ww_i2l C dX0_waysOf_7 rfl ?_
  refine ww_last C dX0_waysOf_8 Ho (by decide) (by decide) ?_
  refine ww_gen (fun h1 hE1 => ?_)
  have Ho_h1 : h1 o = some (.inl (gA (xG X) 2, (1, .inr (.inl (vp_updL f 0 (((aWay B x).1).toInt64)))))) := by rw [hE1]; exact up_s
  refine ww_goto (tgt := 15) C dX0_waysOf_9 (by decide) ?_
  refine ww_iconst C dX0_waysOf_15 cI_0 ?_
  exact ww_iret C dX0_waysOf_16 ⟨by rw [hq3], rfl, _, hE1, fun _ => updL_0⟩
set_option maxHeartbeats 2000000 in
theorem ct_X0_isLeftover {l : Launch} {Γ : Gm} (hl : l.flags = flags0) (hΓ : GOK Γ) {z : ZR} {h : AH} {a tp g ah : Nat} {er : Int32} {A : Nat → Nat} {B : GB} {rn dn : Int32} {o : Nat} {f : Nat → Int64} {x : Int32} (hz : zle (cst Γ) z) (Ha : rd z h a (.inr (0, [.ref tp, .int er, .ref g, .ref ah]))) (hG : GmP Γ z h g A B rn dn) (hB : BO B) (Ho : h o = some (cOu Γ f)) : CtW l Γ yX0_isLeftover cX0_isLeftover 4 (some .int) [(0, 16, 19, 25)] 10 1 6 [.ref a, .int x, .ref o] z h (HlP Γ z h o (aLef B x)) := by
  refine CtW.of hl hΓ (by decide +kernel) (Nat.le_of_ble_eq_true rfl) (fun X e1 e2 C => ?_)
  subst e1; subst e2
  have C : Cx X cX0_isLeftover 4 "RingDominoLaw" "isLeftover" (some .int) [(0, 16, 19, 25)] 10 := C
  have Ho : h o = some (.inl (gA (xG X) 2, (1, .inr (.inl f)))) := Ho
  show WW X (HlP (xG X) z h o (aLef B x)) z h 1 6 0 [(0, .ref a), (1, .int x), (2, .ref o)] []
  refine ww_aload_n C dX0_isLeftover_0 rfl 2 rfl rfl ?_
  refine ww_iconst C dX0_isLeftover_1 cI_0 ?_
  refine ww_aload_n C dX0_isLeftover_2 rfl 0 rfl rfl ?_
  refine ww_iload_n C dX0_isLeftover_3 rfl 1 rfl ?_
  refine cv_X0_60 (As := [.int x]) (rest := [.int (nI 0), .ref o]) C dX0_isLeftover_4 (ct_X1_isLeftover (Cx.fl C) (Cx.ok C) hz Ha hG hB) (rc_X1 (Cx.ok C) Ha) rfl rfl (Nat.le_of_ble_eq_true rfl) (by decide) (Nat.le_refl _) (Nat.le_refl _) (fun v9 z9 h9 q9 => ?_) (fun E9 a9 z9 h9 q9 => ?_)
  rotate_left
  · skip
    obtain ⟨hq1, hq2, hq3⟩ := q9; replace hq1 := hq1.symm; replace hq2 := hq2.symm; subst hq1; subst hq2
    rcases hq3 with ⟨hq0, hq3⟩ | ⟨hq0, hq3⟩ <;> subst hq0
    · skip
      refine wx_catchG C (name := "java/lang/IndexOutOfBoundsException") [] { startPc := 0, endPc := 16, handlerPc := 19, catchType := 25 } [] rfl (fun _ hy => nomatch hy) (by decide) (by decide) q2542 q2443 ?_
      show WW X (HlP (xG X) z h o (aLef B x)) z h (1 - 1) (6 - 6) 19 [(0, .ref a), (1, .int x), (2, .ref o)] [.ref a9]
      refine ww_astore_n (lv' := [(3, .ref a9), (0, .ref a), (1, .int x), (2, .ref o)]) C dX0_isLeftover_19 rfl (by decide) rfl rfl ?_
      refine ww_iconst C dX0_isLeftover_20 cI_1 ?_
      exact ww_iret C dX0_isLeftover_21 ⟨by rw [hq3], rfl, f, (up_id Ho).symm, fun q => absurd (q.symm.trans hq3) (by decide)⟩
    · skip
      refine absurd hq3 ?_
      unfold aLef
      repeat' split
      all_goals simp
  refine ww_le (kc' := 0) (ns' := 0) (Nat.zero_le _) (Nat.zero_le _) ?_
  obtain ⟨hq0, hq1, hq2, hq3⟩ := q9; replace hq1 := hq1.symm; replace hq2 := hq2.symm; subst hq0; subst hq1; subst hq2
  obtain ⟨b9, hb9⟩ := aLef_b B x
  refine ww_if_eq (tgt := 14) C dX0_isLeftover_7 (by decide) (fun c_7 => ?_) (fun c_7 => ?_)
  · skip
    refine ww_lconst (v := 0) C dX0_isLeftover_14 rfl ?_
    refine ww_last C dX0_isLeftover_15 Ho (by decide) (by decide) ?_
    refine ww_gen (fun h1 hE1 => ?_)
    have Ho_h1 : h1 o = some (.inl (gA (xG X) 2, (1, .inr (.inl (vp_updL f 0 (0 : Int64)))))) := by rw [hE1]; exact up_s
    refine ww_goto (tgt := 22) C dX0_isLeftover_16 (by decide) ?_
    refine ww_iconst C dX0_isLeftover_22 cI_0 ?_
    exact ww_iret C dX0_isLeftover_23 ⟨by rw [hq3], rfl, _, hE1, fun _ => updL_0.trans (by rw [hb9] at c_7 ⊢; exact (bI_640 c_7).symm)⟩
  · skip
    refine ww_lconst (v := 1) C dX0_isLeftover_10 rfl ?_
    refine ww_goto (tgt := 15) C dX0_isLeftover_11 (by decide) ?_
    refine ww_last C dX0_isLeftover_15 Ho (by decide) (by decide) ?_
    refine ww_gen (fun h2 hE2 => ?_)
    have Ho_h2 : h2 o = some (.inl (gA (xG X) 2, (1, .inr (.inl (vp_updL f 0 (1 : Int64)))))) := by rw [hE2]; exact up_s
    refine ww_goto (tgt := 22) C dX0_isLeftover_16 (by decide) ?_
    refine ww_iconst C dX0_isLeftover_22 cI_0 ?_
    exact ww_iret C dX0_isLeftover_23 ⟨by rw [hq3], rfl, _, hE2, fun _ => updL_0.trans (by rw [hb9] at c_7 ⊢; exact (bI_64 c_7).symm)⟩
set_option maxHeartbeats 2000000 in
theorem ct_X0_tileAt {l : Launch} {Γ : Gm} (hl : l.flags = flags0) (hΓ : GOK Γ) {z : ZR} {h : AH} {a tp g ah : Nat} {er : Int32} {A : Nat → Nat} {B : GB} {rn dn : Int32} {o : Nat} {f : Nat → Int64} {x : Int32} (hz : zle (cst Γ) z) (Ha : rd z h a (.inr (0, [.ref tp, .int er, .ref g, .ref ah]))) (hG : GmP Γ z h g A B rn dn) (hB : BO B) (Ho : h o = some (cOu Γ f)) : CtW l Γ yX0_tileAt cX0_tileAt 4 (some .int) [(0, 9, 12, 25), (0, 9, 15, 13)] 10 2 12 [.ref a, .int x, .ref o] z h (HlP Γ z h o (aTil B x)) := by
  refine CtW.of hl hΓ (by decide +kernel) (Nat.le_of_ble_eq_true rfl) (fun X e1 e2 C => ?_)
  subst e1; subst e2
  have C : Cx X cX0_tileAt 4 "RingDominoLaw" "tileAt" (some .int) [(0, 9, 12, 25), (0, 9, 15, 13)] 10 := C
  have Ho : h o = some (.inl (gA (xG X) 2, (1, .inr (.inl f)))) := Ho
  show WW X (HlP (xG X) z h o (aTil B x)) z h 2 12 0 [(0, .ref a), (1, .int x), (2, .ref o)] []
  refine ww_aload_n C dX0_tileAt_0 rfl 2 rfl rfl ?_
  refine ww_iconst C dX0_tileAt_1 cI_0 ?_
  refine ww_aload_n C dX0_tileAt_2 rfl 0 rfl rfl ?_
  refine ww_iload_n C dX0_tileAt_3 rfl 1 rfl ?_
  refine cv_X0_27 (As := [.int x]) (rest := [.int (nI 0), .ref o]) C dX0_tileAt_4 (ct_X1_tileAt (Cx.fl C) (Cx.ok C) hz Ha hG hB) (rc_X1 (Cx.ok C) Ha) rfl rfl (Nat.le_of_ble_eq_true rfl) (by decide) (Nat.le_refl _) (Nat.le_refl _) (fun v9 z9 h9 q9 => ?_) (fun E9 a9 z9 h9 q9 => ?_)
  rotate_left
  · skip
    obtain ⟨hq1, hq2, hq3⟩ := q9; replace hq1 := hq1.symm; replace hq2 := hq2.symm; subst hq1; subst hq2
    rcases hq3 with ⟨hq0, hq3⟩ | ⟨hq0, hq3⟩ <;> subst hq0
    · skip
      refine wx_catchG C (name := "java/lang/IndexOutOfBoundsException") [] { startPc := 0, endPc := 9, handlerPc := 12, catchType := 25 } [{ startPc := 0, endPc := 9, handlerPc := 15, catchType := 13 }] rfl (fun _ hy => nomatch hy) (by decide) (by decide) q2542 q2443 ?_
      show WW X (HlP (xG X) z h o (aTil B x)) z h (2 - 2) (12 - 12) 12 [(0, .ref a), (1, .int x), (2, .ref o)] [.ref a9]
      refine ww_astore_n (lv' := [(3, .ref a9), (0, .ref a), (1, .int x), (2, .ref o)]) C dX0_tileAt_12 rfl (by decide) rfl rfl ?_
      refine ww_iconst C dX0_tileAt_13 cI_1 ?_
      exact ww_iret C dX0_tileAt_14 ⟨by rw [hq3], rfl, f, (up_id Ho).symm, fun q => absurd (q.symm.trans hq3) (by decide)⟩
    · skip
      refine wx_catchG C (name := "java/lang/IllegalStateException") [{ startPc := 0, endPc := 9, handlerPc := 12, catchType := 25 }] { startPc := 0, endPc := 9, handlerPc := 15, catchType := 13 } [] rfl (fun y hy => by cases List.mem_singleton.mp hy; exact ⟨by decide, _, q2542, nc_ISE⟩) (by decide) (by decide) q2493 q2503 ?_
      show WW X (HlP (xG X) z h o (aTil B x)) z h (2 - 2) (12 - 12) 15 [(0, .ref a), (1, .int x), (2, .ref o)] [.ref a9]
      refine ww_astore_n (lv' := [(3, .ref a9), (0, .ref a), (1, .int x), (2, .ref o)]) C dX0_tileAt_15 rfl (by decide) rfl rfl ?_
      refine ww_iconst C dX0_tileAt_16 cI_2 ?_
      exact ww_iret C dX0_tileAt_17 ⟨by rw [hq3], rfl, f, (up_id Ho).symm, fun q => absurd (q.symm.trans hq3) (by decide)⟩
  refine ww_le (kc' := 0) (ns' := 0) (Nat.zero_le _) (Nat.zero_le _) ?_
  obtain ⟨hq0, hq1, hq2, hq3⟩ := q9; replace hq1 := hq1.symm; replace hq2 := hq2.symm; subst hq0; subst hq1; subst hq2
  refine ww_i2l C dX0_tileAt_7 rfl ?_
  refine ww_last C dX0_tileAt_8 Ho (by decide) (by decide) ?_
  refine ww_gen (fun h1 hE1 => ?_)
  have Ho_h1 : h1 o = some (.inl (gA (xG X) 2, (1, .inr (.inl (vp_updL f 0 (((aTil B x).1).toInt64)))))) := by rw [hE1]; exact up_s
  refine ww_goto (tgt := 18) C dX0_tileAt_9 (by decide) ?_
  refine ww_iconst C dX0_tileAt_18 cI_0 ?_
  exact ww_iret C dX0_tileAt_19 ⟨by rw [hq3], rfl, _, hE1, fun _ => updL_0⟩
set_option maxHeartbeats 2000000 in
theorem ct_X0_numberAt {l : Launch} {Γ : Gm} (hl : l.flags = flags0) (hΓ : GOK Γ) {z : ZR} {h : AH} {a tp g ah : Nat} {er : Int32} {A : Nat → Nat} {B : GB} {rn dn : Int32} {o : Nat} {f : Nat → Int64} {x y : Int32} (hz : zle (cst Γ) z) (Ha : rd z h a (.inr (0, [.ref tp, .int er, .ref g, .ref ah]))) (hG : GmP Γ z h g A B rn dn) (hB : BO B) (Ho : h o = some (cOu Γ f)) : CtW l Γ yX0_numberAt cX0_numberAt 5 (some .int) [(0, 10, 13, 25), (0, 10, 17, 13)] 10 3 18 [.ref a, .int x, .int y, .ref o] z h (HlP Γ z h o (aNum B x y)) := by
  refine CtW.of hl hΓ (by decide +kernel) (Nat.le_of_ble_eq_true rfl) (fun X e1 e2 C => ?_)
  subst e1; subst e2
  have C : Cx X cX0_numberAt 5 "RingDominoLaw" "numberAt" (some .int) [(0, 10, 13, 25), (0, 10, 17, 13)] 10 := C
  have Ho : h o = some (.inl (gA (xG X) 2, (1, .inr (.inl f)))) := Ho
  show WW X (HlP (xG X) z h o (aNum B x y)) z h 3 18 0 [(0, .ref a), (1, .int x), (2, .int y), (3, .ref o)] []
  refine ww_aload_n C dX0_numberAt_0 rfl 3 rfl rfl ?_
  refine ww_iconst C dX0_numberAt_1 cI_0 ?_
  refine ww_aload_n C dX0_numberAt_2 rfl 0 rfl rfl ?_
  refine ww_iload_n C dX0_numberAt_3 rfl 1 rfl ?_
  refine ww_iload_n C dX0_numberAt_4 rfl 2 rfl ?_
  refine cv_X0_30 (As := [.int x, .int y]) (rest := [.int (nI 0), .ref o]) C dX0_numberAt_5 (ct_X1_numberAt (Cx.fl C) (Cx.ok C) hz Ha hG hB) (rc_X1 (Cx.ok C) Ha) rfl rfl (Nat.le_of_ble_eq_true rfl) (by decide) (Nat.le_refl _) (Nat.le_refl _) (fun v9 z9 h9 q9 => ?_) (fun E9 a9 z9 h9 q9 => ?_)
  rotate_left
  · skip
    obtain ⟨hq1, hq2, hq3⟩ := q9; replace hq1 := hq1.symm; replace hq2 := hq2.symm; subst hq1; subst hq2
    rcases hq3 with ⟨hq0, hq3⟩ | ⟨hq0, hq3⟩ <;> subst hq0
    · skip
      refine wx_catchG C (name := "java/lang/IndexOutOfBoundsException") [] { startPc := 0, endPc := 10, handlerPc := 13, catchType := 25 } [{ startPc := 0, endPc := 10, handlerPc := 17, catchType := 13 }] rfl (fun _ hy => nomatch hy) (by decide) (by decide) q2542 q2443 ?_
      show WW X (HlP (xG X) z h o (aNum B x y)) z h (3 - 3) (18 - 18) 13 [(0, .ref a), (1, .int x), (2, .int y), (3, .ref o)] [.ref a9]
      refine ww_astore (lv' := [(4, .ref a9), (0, .ref a), (1, .int x), (2, .int y), (3, .ref o)]) C dX0_numberAt_13 (by decide) rfl rfl ?_
      refine ww_iconst C dX0_numberAt_15 cI_1 ?_
      exact ww_iret C dX0_numberAt_16 ⟨by rw [hq3], rfl, f, (up_id Ho).symm, fun q => absurd (q.symm.trans hq3) (by decide)⟩
    · skip
      refine wx_catchG C (name := "java/lang/IllegalStateException") [{ startPc := 0, endPc := 10, handlerPc := 13, catchType := 25 }] { startPc := 0, endPc := 10, handlerPc := 17, catchType := 13 } [] rfl (fun y hy => by cases List.mem_singleton.mp hy; exact ⟨by decide, _, q2542, nc_ISE⟩) (by decide) (by decide) q2493 q2503 ?_
      show WW X (HlP (xG X) z h o (aNum B x y)) z h (3 - 3) (18 - 18) 17 [(0, .ref a), (1, .int x), (2, .int y), (3, .ref o)] [.ref a9]
      refine ww_astore (lv' := [(4, .ref a9), (0, .ref a), (1, .int x), (2, .int y), (3, .ref o)]) C dX0_numberAt_17 (by decide) rfl rfl ?_
      refine ww_iconst C dX0_numberAt_19 cI_2 ?_
      exact ww_iret C dX0_numberAt_20 ⟨by rw [hq3], rfl, f, (up_id Ho).symm, fun q => absurd (q.symm.trans hq3) (by decide)⟩
  refine ww_le (kc' := 0) (ns' := 0) (Nat.zero_le _) (Nat.zero_le _) ?_
  obtain ⟨hq0, hq1, hq2, hq3⟩ := q9; replace hq1 := hq1.symm; replace hq2 := hq2.symm; subst hq0; subst hq1; subst hq2
  refine ww_i2l C dX0_numberAt_8 rfl ?_
  refine ww_last C dX0_numberAt_9 Ho (by decide) (by decide) ?_
  refine ww_gen (fun h1 hE1 => ?_)
  have Ho_h1 : h1 o = some (.inl (gA (xG X) 2, (1, .inr (.inl (vp_updL f 0 (((aNum B x y).1).toInt64)))))) := by rw [hE1]; exact up_s
  refine ww_goto (tgt := 21) C dX0_numberAt_10 (by decide) ?_
  refine ww_iconst C dX0_numberAt_21 cI_0 ?_
  exact ww_iret C dX0_numberAt_22 ⟨by rw [hq3], rfl, _, hE1, fun _ => updL_0⟩
set_option maxHeartbeats 2000000 in
theorem ct_X0_cellOf {l : Launch} {Γ : Gm} (hl : l.flags = flags0) (hΓ : GOK Γ) {z : ZR} {h : AH} {a tp g ah : Nat} {er : Int32} {A : Nat → Nat} {B : GB} {rn dn : Int32} {o : Nat} {f : Nat → Int64} {x : Int32} (hz : zle (cst Γ) z) (Ha : rd z h a (.inr (0, [.ref tp, .int er, .ref g, .ref ah]))) (hG : GmP Γ z h g A B rn dn) (hB : BO B) (Ho : h o = some (cOu Γ f)) : CtW l Γ yX0_cellOf cX0_cellOf 4 (some .int) [(0, 9, 12, 25), (0, 9, 15, 13)] 10 2 12 [.ref a, .int x, .ref o] z h (HlP Γ z h o (aCel B x)) := by
  refine CtW.of hl hΓ (by decide +kernel) (Nat.le_of_ble_eq_true rfl) (fun X e1 e2 C => ?_)
  subst e1; subst e2
  have C : Cx X cX0_cellOf 4 "RingDominoLaw" "cellOf" (some .int) [(0, 9, 12, 25), (0, 9, 15, 13)] 10 := C
  have Ho : h o = some (.inl (gA (xG X) 2, (1, .inr (.inl f)))) := Ho
  show WW X (HlP (xG X) z h o (aCel B x)) z h 2 12 0 [(0, .ref a), (1, .int x), (2, .ref o)] []
  refine ww_aload_n C dX0_cellOf_0 rfl 2 rfl rfl ?_
  refine ww_iconst C dX0_cellOf_1 cI_0 ?_
  refine ww_aload_n C dX0_cellOf_2 rfl 0 rfl rfl ?_
  refine ww_iload_n C dX0_cellOf_3 rfl 1 rfl ?_
  refine cv_X0_43 (As := [.int x]) (rest := [.int (nI 0), .ref o]) C dX0_cellOf_4 (ct_X1_cellOf (Cx.fl C) (Cx.ok C) hz Ha hG hB) (rc_X1 (Cx.ok C) Ha) rfl rfl (Nat.le_of_ble_eq_true rfl) (by decide) (Nat.le_refl _) (Nat.le_refl _) (fun v9 z9 h9 q9 => ?_) (fun E9 a9 z9 h9 q9 => ?_)
  rotate_left
  · skip
    obtain ⟨hq1, hq2, hq3⟩ := q9; replace hq1 := hq1.symm; replace hq2 := hq2.symm; subst hq1; subst hq2
    rcases hq3 with ⟨hq0, hq3⟩ | ⟨hq0, hq3⟩ <;> subst hq0
    · skip
      refine wx_catchG C (name := "java/lang/IndexOutOfBoundsException") [] { startPc := 0, endPc := 9, handlerPc := 12, catchType := 25 } [{ startPc := 0, endPc := 9, handlerPc := 15, catchType := 13 }] rfl (fun _ hy => nomatch hy) (by decide) (by decide) q2542 q2443 ?_
      show WW X (HlP (xG X) z h o (aCel B x)) z h (2 - 2) (12 - 12) 12 [(0, .ref a), (1, .int x), (2, .ref o)] [.ref a9]
      refine ww_astore_n (lv' := [(3, .ref a9), (0, .ref a), (1, .int x), (2, .ref o)]) C dX0_cellOf_12 rfl (by decide) rfl rfl ?_
      refine ww_iconst C dX0_cellOf_13 cI_1 ?_
      exact ww_iret C dX0_cellOf_14 ⟨by rw [hq3], rfl, f, (up_id Ho).symm, fun q => absurd (q.symm.trans hq3) (by decide)⟩
    · skip
      refine wx_catchG C (name := "java/lang/IllegalStateException") [{ startPc := 0, endPc := 9, handlerPc := 12, catchType := 25 }] { startPc := 0, endPc := 9, handlerPc := 15, catchType := 13 } [] rfl (fun y hy => by cases List.mem_singleton.mp hy; exact ⟨by decide, _, q2542, nc_ISE⟩) (by decide) (by decide) q2493 q2503 ?_
      show WW X (HlP (xG X) z h o (aCel B x)) z h (2 - 2) (12 - 12) 15 [(0, .ref a), (1, .int x), (2, .ref o)] [.ref a9]
      refine ww_astore_n (lv' := [(3, .ref a9), (0, .ref a), (1, .int x), (2, .ref o)]) C dX0_cellOf_15 rfl (by decide) rfl rfl ?_
      refine ww_iconst C dX0_cellOf_16 cI_2 ?_
      exact ww_iret C dX0_cellOf_17 ⟨by rw [hq3], rfl, f, (up_id Ho).symm, fun q => absurd (q.symm.trans hq3) (by decide)⟩
  refine ww_le (kc' := 0) (ns' := 0) (Nat.zero_le _) (Nat.zero_le _) ?_
  obtain ⟨hq0, hq1, hq2, hq3⟩ := q9; replace hq1 := hq1.symm; replace hq2 := hq2.symm; subst hq0; subst hq1; subst hq2
  refine ww_i2l C dX0_cellOf_7 rfl ?_
  refine ww_last C dX0_cellOf_8 Ho (by decide) (by decide) ?_
  refine ww_gen (fun h1 hE1 => ?_)
  have Ho_h1 : h1 o = some (.inl (gA (xG X) 2, (1, .inr (.inl (vp_updL f 0 (((aCel B x).1).toInt64)))))) := by rw [hE1]; exact up_s
  refine ww_goto (tgt := 18) C dX0_cellOf_9 (by decide) ?_
  refine ww_iconst C dX0_cellOf_18 cI_0 ?_
  exact ww_iret C dX0_cellOf_19 ⟨by rw [hq3], rfl, _, hE1, fun _ => updL_0⟩
set_option maxHeartbeats 2000000 in
theorem ct_X0_turnOf {l : Launch} {Γ : Gm} (hl : l.flags = flags0) (hΓ : GOK Γ) {z : ZR} {h : AH} {a tp g ah : Nat} {er : Int32} {A : Nat → Nat} {B : GB} {rn dn : Int32} {o : Nat} {f : Nat → Int64} {x : Int32} (hz : zle (cst Γ) z) (Ha : rd z h a (.inr (0, [.ref tp, .int er, .ref g, .ref ah]))) (hG : GmP Γ z h g A B rn dn) (hB : BO B) (Ho : h o = some (cOu Γ f)) : CtW l Γ yX0_turnOf cX0_turnOf 4 (some .int) [(0, 9, 12, 25), (0, 9, 15, 13)] 10 2 12 [.ref a, .int x, .ref o] z h (HlP Γ z h o (aTur B x)) := by
  refine CtW.of hl hΓ (by decide +kernel) (Nat.le_of_ble_eq_true rfl) (fun X e1 e2 C => ?_)
  subst e1; subst e2
  have C : Cx X cX0_turnOf 4 "RingDominoLaw" "turnOf" (some .int) [(0, 9, 12, 25), (0, 9, 15, 13)] 10 := C
  have Ho : h o = some (.inl (gA (xG X) 2, (1, .inr (.inl f)))) := Ho
  show WW X (HlP (xG X) z h o (aTur B x)) z h 2 12 0 [(0, .ref a), (1, .int x), (2, .ref o)] []
  refine ww_aload_n C dX0_turnOf_0 rfl 2 rfl rfl ?_
  refine ww_iconst C dX0_turnOf_1 cI_0 ?_
  refine ww_aload_n C dX0_turnOf_2 rfl 0 rfl rfl ?_
  refine ww_iload_n C dX0_turnOf_3 rfl 1 rfl ?_
  refine cv_X0_46 (As := [.int x]) (rest := [.int (nI 0), .ref o]) C dX0_turnOf_4 (ct_X1_turnOf (Cx.fl C) (Cx.ok C) hz Ha hG hB) (rc_X1 (Cx.ok C) Ha) rfl rfl (Nat.le_of_ble_eq_true rfl) (by decide) (Nat.le_refl _) (Nat.le_refl _) (fun v9 z9 h9 q9 => ?_) (fun E9 a9 z9 h9 q9 => ?_)
  rotate_left
  · skip
    obtain ⟨hq1, hq2, hq3⟩ := q9; replace hq1 := hq1.symm; replace hq2 := hq2.symm; subst hq1; subst hq2
    rcases hq3 with ⟨hq0, hq3⟩ | ⟨hq0, hq3⟩ <;> subst hq0
    · skip
      refine wx_catchG C (name := "java/lang/IndexOutOfBoundsException") [] { startPc := 0, endPc := 9, handlerPc := 12, catchType := 25 } [{ startPc := 0, endPc := 9, handlerPc := 15, catchType := 13 }] rfl (fun _ hy => nomatch hy) (by decide) (by decide) q2542 q2443 ?_
      show WW X (HlP (xG X) z h o (aTur B x)) z h (2 - 2) (12 - 12) 12 [(0, .ref a), (1, .int x), (2, .ref o)] [.ref a9]
      refine ww_astore_n (lv' := [(3, .ref a9), (0, .ref a), (1, .int x), (2, .ref o)]) C dX0_turnOf_12 rfl (by decide) rfl rfl ?_
      refine ww_iconst C dX0_turnOf_13 cI_1 ?_
      exact ww_iret C dX0_turnOf_14 ⟨by rw [hq3], rfl, f, (up_id Ho).symm, fun q => absurd (q.symm.trans hq3) (by decide)⟩
    · skip
      refine wx_catchG C (name := "java/lang/IllegalStateException") [{ startPc := 0, endPc := 9, handlerPc := 12, catchType := 25 }] { startPc := 0, endPc := 9, handlerPc := 15, catchType := 13 } [] rfl (fun y hy => by cases List.mem_singleton.mp hy; exact ⟨by decide, _, q2542, nc_ISE⟩) (by decide) (by decide) q2493 q2503 ?_
      show WW X (HlP (xG X) z h o (aTur B x)) z h (2 - 2) (12 - 12) 15 [(0, .ref a), (1, .int x), (2, .ref o)] [.ref a9]
      refine ww_astore_n (lv' := [(3, .ref a9), (0, .ref a), (1, .int x), (2, .ref o)]) C dX0_turnOf_15 rfl (by decide) rfl rfl ?_
      refine ww_iconst C dX0_turnOf_16 cI_2 ?_
      exact ww_iret C dX0_turnOf_17 ⟨by rw [hq3], rfl, f, (up_id Ho).symm, fun q => absurd (q.symm.trans hq3) (by decide)⟩
  refine ww_le (kc' := 0) (ns' := 0) (Nat.zero_le _) (Nat.zero_le _) ?_
  obtain ⟨hq0, hq1, hq2, hq3⟩ := q9; replace hq1 := hq1.symm; replace hq2 := hq2.symm; subst hq0; subst hq1; subst hq2
  refine ww_i2l C dX0_turnOf_7 rfl ?_
  refine ww_last C dX0_turnOf_8 Ho (by decide) (by decide) ?_
  refine ww_gen (fun h1 hE1 => ?_)
  have Ho_h1 : h1 o = some (.inl (gA (xG X) 2, (1, .inr (.inl (vp_updL f 0 (((aTur B x).1).toInt64)))))) := by rw [hE1]; exact up_s
  refine ww_goto (tgt := 18) C dX0_turnOf_9 (by decide) ?_
  refine ww_iconst C dX0_turnOf_18 cI_0 ?_
  exact ww_iret C dX0_turnOf_19 ⟨by rw [hq3], rfl, _, hE1, fun _ => updL_0⟩
set_option maxHeartbeats 2000000 in
theorem ct_X0_looksToProve {l : Launch} {Γ : Gm} (hl : l.flags = flags0) (hΓ : GOK Γ) {z : ZR} {h : AH} {a tp g ah : Nat} {er : Int32} {A : Nat → Nat} {B : GB} {rn dn : Int32} {o : Nat} {f : Nat → Int64} {x : Int32} (hz : zle (cst Γ) z) (Ha : rd z h a (.inr (0, [.ref tp, .int er, .ref g, .ref ah]))) (hG : GmP Γ z h g A B rn dn) (hB : BO B) (Ho : h o = some (cOu Γ f)) : CtW l Γ yX0_looksToProve cX0_looksToProve 4 (some .int) [(0, 9, 12, 25), (0, 9, 15, 13)] 10 2 12 [.ref a, .int x, .ref o] z h (HlP Γ z h o (aLok B x)) := by
  refine CtW.of hl hΓ (by decide +kernel) (Nat.le_of_ble_eq_true rfl) (fun X e1 e2 C => ?_)
  subst e1; subst e2
  have C : Cx X cX0_looksToProve 4 "RingDominoLaw" "looksToProve" (some .int) [(0, 9, 12, 25), (0, 9, 15, 13)] 10 := C
  have Ho : h o = some (.inl (gA (xG X) 2, (1, .inr (.inl f)))) := Ho
  show WW X (HlP (xG X) z h o (aLok B x)) z h 2 12 0 [(0, .ref a), (1, .int x), (2, .ref o)] []
  refine ww_aload_n C dX0_looksToProve_0 rfl 2 rfl rfl ?_
  refine ww_iconst C dX0_looksToProve_1 cI_0 ?_
  refine ww_aload_n C dX0_looksToProve_2 rfl 0 rfl rfl ?_
  refine ww_iload_n C dX0_looksToProve_3 rfl 1 rfl ?_
  refine cv_X0_63 (As := [.int x]) (rest := [.int (nI 0), .ref o]) C dX0_looksToProve_4 (ct_X1_looksToProve (Cx.fl C) (Cx.ok C) hz Ha hG hB) (rc_X1 (Cx.ok C) Ha) rfl rfl (Nat.le_of_ble_eq_true rfl) (by decide) (Nat.le_refl _) (Nat.le_refl _) (fun v9 z9 h9 q9 => ?_) (fun E9 a9 z9 h9 q9 => ?_)
  rotate_left
  · skip
    obtain ⟨hq1, hq2, hq3⟩ := q9; replace hq1 := hq1.symm; replace hq2 := hq2.symm; subst hq1; subst hq2
    rcases hq3 with ⟨hq0, hq3⟩ | ⟨hq0, hq3⟩ <;> subst hq0
    · skip
      refine wx_catchG C (name := "java/lang/IndexOutOfBoundsException") [] { startPc := 0, endPc := 9, handlerPc := 12, catchType := 25 } [{ startPc := 0, endPc := 9, handlerPc := 15, catchType := 13 }] rfl (fun _ hy => nomatch hy) (by decide) (by decide) q2542 q2443 ?_
      show WW X (HlP (xG X) z h o (aLok B x)) z h (2 - 2) (12 - 12) 12 [(0, .ref a), (1, .int x), (2, .ref o)] [.ref a9]
      refine ww_astore_n (lv' := [(3, .ref a9), (0, .ref a), (1, .int x), (2, .ref o)]) C dX0_looksToProve_12 rfl (by decide) rfl rfl ?_
      refine ww_iconst C dX0_looksToProve_13 cI_1 ?_
      exact ww_iret C dX0_looksToProve_14 ⟨by rw [hq3], rfl, f, (up_id Ho).symm, fun q => absurd (q.symm.trans hq3) (by decide)⟩
    · skip
      refine wx_catchG C (name := "java/lang/IllegalStateException") [{ startPc := 0, endPc := 9, handlerPc := 12, catchType := 25 }] { startPc := 0, endPc := 9, handlerPc := 15, catchType := 13 } [] rfl (fun y hy => by cases List.mem_singleton.mp hy; exact ⟨by decide, _, q2542, nc_ISE⟩) (by decide) (by decide) q2493 q2503 ?_
      show WW X (HlP (xG X) z h o (aLok B x)) z h (2 - 2) (12 - 12) 15 [(0, .ref a), (1, .int x), (2, .ref o)] [.ref a9]
      refine ww_astore_n (lv' := [(3, .ref a9), (0, .ref a), (1, .int x), (2, .ref o)]) C dX0_looksToProve_15 rfl (by decide) rfl rfl ?_
      refine ww_iconst C dX0_looksToProve_16 cI_2 ?_
      exact ww_iret C dX0_looksToProve_17 ⟨by rw [hq3], rfl, f, (up_id Ho).symm, fun q => absurd (q.symm.trans hq3) (by decide)⟩
  refine ww_le (kc' := 0) (ns' := 0) (Nat.zero_le _) (Nat.zero_le _) ?_
  obtain ⟨hq0, hq1, hq2, hq3⟩ := q9; replace hq1 := hq1.symm; replace hq2 := hq2.symm; subst hq0; subst hq1; subst hq2
  refine ww_i2l C dX0_looksToProve_7 rfl ?_
  refine ww_last C dX0_looksToProve_8 Ho (by decide) (by decide) ?_
  refine ww_gen (fun h1 hE1 => ?_)
  have Ho_h1 : h1 o = some (.inl (gA (xG X) 2, (1, .inr (.inl (vp_updL f 0 (((aLok B x).1).toInt64)))))) := by rw [hE1]; exact up_s
  refine ww_goto (tgt := 18) C dX0_looksToProve_9 (by decide) ?_
  refine ww_iconst C dX0_looksToProve_18 cI_0 ?_
  exact ww_iret C dX0_looksToProve_19 ⟨by rw [hq3], rfl, _, hE1, fun _ => updL_0⟩
set_option maxHeartbeats 2000000 in
theorem ct_X0_fits {l : Launch} {Γ : Gm} (hl : l.flags = flags0) (hΓ : GOK Γ) {z : ZR} {h : AH} {a tp g ah : Nat} {er : Int32} {A : Nat → Nat} {B : GB} {rn dn : Int32} {o : Nat} {f : Nat → Int64} {x y t : Int32} (hz : zle (cst Γ) z) (Ha : rd z h a (.inr (0, [.ref tp, .int er, .ref g, .ref ah]))) (hG : GmP Γ z h g A B rn dn) (hB : BO B) (Ho : h o = some (cOu Γ f)) : CtW l Γ yX0_fits cX0_fits 6 (some .int) [(0, 19, 22, 25)] 10 3 18 [.ref a, .int x, .int y, .int t, .ref o] z h (HlP Γ z h o (aFit B x y t)) := by
  refine CtW.of hl hΓ (by decide +kernel) (Nat.le_of_ble_eq_true rfl) (fun X e1 e2 C => ?_)
  subst e1; subst e2
  have C : Cx X cX0_fits 6 "RingDominoLaw" "fits" (some .int) [(0, 19, 22, 25)] 10 := C
  have Ho : h o = some (.inl (gA (xG X) 2, (1, .inr (.inl f)))) := Ho
  show WW X (HlP (xG X) z h o (aFit B x y t)) z h 3 18 0 [(0, .ref a), (1, .int x), (2, .int y), (3, .int t), (4, .ref o)] []
  refine ww_aload C dX0_fits_0 4 rfl rfl ?_
  refine ww_iconst C dX0_fits_2 cI_0 ?_
  refine ww_aload_n C dX0_fits_3 rfl 0 rfl rfl ?_
  refine ww_iload_n C dX0_fits_4 rfl 1 rfl ?_
  refine ww_iload_n C dX0_fits_5 rfl 2 rfl ?_
  refine ww_iload_n C dX0_fits_6 rfl 3 rfl ?_
  refine cv_X0_49 (As := [.int x, .int y, .int t]) (rest := [.int (nI 0), .ref o]) C dX0_fits_7 (ct_X1_fits (Cx.fl C) (Cx.ok C) hz Ha hG hB) (rc_X1 (Cx.ok C) Ha) rfl rfl (Nat.le_of_ble_eq_true rfl) (by decide) (Nat.le_refl _) (Nat.le_refl _) (fun v9 z9 h9 q9 => ?_) (fun E9 a9 z9 h9 q9 => ?_)
  rotate_left
  · skip
    obtain ⟨hq1, hq2, hq3⟩ := q9; replace hq1 := hq1.symm; replace hq2 := hq2.symm; subst hq1; subst hq2
    rcases hq3 with ⟨hq0, hq3⟩ | ⟨hq0, hq3⟩ <;> subst hq0
    · skip
      refine wx_catchG C (name := "java/lang/IndexOutOfBoundsException") [] { startPc := 0, endPc := 19, handlerPc := 22, catchType := 25 } [] rfl (fun _ hy => nomatch hy) (by decide) (by decide) q2542 q2443 ?_
      show WW X (HlP (xG X) z h o (aFit B x y t)) z h (3 - 3) (18 - 18) 22 [(0, .ref a), (1, .int x), (2, .int y), (3, .int t), (4, .ref o)] [.ref a9]
      refine ww_astore (lv' := [(5, .ref a9), (0, .ref a), (1, .int x), (2, .int y), (3, .int t), (4, .ref o)]) C dX0_fits_22 (by decide) rfl rfl ?_
      refine ww_iconst C dX0_fits_24 cI_1 ?_
      exact ww_iret C dX0_fits_25 ⟨by rw [hq3], rfl, f, (up_id Ho).symm, fun q => absurd (q.symm.trans hq3) (by decide)⟩
    · skip
      refine absurd hq3 ?_
      unfold aFit
      repeat' split
      all_goals simp
  refine ww_le (kc' := 0) (ns' := 0) (Nat.zero_le _) (Nat.zero_le _) ?_
  obtain ⟨hq0, hq1, hq2, hq3⟩ := q9; replace hq1 := hq1.symm; replace hq2 := hq2.symm; subst hq0; subst hq1; subst hq2
  obtain ⟨b9, hb9⟩ := aFit_b B x y t
  refine ww_if_eq (tgt := 17) C dX0_fits_10 (by decide) (fun c_10 => ?_) (fun c_10 => ?_)
  · skip
    refine ww_lconst (v := 0) C dX0_fits_17 rfl ?_
    refine ww_last C dX0_fits_18 Ho (by decide) (by decide) ?_
    refine ww_gen (fun h1 hE1 => ?_)
    have Ho_h1 : h1 o = some (.inl (gA (xG X) 2, (1, .inr (.inl (vp_updL f 0 (0 : Int64)))))) := by rw [hE1]; exact up_s
    refine ww_goto (tgt := 26) C dX0_fits_19 (by decide) ?_
    refine ww_iconst C dX0_fits_26 cI_0 ?_
    exact ww_iret C dX0_fits_27 ⟨by rw [hq3], rfl, _, hE1, fun _ => updL_0.trans (by rw [hb9] at c_10 ⊢; exact (bI_640 c_10).symm)⟩
  · skip
    refine ww_lconst (v := 1) C dX0_fits_13 rfl ?_
    refine ww_goto (tgt := 18) C dX0_fits_14 (by decide) ?_
    refine ww_last C dX0_fits_18 Ho (by decide) (by decide) ?_
    refine ww_gen (fun h2 hE2 => ?_)
    have Ho_h2 : h2 o = some (.inl (gA (xG X) 2, (1, .inr (.inl (vp_updL f 0 (1 : Int64)))))) := by rw [hE2]; exact up_s
    refine ww_goto (tgt := 26) C dX0_fits_19 (by decide) ?_
    refine ww_iconst C dX0_fits_26 cI_0 ?_
    exact ww_iret C dX0_fits_27 ⟨by rw [hq3], rfl, _, hE2, fun _ => updL_0.trans (by rw [hb9] at c_10 ⊢; exact (bI_64 c_10).symm)⟩
set_option maxHeartbeats 2000000 in
theorem ct_X0_edgeAgainst {l : Launch} {Γ : Gm} (hl : l.flags = flags0) (hΓ : GOK Γ) {z : ZR} {h : AH} {a tp g ah : Nat} {er : Int32} {A : Nat → Nat} {B : GB} {rn dn : Int32} {o : Nat} {f : Nat → Int64} {x y t : Int32} (hz : zle (cst Γ) z) (Ha : rd z h a (.inr (0, [.ref tp, .int er, .ref g, .ref ah]))) (hG : GmP Γ z h g A B rn dn) (hB : BO B) (Ho : h o = some (cOu Γ f)) : CtW l Γ yX0_edgeAgainst cX0_edgeAgainst 6 (some .int) [(0, 12, 15, 25)] 10 3 18 [.ref a, .int x, .int y, .int t, .ref o] z h (HlP Γ z h o (aAga B x y t)) := by
  refine CtW.of hl hΓ (by decide +kernel) (Nat.le_of_ble_eq_true rfl) (fun X e1 e2 C => ?_)
  subst e1; subst e2
  have C : Cx X cX0_edgeAgainst 6 "RingDominoLaw" "edgeAgainst" (some .int) [(0, 12, 15, 25)] 10 := C
  have Ho : h o = some (.inl (gA (xG X) 2, (1, .inr (.inl f)))) := Ho
  show WW X (HlP (xG X) z h o (aAga B x y t)) z h 3 18 0 [(0, .ref a), (1, .int x), (2, .int y), (3, .int t), (4, .ref o)] []
  refine ww_aload C dX0_edgeAgainst_0 4 rfl rfl ?_
  refine ww_iconst C dX0_edgeAgainst_2 cI_0 ?_
  refine ww_aload_n C dX0_edgeAgainst_3 rfl 0 rfl rfl ?_
  refine ww_iload_n C dX0_edgeAgainst_4 rfl 1 rfl ?_
  refine ww_iload_n C dX0_edgeAgainst_5 rfl 2 rfl ?_
  refine ww_iload_n C dX0_edgeAgainst_6 rfl 3 rfl ?_
  refine cv_X0_53 (As := [.int x, .int y, .int t]) (rest := [.int (nI 0), .ref o]) C dX0_edgeAgainst_7 (ct_X1_edgeAgainst (Cx.fl C) (Cx.ok C) hz Ha hG hB) (rc_X1 (Cx.ok C) Ha) rfl rfl (Nat.le_of_ble_eq_true rfl) (by decide) (Nat.le_refl _) (Nat.le_refl _) (fun v9 z9 h9 q9 => ?_) (fun E9 a9 z9 h9 q9 => ?_)
  rotate_left
  · skip
    obtain ⟨hq1, hq2, hq3⟩ := q9; replace hq1 := hq1.symm; replace hq2 := hq2.symm; subst hq1; subst hq2
    rcases hq3 with ⟨hq0, hq3⟩ | ⟨hq0, hq3⟩ <;> subst hq0
    · skip
      refine wx_catchG C (name := "java/lang/IndexOutOfBoundsException") [] { startPc := 0, endPc := 12, handlerPc := 15, catchType := 25 } [] rfl (fun _ hy => nomatch hy) (by decide) (by decide) q2542 q2443 ?_
      show WW X (HlP (xG X) z h o (aAga B x y t)) z h (3 - 3) (18 - 18) 15 [(0, .ref a), (1, .int x), (2, .int y), (3, .int t), (4, .ref o)] [.ref a9]
      refine ww_astore (lv' := [(5, .ref a9), (0, .ref a), (1, .int x), (2, .int y), (3, .int t), (4, .ref o)]) C dX0_edgeAgainst_15 (by decide) rfl rfl ?_
      refine ww_iconst C dX0_edgeAgainst_17 cI_1 ?_
      exact ww_iret C dX0_edgeAgainst_18 ⟨by rw [hq3], rfl, f, (up_id Ho).symm, fun q => absurd (q.symm.trans hq3) (by decide)⟩
    · skip
      refine absurd hq3 ?_
      unfold aAga
      repeat' split
      all_goals simp
  refine ww_le (kc' := 0) (ns' := 0) (Nat.zero_le _) (Nat.zero_le _) ?_
  obtain ⟨hq0, hq1, hq2, hq3⟩ := q9; replace hq1 := hq1.symm; replace hq2 := hq2.symm; subst hq0; subst hq1; subst hq2
  refine ww_i2l C dX0_edgeAgainst_10 rfl ?_
  refine ww_last C dX0_edgeAgainst_11 Ho (by decide) (by decide) ?_
  refine ww_gen (fun h1 hE1 => ?_)
  have Ho_h1 : h1 o = some (.inl (gA (xG X) 2, (1, .inr (.inl (vp_updL f 0 (((aAga B x y t).1).toInt64)))))) := by rw [hE1]; exact up_s
  refine ww_goto (tgt := 19) C dX0_edgeAgainst_12 (by decide) ?_
  refine ww_iconst C dX0_edgeAgainst_19 cI_0 ?_
  exact ww_iret C dX0_edgeAgainst_20 ⟨by rw [hq3], rfl, _, hE1, fun _ => updL_0⟩
set_option maxHeartbeats 2000000 in
theorem ct_X0_bestCell {l : Launch} {Γ : Gm} (hl : l.flags = flags0) (hΓ : GOK Γ) {z : ZR} {h : AH} {a tp g ah : Nat} {er : Int32} {A : Nat → Nat} {B : GB} {G : GG} {rn dn : Int32} {o : Nat} {f : Nat → Int64} {x : Int32} (hz : zle (cst Γ) z) (Ha : rd z h a (.inr (0, [.ref tp, .int er, .ref g, .ref ah]))) (hM : GmM Γ z h g A B G rn dn) (hC : BC B) (Ho : h o = some (cOu Γ f)) : CtW l Γ yX0_bestCell cX0_bestCell 4 (some .int) [(0, 9, 12, 25), (0, 9, 15, 13)] 11 (2 * bwM B x + 2) (3 * bwM B x + 12) [.ref a, .int x, .ref o] z h (HlP Γ z h o (aBeC B x)) := by
  refine CtW.of hl hΓ (by decide +kernel) (Nat.le_of_ble_eq_true rfl) (fun X e1 e2 C => ?_)
  subst e1; subst e2
  have C : Cx X cX0_bestCell 4 "RingDominoLaw" "bestCell" (some .int) [(0, 9, 12, 25), (0, 9, 15, 13)] 11 := C
  have Ho : h o = some (.inl (gA (xG X) 2, (1, .inr (.inl f)))) := Ho
  show WW X (HlP (xG X) z h o (aBeC B x)) z h (2 * bwM B x + 2) (3 * bwM B x + 12) 0 [(0, .ref a), (1, .int x), (2, .ref o)] []
  refine ww_aload_n C dX0_bestCell_0 rfl 2 rfl rfl ?_
  refine ww_iconst C dX0_bestCell_1 cI_0 ?_
  refine ww_aload_n C dX0_bestCell_2 rfl 0 rfl rfl ?_
  refine ww_iload_n C dX0_bestCell_3 rfl 1 rfl ?_
  refine cv_X0_81 (As := [.int x]) (rest := [.int (nI 0), .ref o]) C dX0_bestCell_4 (ct_X1_bestCell (Cx.fl C) (Cx.ok C) hz Ha hM hC) (rc_X1 (Cx.ok C) Ha) rfl rfl (Nat.le_of_ble_eq_true rfl) (by decide) (Nat.le_refl _) (Nat.le_refl _) (fun v9 z9 h9 q9 => ?_) (fun E9 a9 z9 h9 q9 => ?_)
  rotate_left
  · skip
    obtain ⟨hq1, hq2, hq3⟩ := q9; replace hq1 := hq1.symm; replace hq2 := hq2.symm; subst hq1; subst hq2
    rcases hq3 with ⟨hq0, hq3⟩ | ⟨hq0, hq3⟩ <;> subst hq0
    · skip
      refine wx_catchG C (name := "java/lang/IndexOutOfBoundsException") [] { startPc := 0, endPc := 9, handlerPc := 12, catchType := 25 } [{ startPc := 0, endPc := 9, handlerPc := 15, catchType := 13 }] rfl (fun _ hy => nomatch hy) (by decide) (by decide) q2542 q2443 ?_
      show WW X (HlP (xG X) z h o (aBeC B x)) z h ((2 * bwM B x + 2) - (2 * bwM B x + 2)) ((3 * bwM B x + 12) - (3 * bwM B x + 12)) 12 [(0, .ref a), (1, .int x), (2, .ref o)] [.ref a9]
      refine ww_astore_n (lv' := [(3, .ref a9), (0, .ref a), (1, .int x), (2, .ref o)]) C dX0_bestCell_12 rfl (by decide) rfl rfl ?_
      refine ww_iconst C dX0_bestCell_13 cI_1 ?_
      exact ww_iret C dX0_bestCell_14 ⟨by rw [hq3], rfl, f, (up_id Ho).symm, fun q => absurd (q.symm.trans hq3) (by decide)⟩
    · skip
      refine wx_catchG C (name := "java/lang/IllegalStateException") [{ startPc := 0, endPc := 9, handlerPc := 12, catchType := 25 }] { startPc := 0, endPc := 9, handlerPc := 15, catchType := 13 } [] rfl (fun y hy => by cases List.mem_singleton.mp hy; exact ⟨by decide, _, q2542, nc_ISE⟩) (by decide) (by decide) q2493 q2503 ?_
      show WW X (HlP (xG X) z h o (aBeC B x)) z h ((2 * bwM B x + 2) - (2 * bwM B x + 2)) ((3 * bwM B x + 12) - (3 * bwM B x + 12)) 15 [(0, .ref a), (1, .int x), (2, .ref o)] [.ref a9]
      refine ww_astore_n (lv' := [(3, .ref a9), (0, .ref a), (1, .int x), (2, .ref o)]) C dX0_bestCell_15 rfl (by decide) rfl rfl ?_
      refine ww_iconst C dX0_bestCell_16 cI_2 ?_
      exact ww_iret C dX0_bestCell_17 ⟨by rw [hq3], rfl, f, (up_id Ho).symm, fun q => absurd (q.symm.trans hq3) (by decide)⟩
  refine ww_le (kc' := 0) (ns' := 0) (Nat.zero_le _) (Nat.zero_le _) ?_
  obtain ⟨hq0, hq1, hq2, hq3⟩ := q9; replace hq1 := hq1.symm; replace hq2 := hq2.symm; subst hq0; subst hq1; subst hq2
  refine ww_i2l C dX0_bestCell_7 rfl ?_
  refine ww_last C dX0_bestCell_8 Ho (by decide) (by decide) ?_
  refine ww_gen (fun h1 hE1 => ?_)
  have Ho_h1 : h1 o = some (.inl (gA (xG X) 2, (1, .inr (.inl (vp_updL f 0 (((aBeC B x).1).toInt64)))))) := by rw [hE1]; exact up_s
  refine ww_goto (tgt := 18) C dX0_bestCell_9 (by decide) ?_
  refine ww_iconst C dX0_bestCell_18 cI_0 ?_
  exact ww_iret C dX0_bestCell_19 ⟨by rw [hq3], rfl, _, hE1, fun _ => updL_0⟩
set_option maxHeartbeats 2000000 in
theorem ct_X0_bestTurn {l : Launch} {Γ : Gm} (hl : l.flags = flags0) (hΓ : GOK Γ) {z : ZR} {h : AH} {a tp g ah : Nat} {er : Int32} {A : Nat → Nat} {B : GB} {G : GG} {rn dn : Int32} {o : Nat} {f : Nat → Int64} {x : Int32} (hz : zle (cst Γ) z) (Ha : rd z h a (.inr (0, [.ref tp, .int er, .ref g, .ref ah]))) (hM : GmM Γ z h g A B G rn dn) (hC : BC B) (Ho : h o = some (cOu Γ f)) : CtW l Γ yX0_bestTurn cX0_bestTurn 4 (some .int) [(0, 9, 12, 25), (0, 9, 15, 13)] 11 (2 * bwM B x + 2) (3 * bwM B x + 12) [.ref a, .int x, .ref o] z h (HlP Γ z h o (aBeT B x)) := by
  refine CtW.of hl hΓ (by decide +kernel) (Nat.le_of_ble_eq_true rfl) (fun X e1 e2 C => ?_)
  subst e1; subst e2
  have C : Cx X cX0_bestTurn 4 "RingDominoLaw" "bestTurn" (some .int) [(0, 9, 12, 25), (0, 9, 15, 13)] 11 := C
  have Ho : h o = some (.inl (gA (xG X) 2, (1, .inr (.inl f)))) := Ho
  show WW X (HlP (xG X) z h o (aBeT B x)) z h (2 * bwM B x + 2) (3 * bwM B x + 12) 0 [(0, .ref a), (1, .int x), (2, .ref o)] []
  refine ww_aload_n C dX0_bestTurn_0 rfl 2 rfl rfl ?_
  refine ww_iconst C dX0_bestTurn_1 cI_0 ?_
  refine ww_aload_n C dX0_bestTurn_2 rfl 0 rfl rfl ?_
  refine ww_iload_n C dX0_bestTurn_3 rfl 1 rfl ?_
  refine cv_X0_84 (As := [.int x]) (rest := [.int (nI 0), .ref o]) C dX0_bestTurn_4 (ct_X1_bestTurn (Cx.fl C) (Cx.ok C) hz Ha hM hC) (rc_X1 (Cx.ok C) Ha) rfl rfl (Nat.le_of_ble_eq_true rfl) (by decide) (Nat.le_refl _) (Nat.le_refl _) (fun v9 z9 h9 q9 => ?_) (fun E9 a9 z9 h9 q9 => ?_)
  rotate_left
  · skip
    obtain ⟨hq1, hq2, hq3⟩ := q9; replace hq1 := hq1.symm; replace hq2 := hq2.symm; subst hq1; subst hq2
    rcases hq3 with ⟨hq0, hq3⟩ | ⟨hq0, hq3⟩ <;> subst hq0
    · skip
      refine wx_catchG C (name := "java/lang/IndexOutOfBoundsException") [] { startPc := 0, endPc := 9, handlerPc := 12, catchType := 25 } [{ startPc := 0, endPc := 9, handlerPc := 15, catchType := 13 }] rfl (fun _ hy => nomatch hy) (by decide) (by decide) q2542 q2443 ?_
      show WW X (HlP (xG X) z h o (aBeT B x)) z h ((2 * bwM B x + 2) - (2 * bwM B x + 2)) ((3 * bwM B x + 12) - (3 * bwM B x + 12)) 12 [(0, .ref a), (1, .int x), (2, .ref o)] [.ref a9]
      refine ww_astore_n (lv' := [(3, .ref a9), (0, .ref a), (1, .int x), (2, .ref o)]) C dX0_bestTurn_12 rfl (by decide) rfl rfl ?_
      refine ww_iconst C dX0_bestTurn_13 cI_1 ?_
      exact ww_iret C dX0_bestTurn_14 ⟨by rw [hq3], rfl, f, (up_id Ho).symm, fun q => absurd (q.symm.trans hq3) (by decide)⟩
    · skip
      refine wx_catchG C (name := "java/lang/IllegalStateException") [{ startPc := 0, endPc := 9, handlerPc := 12, catchType := 25 }] { startPc := 0, endPc := 9, handlerPc := 15, catchType := 13 } [] rfl (fun y hy => by cases List.mem_singleton.mp hy; exact ⟨by decide, _, q2542, nc_ISE⟩) (by decide) (by decide) q2493 q2503 ?_
      show WW X (HlP (xG X) z h o (aBeT B x)) z h ((2 * bwM B x + 2) - (2 * bwM B x + 2)) ((3 * bwM B x + 12) - (3 * bwM B x + 12)) 15 [(0, .ref a), (1, .int x), (2, .ref o)] [.ref a9]
      refine ww_astore_n (lv' := [(3, .ref a9), (0, .ref a), (1, .int x), (2, .ref o)]) C dX0_bestTurn_15 rfl (by decide) rfl rfl ?_
      refine ww_iconst C dX0_bestTurn_16 cI_2 ?_
      exact ww_iret C dX0_bestTurn_17 ⟨by rw [hq3], rfl, f, (up_id Ho).symm, fun q => absurd (q.symm.trans hq3) (by decide)⟩
  refine ww_le (kc' := 0) (ns' := 0) (Nat.zero_le _) (Nat.zero_le _) ?_
  obtain ⟨hq0, hq1, hq2, hq3⟩ := q9; replace hq1 := hq1.symm; replace hq2 := hq2.symm; subst hq0; subst hq1; subst hq2
  refine ww_i2l C dX0_bestTurn_7 rfl ?_
  refine ww_last C dX0_bestTurn_8 Ho (by decide) (by decide) ?_
  refine ww_gen (fun h1 hE1 => ?_)
  have Ho_h1 : h1 o = some (.inl (gA (xG X) 2, (1, .inr (.inl (vp_updL f 0 (((aBeT B x).1).toInt64)))))) := by rw [hE1]; exact up_s
  refine ww_goto (tgt := 18) C dX0_bestTurn_9 (by decide) ?_
  refine ww_iconst C dX0_bestTurn_18 cI_0 ?_
  exact ww_iret C dX0_bestTurn_19 ⟨by rw [hq3], rfl, _, hE1, fun _ => updL_0⟩
set_option maxHeartbeats 2000000 in
theorem ct_X0_putTile {l : Launch} {Γ : Gm} (hl : l.flags = flags0) (hΓ : GOK Γ) {z : ZR} {h : AH} {a tp g ah : Nat} {er : Int32} {A : Nat → Nat} {B : GB} {G : GG} {rn dn : Int32} {o : Nat} {f : Nat → Int64} {x y t : Int32} (hz : zle (cst Γ) z) (Ha : rd z h a (.inr (0, [.ref tp, .int er, .ref g, .ref ah]))) (hM : GmM Γ z h g A B G rn dn) (hC : BC B) (han4 : a ≠ A 4) (han6 : a ≠ A 6) (han8 : a ≠ A 8) (Ho : h o = some (cOu Γ f)) (hon : a ≠ o) (ho4 : o ≠ A 4) (ho6 : o ≠ A 6) (ho8 : o ≠ A 8) : CtW l Γ yX0_putTile cX0_putTile 6 (some .int) [(0, 12, 15, 25), (0, 12, 19, 13)] 10 4 24 [.ref a, .int x, .int y, .int t, .ref o] z h (HuP Γ z h o A G (uPut B x y t)) := by
  refine CtW.of hl hΓ (by decide +kernel) (Nat.le_of_ble_eq_true rfl) (fun X e1 e2 C => ?_)
  subst e1; subst e2
  have C : Cx X cX0_putTile 6 "RingDominoLaw" "putTile" (some .int) [(0, 12, 15, 25), (0, 12, 19, 13)] 10 := C
  have Ho : h o = some (.inl (gA (xG X) 2, (1, .inr (.inl f)))) := Ho
  show WW X (HuP (xG X) z h o A G (uPut B x y t)) z h 4 24 0 [(0, .ref a), (1, .int x), (2, .int y), (3, .int t), (4, .ref o)] []
  refine ww_aload C dX0_putTile_0 4 rfl rfl ?_
  refine ww_iconst C dX0_putTile_2 cI_0 ?_
  refine ww_aload_n C dX0_putTile_3 rfl 0 rfl rfl ?_
  refine ww_iload_n C dX0_putTile_4 rfl 1 rfl ?_
  refine ww_iload_n C dX0_putTile_5 rfl 2 rfl ?_
  refine ww_iload_n C dX0_putTile_6 rfl 3 rfl ?_
  refine cv_X0_66 (As := [.int x, .int y, .int t]) (rest := [.int (nI 0), .ref o]) C dX0_putTile_7 (ct_X1_putTile (Cx.fl C) (Cx.ok C) hz Ha hM hC han4 han6 han8) (rc_X1 (Cx.ok C) Ha) rfl rfl (Nat.le_of_ble_eq_true rfl) (by decide) (Nat.le_refl _) (Nat.le_refl _) (fun v9 z9 h9 q9 => ?_) (fun E9 a9 z9 h9 q9 => ?_)
  rotate_left
  · skip
    obtain ⟨hq1, hq2, hq4, hq3⟩ := q9; replace hq1 := hq1.symm; replace hq2 := hq2.symm; subst hq1; subst hq2
    rcases hq3 with ⟨hq0, hq3⟩ | ⟨hq0, hq3⟩ <;> subst hq0
    · skip
      refine wx_catchG C (name := "java/lang/IndexOutOfBoundsException") [] { startPc := 0, endPc := 12, handlerPc := 15, catchType := 25 } [{ startPc := 0, endPc := 12, handlerPc := 19, catchType := 13 }] rfl (fun _ hy => nomatch hy) (by decide) (by decide) q2542 q2443 ?_
      show WW X (HuP (xG X) z h o A G (uPut B x y t)) z h (4 - 4) (24 - 24) 15 [(0, .ref a), (1, .int x), (2, .int y), (3, .int t), (4, .ref o)] [.ref a9]
      refine ww_astore (lv' := [(5, .ref a9), (0, .ref a), (1, .int x), (2, .int y), (3, .int t), (4, .ref o)]) C dX0_putTile_15 (by decide) rfl rfl ?_
      refine ww_iconst C dX0_putTile_17 cI_1 ?_
      exact ww_iret C dX0_putTile_18 ⟨by rw [hq3], rfl, f, by rw [hq3, if_neg (by decide)]; exact (up_id Ho).symm, fun q => absurd (q.symm.trans hq3) (by decide)⟩
    · skip
      refine wx_catchG C (name := "java/lang/IllegalStateException") [{ startPc := 0, endPc := 12, handlerPc := 15, catchType := 25 }] { startPc := 0, endPc := 12, handlerPc := 19, catchType := 13 } [] rfl (fun y hy => by cases List.mem_singleton.mp hy; exact ⟨by decide, _, q2542, nc_ISE⟩) (by decide) (by decide) q2493 q2503 ?_
      show WW X (HuP (xG X) z h o A G (uPut B x y t)) z h (4 - 4) (24 - 24) 19 [(0, .ref a), (1, .int x), (2, .int y), (3, .int t), (4, .ref o)] [.ref a9]
      refine ww_astore (lv' := [(5, .ref a9), (0, .ref a), (1, .int x), (2, .int y), (3, .int t), (4, .ref o)]) C dX0_putTile_19 (by decide) rfl rfl ?_
      refine ww_iconst C dX0_putTile_21 cI_2 ?_
      exact ww_iret C dX0_putTile_22 ⟨by rw [hq3], rfl, f, by rw [hq3, if_neg (by decide)]; exact (up_id Ho).symm, fun q => absurd (q.symm.trans hq3) (by decide)⟩
  refine ww_le (kc' := 0) (ns' := 0) (Nat.zero_le _) (Nat.zero_le _) ?_
  obtain ⟨hq0, hq1, hq3, hq2⟩ := q9; replace hq1 := hq1.symm; subst hq0; subst hq1
  have Ho : h9 o = some (.inl (gA (xG X) 2, (1, .inr (.inl f)))) := by rw [hq2, gmH_n ho4 ho6 ho8]; exact Ho
  refine ww_i2l C dX0_putTile_10 rfl ?_
  refine ww_last C dX0_putTile_11 Ho (by decide) (by decide) ?_
  refine ww_gen (fun h1 hE1 => ?_)
  have Ho_h1 : h1 o = some (.inl (gA (xG X) 2, (1, .inr (.inl (vp_updL f 0 (((uPut B x y t).1.1).toInt64)))))) := by rw [hE1]; exact up_s
  refine ww_goto (tgt := 23) C dX0_putTile_12 (by decide) ?_
  refine ww_iconst C dX0_putTile_23 cI_0 ?_
  exact ww_iret C dX0_putTile_24 ⟨by rw [hq3], rfl, _, by rw [hq3, if_pos rfl, ← hq2]; exact hE1, fun _ => updL_0⟩
set_option maxHeartbeats 2000000 in
theorem ct_X0_takeTile {l : Launch} {Γ : Gm} (hl : l.flags = flags0) (hΓ : GOK Γ) {z : ZR} {h : AH} {a tp g ah : Nat} {er : Int32} {A : Nat → Nat} {B : GB} {G : GG} {rn dn : Int32} {o : Nat} {f : Nat → Int64} {x : Int32} (hz : zle (cst Γ) z) (Ha : rd z h a (.inr (0, [.ref tp, .int er, .ref g, .ref ah]))) (hM : GmM Γ z h g A B G rn dn) (hC : BC B) (han4 : a ≠ A 4) (han6 : a ≠ A 6) (han8 : a ≠ A 8) (Ho : h o = some (cOu Γ f)) (hon : a ≠ o) (ho4 : o ≠ A 4) (ho6 : o ≠ A 6) (ho8 : o ≠ A 8) : CtW l Γ yX0_takeTile cX0_takeTile 4 (some .int) [(0, 9, 12, 25), (0, 9, 15, 13)] 10 2 12 [.ref a, .int x, .ref o] z h (HuP Γ z h o A G (uTak B x)) := by
  refine CtW.of hl hΓ (by decide +kernel) (Nat.le_of_ble_eq_true rfl) (fun X e1 e2 C => ?_)
  subst e1; subst e2
  have C : Cx X cX0_takeTile 4 "RingDominoLaw" "takeTile" (some .int) [(0, 9, 12, 25), (0, 9, 15, 13)] 10 := C
  have Ho : h o = some (.inl (gA (xG X) 2, (1, .inr (.inl f)))) := Ho
  show WW X (HuP (xG X) z h o A G (uTak B x)) z h 2 12 0 [(0, .ref a), (1, .int x), (2, .ref o)] []
  refine ww_aload_n C dX0_takeTile_0 rfl 2 rfl rfl ?_
  refine ww_iconst C dX0_takeTile_1 cI_0 ?_
  refine ww_aload_n C dX0_takeTile_2 rfl 0 rfl rfl ?_
  refine ww_iload_n C dX0_takeTile_3 rfl 1 rfl ?_
  refine cv_X0_69 (As := [.int x]) (rest := [.int (nI 0), .ref o]) C dX0_takeTile_4 (ct_X1_takeTile (Cx.fl C) (Cx.ok C) hz Ha hM hC han4 han6 han8) (rc_X1 (Cx.ok C) Ha) rfl rfl (Nat.le_of_ble_eq_true rfl) (by decide) (Nat.le_refl _) (Nat.le_refl _) (fun v9 z9 h9 q9 => ?_) (fun E9 a9 z9 h9 q9 => ?_)
  rotate_left
  · skip
    obtain ⟨hq1, hq2, hq4, hq3⟩ := q9; replace hq1 := hq1.symm; replace hq2 := hq2.symm; subst hq1; subst hq2
    rcases hq3 with ⟨hq0, hq3⟩ | ⟨hq0, hq3⟩ <;> subst hq0
    · skip
      refine wx_catchG C (name := "java/lang/IndexOutOfBoundsException") [] { startPc := 0, endPc := 9, handlerPc := 12, catchType := 25 } [{ startPc := 0, endPc := 9, handlerPc := 15, catchType := 13 }] rfl (fun _ hy => nomatch hy) (by decide) (by decide) q2542 q2443 ?_
      show WW X (HuP (xG X) z h o A G (uTak B x)) z h (2 - 2) (12 - 12) 12 [(0, .ref a), (1, .int x), (2, .ref o)] [.ref a9]
      refine ww_astore_n (lv' := [(3, .ref a9), (0, .ref a), (1, .int x), (2, .ref o)]) C dX0_takeTile_12 rfl (by decide) rfl rfl ?_
      refine ww_iconst C dX0_takeTile_13 cI_1 ?_
      exact ww_iret C dX0_takeTile_14 ⟨by rw [hq3], rfl, f, by rw [hq3, if_neg (by decide)]; exact (up_id Ho).symm, fun q => absurd (q.symm.trans hq3) (by decide)⟩
    · skip
      refine wx_catchG C (name := "java/lang/IllegalStateException") [{ startPc := 0, endPc := 9, handlerPc := 12, catchType := 25 }] { startPc := 0, endPc := 9, handlerPc := 15, catchType := 13 } [] rfl (fun y hy => by cases List.mem_singleton.mp hy; exact ⟨by decide, _, q2542, nc_ISE⟩) (by decide) (by decide) q2493 q2503 ?_
      show WW X (HuP (xG X) z h o A G (uTak B x)) z h (2 - 2) (12 - 12) 15 [(0, .ref a), (1, .int x), (2, .ref o)] [.ref a9]
      refine ww_astore_n (lv' := [(3, .ref a9), (0, .ref a), (1, .int x), (2, .ref o)]) C dX0_takeTile_15 rfl (by decide) rfl rfl ?_
      refine ww_iconst C dX0_takeTile_16 cI_2 ?_
      exact ww_iret C dX0_takeTile_17 ⟨by rw [hq3], rfl, f, by rw [hq3, if_neg (by decide)]; exact (up_id Ho).symm, fun q => absurd (q.symm.trans hq3) (by decide)⟩
  refine ww_le (kc' := 0) (ns' := 0) (Nat.zero_le _) (Nat.zero_le _) ?_
  obtain ⟨hq0, hq1, hq3, hq2⟩ := q9; replace hq1 := hq1.symm; subst hq0; subst hq1
  have Ho : h9 o = some (.inl (gA (xG X) 2, (1, .inr (.inl f)))) := by rw [hq2, gmH_n ho4 ho6 ho8]; exact Ho
  refine ww_i2l C dX0_takeTile_7 rfl ?_
  refine ww_last C dX0_takeTile_8 Ho (by decide) (by decide) ?_
  refine ww_gen (fun h1 hE1 => ?_)
  have Ho_h1 : h1 o = some (.inl (gA (xG X) 2, (1, .inr (.inl (vp_updL f 0 (((uTak B x).1.1).toInt64)))))) := by rw [hE1]; exact up_s
  refine ww_goto (tgt := 18) C dX0_takeTile_9 (by decide) ?_
  refine ww_iconst C dX0_takeTile_18 cI_0 ?_
  exact ww_iret C dX0_takeTile_19 ⟨by rw [hq3], rfl, _, by rw [hq3, if_pos rfl, ← hq2]; exact hE1, fun _ => updL_0⟩
set_option maxHeartbeats 2000000 in
theorem ct_X0_fitTile {l : Launch} {Γ : Gm} (hl : l.flags = flags0) (hΓ : GOK Γ) {z : ZR} {h : AH} {a tp g ah : Nat} {er : Int32} {A : Nat → Nat} {B : GB} {G : GG} {rn dn : Int32} {o : Nat} {f : Nat → Int64} {x : Int32} (hz : zle (cst Γ) z) (Ha : rd z h a (.inr (0, [.ref tp, .int er, .ref g, .ref ah]))) (hM : GmM Γ z h g A B G rn dn) (hC : BC B) (han4 : a ≠ A 4) (han6 : a ≠ A 6) (han8 : a ≠ A 8) (Ho : h o = some (cOu Γ f)) (hon : a ≠ o) (ho4 : o ≠ A 4) (ho6 : o ≠ A 6) (ho8 : o ≠ A 8) : CtW l Γ yX0_fitTile cX0_fitTile 4 (some .int) [(0, 9, 12, 25), (0, 9, 15, 13)] 10 4 15 [.ref a, .int x, .ref o] z h (HuP Γ z h o A G (uFit B x)) := by
  refine CtW.of hl hΓ (by decide +kernel) (Nat.le_of_ble_eq_true rfl) (fun X e1 e2 C => ?_)
  subst e1; subst e2
  have C : Cx X cX0_fitTile 4 "RingDominoLaw" "fitTile" (some .int) [(0, 9, 12, 25), (0, 9, 15, 13)] 10 := C
  have Ho : h o = some (.inl (gA (xG X) 2, (1, .inr (.inl f)))) := Ho
  show WW X (HuP (xG X) z h o A G (uFit B x)) z h 4 15 0 [(0, .ref a), (1, .int x), (2, .ref o)] []
  refine ww_aload_n C dX0_fitTile_0 rfl 2 rfl rfl ?_
  refine ww_iconst C dX0_fitTile_1 cI_0 ?_
  refine ww_aload_n C dX0_fitTile_2 rfl 0 rfl rfl ?_
  refine ww_iload_n C dX0_fitTile_3 rfl 1 rfl ?_
  refine cv_X0_72 (As := [.int x]) (rest := [.int (nI 0), .ref o]) C dX0_fitTile_4 (ct_X1_fitTile (Cx.fl C) (Cx.ok C) hz Ha hM hC han4 han6 han8) (rc_X1 (Cx.ok C) Ha) rfl rfl (Nat.le_of_ble_eq_true rfl) (by decide) (Nat.le_refl _) (Nat.le_refl _) (fun v9 z9 h9 q9 => ?_) (fun E9 a9 z9 h9 q9 => ?_)
  rotate_left
  · skip
    obtain ⟨hq1, hq2, hq4, hq3⟩ := q9; replace hq1 := hq1.symm; replace hq2 := hq2.symm; subst hq1; subst hq2
    rcases hq3 with ⟨hq0, hq3⟩ | ⟨hq0, hq3⟩ <;> subst hq0
    · skip
      refine wx_catchG C (name := "java/lang/IndexOutOfBoundsException") [] { startPc := 0, endPc := 9, handlerPc := 12, catchType := 25 } [{ startPc := 0, endPc := 9, handlerPc := 15, catchType := 13 }] rfl (fun _ hy => nomatch hy) (by decide) (by decide) q2542 q2443 ?_
      show WW X (HuP (xG X) z h o A G (uFit B x)) z h (4 - 4) (15 - 15) 12 [(0, .ref a), (1, .int x), (2, .ref o)] [.ref a9]
      refine ww_astore_n (lv' := [(3, .ref a9), (0, .ref a), (1, .int x), (2, .ref o)]) C dX0_fitTile_12 rfl (by decide) rfl rfl ?_
      refine ww_iconst C dX0_fitTile_13 cI_1 ?_
      exact ww_iret C dX0_fitTile_14 ⟨by rw [hq3], rfl, f, by rw [hq3, if_neg (by decide)]; exact (up_id Ho).symm, fun q => absurd (q.symm.trans hq3) (by decide)⟩
    · skip
      refine wx_catchG C (name := "java/lang/IllegalStateException") [{ startPc := 0, endPc := 9, handlerPc := 12, catchType := 25 }] { startPc := 0, endPc := 9, handlerPc := 15, catchType := 13 } [] rfl (fun y hy => by cases List.mem_singleton.mp hy; exact ⟨by decide, _, q2542, nc_ISE⟩) (by decide) (by decide) q2493 q2503 ?_
      show WW X (HuP (xG X) z h o A G (uFit B x)) z h (4 - 4) (15 - 15) 15 [(0, .ref a), (1, .int x), (2, .ref o)] [.ref a9]
      refine ww_astore_n (lv' := [(3, .ref a9), (0, .ref a), (1, .int x), (2, .ref o)]) C dX0_fitTile_15 rfl (by decide) rfl rfl ?_
      refine ww_iconst C dX0_fitTile_16 cI_2 ?_
      exact ww_iret C dX0_fitTile_17 ⟨by rw [hq3], rfl, f, by rw [hq3, if_neg (by decide)]; exact (up_id Ho).symm, fun q => absurd (q.symm.trans hq3) (by decide)⟩
  refine ww_le (kc' := 0) (ns' := 0) (Nat.zero_le _) (Nat.zero_le _) ?_
  obtain ⟨hq0, hq1, hq3, hq2⟩ := q9; replace hq1 := hq1.symm; subst hq0; subst hq1
  have Ho : h9 o = some (.inl (gA (xG X) 2, (1, .inr (.inl f)))) := by rw [hq2, gmH_n ho4 ho6 ho8]; exact Ho
  refine ww_i2l C dX0_fitTile_7 rfl ?_
  refine ww_last C dX0_fitTile_8 Ho (by decide) (by decide) ?_
  refine ww_gen (fun h1 hE1 => ?_)
  have Ho_h1 : h1 o = some (.inl (gA (xG X) 2, (1, .inr (.inl (vp_updL f 0 (((uFit B x).1.1).toInt64)))))) := by rw [hE1]; exact up_s
  refine ww_goto (tgt := 18) C dX0_fitTile_9 (by decide) ?_
  refine ww_iconst C dX0_fitTile_18 cI_0 ?_
  exact ww_iret C dX0_fitTile_19 ⟨by rw [hq3], rfl, _, by rw [hq3, if_pos rfl, ← hq2]; exact hE1, fun _ => updL_0⟩
end LAW1
