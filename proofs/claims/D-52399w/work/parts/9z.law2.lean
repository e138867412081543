section LAW2
set_option maxRecDepth 100000
def HfP (Γ : Gm) (z : ZR) (h : AH) (o tp ba : Nat) (q : (Int32 × Nat) × TP) : Oc → ZR → AH → Prop := Rv (fun v z' h' => v = .int (nI q.1.2) ∧ z' = z ∧ ∃ f0 f, TpC Γ h' tp ba f0 q.2 ∧ h' o = some (cOu Γ f) ∧ (q.1.2 = 0 → f 0 = q.1.1.toInt64) ∧ ∀ a, a ≠ tp → a ≠ ba → a ≠ o → h' a = h a)
def HtP (Γ : Gm) (z : ZR) (h : AH) (o tp ba : Nat) (t : TP) (x : Int32) : Oc → ZR → AH → Prop := Rv (fun v z' h' => z' = z ∧ ∃ f, match decide (nI 0 ≤ x) && decide (x ≤ nI t.2) with | true => v = .int (nI 0) ∧ h' = up (up h tp (.inr (1, [.ref ba, .int x]))) o (cOu Γ f) ∧ f 0 = x.toInt64 | false => v = .int (nI 1) ∧ h' = up h o (cOu Γ f))
def HpP (Γ : Gm) (z : ZR) (h : AH) (o g : Nat) (A : Nat → Nat) (G : GG) (dn : Int32) (q : (Int32 × Nat) × GB × Int32) : Oc → ZR → AH → Prop := Rv (fun v z' h' => v = .int (nI q.1.2) ∧ z' = z ∧ ∃ f h1, h' = up h1 o (cOu Γ f) ∧ (q.1.2 = 0 → f 0 = q.1.1.toInt64) ∧ (∃ dn', GmM Γ z h1 g A q.2.1 G q.2.2 dn') ∧ FrG g A h h1)
def HaP (Γ : Gm) (z : ZR) (h : AH) (o ah : Nat) (D : Nat → Nat) (q : Int32 × Nat) : Oc → ZR → AH → Prop := Rv (fun v z' h' => v = .int (nI q.2) ∧ z' = z ∧ ∃ f h1, h' = up h1 o (cOu Γ f) ∧ (q.2 = 0 → f 0 = q.1.toInt64) ∧ ∃ D', AhI Γ z h1 ah D' ∧ (∀ q, fpG Γ ah D' q → fpG Γ ah D q ∨ h q = none) ∧ ∀ q e, h q = some e → ¬ fpG Γ ah D q → h1 q = some e ∧ ¬ fpG Γ ah D' q)
theorem uPla_1 {T : TD} {B : GB} {rn x : Int32} (h : (uPla T B rn x).1.2 = 1) : uPla T B rn x = ((nI 0, 1), B, rn) := by
  unfold uPla at h ⊢
  cases hx : frB x with
  | false => rfl
  | true => rw [hx] at h; cases h
theorem TpC.ou {Γ : Gm} {h h' : AH} {tp ba o : Nat} {f0 : Nat → Int32} {t : TP} {e : va_E} (hT : TpC Γ h tp ba f0 t) (h1 : o ≠ tp) (h2 : o ≠ ba) (he : h' = up h o e) : TpC Γ h' tp ba f0 t := by
  obtain ⟨t1, t2, t3⟩ := hT
  subst he
  exact ⟨by rw [up_n h1.symm]; exact t1, by rw [up_n h2.symm]; exact t2, t3⟩
set_option maxHeartbeats 2000000 in
theorem ct_X0_feed {l : Launch} {Γ : Gm} (hl : l.flags = flags0) (hΓ : GOK Γ) {z : ZR} {h : AH} {a tp ba g ah : Nat} {er : Int32} {f0 : Nat → Int32} {t : TP} {o : Nat} {f : Nat → Int64} {x1 x2 x3 x4 x5 : Int32} (Ha : h a = some (.inr (0, [.ref tp, .int er, .ref g, .ref ah]))) (hT : TpC Γ h tp ba f0 t) (ht : TPo t) (ho1 : o ≠ tp) (ho2 : o ≠ ba) (Ho : h o = some (cOu Γ f)) : CtW l Γ yX0_feed cX0_feed 8 (some .int) [(0, 16, 19, 13)] 10 1 6 [.ref a, .int x1, .int x2, .int x3, .int x4, .int x5, .ref o] z h (HfP Γ z h o tp ba (aFd t x1 x2 x3 x4 x5)) := by
  refine CtW.of hl hΓ (by decide +kernel) (Nat.le_of_ble_eq_true rfl) (fun X e1 e2 C => ?_)
  subst e1; subst e2
  have C : Cx X cX0_feed 8 "RingDominoLaw" "feed" (some .int) [(0, 16, 19, 13)] 10 := C
  have Ho : h o = some (.inl (gA (xG X) 2, (1, .inr (.inl f)))) := Ho
  show WW X (HfP (xG X) z h o tp ba (aFd t x1 x2 x3 x4 x5)) z h 1 6 0 [(0, .ref a), (1, .int x1), (2, .int x2), (3, .int x3), (4, .int x4), (5, .int x5), (6, .ref o)] []
  refine ww_aload C dX0_feed_0 6 rfl rfl ?_
  refine ww_iconst C dX0_feed_2 cI_0 ?_
  refine ww_aload_n C dX0_feed_3 rfl 0 rfl rfl ?_
  refine ww_iload_n C dX0_feed_4 rfl 1 rfl ?_
  refine ww_iload_n C dX0_feed_5 rfl 2 rfl ?_
  refine ww_iload_n C dX0_feed_6 rfl 3 rfl ?_
  refine ww_iload C dX0_feed_7 4 rfl ?_
  refine ww_iload C dX0_feed_9 5 rfl ?_
  refine cv_X0_7 (As := [.int x1, .int x2, .int x3, .int x4, .int x5]) (rest := [.int (nI 0), .ref o]) C dX0_feed_11 (ct_X1_feed (Cx.fl C) (Cx.ok C) Ha hT ht) (rc_X1 (Cx.ok C) (Or.inl Ha)) rfl rfl (Nat.le_of_ble_eq_true rfl) (by omega) (Nat.le_refl _) (Nat.le_refl _) (fun v9 z9 h9 q9 => ?_) (fun E9 a9 z9 h9 q9 => ?_)
  rotate_left
  · skip
    obtain ⟨hq0, hq1, hq2, hq3⟩ := q9; replace hq0 := hq0.symm; replace hq1 := hq1.symm; replace hq2 := hq2.symm; subst hq0; subst hq1; subst hq2
    refine wx_catchG C (name := "java/lang/IllegalStateException") [] { startPc := 0, endPc := 16, handlerPc := 19, catchType := 13 } [] rfl (fun _ hy => nomatch hy) (by decide) (by decide) q2493 q2503 ?_
    show WW X (HfP (xG X) z h o tp ba (aFd t x1 x2 x3 x4 x5)) z h (1 - 1) (6 - 6) 19 [(0, .ref a), (1, .int x1), (2, .int x2), (3, .int x3), (4, .int x4), (5, .int x5), (6, .ref o)] [.ref a9]
    refine ww_astore (lv' := [(7, .ref a9), (0, .ref a), (1, .int x1), (2, .int x2), (3, .int x3), (4, .int x4), (5, .int x5), (6, .ref o)]) C dX0_feed_19 (by decide) rfl rfl ?_
    refine ww_iconst C dX0_feed_21 cI_1 ?_
    exact ww_iret C dX0_feed_22 ⟨by rw [hq3], rfl, f0, f, by rw [hq3]; exact hT, Ho, fun q => (by rw [hq3] at q; cases q), fun _ _ _ _ => rfl⟩
  refine ww_le (kc' := 0) (ns' := 0) (Nat.zero_le _) (Nat.zero_le _) ?_
  obtain ⟨hq0, hq1, hq2, f1, hT1, hF1⟩ := q9; replace hq1 := hq1.symm; subst hq0; subst hq1
  have Ho9 : h9 o = some (.inl (gA (xG X) 2, (1, .inr (.inl f)))) := by rw [hF1 o ho1 ho2]; exact Ho
  refine ww_i2l C dX0_feed_14 rfl ?_
  refine ww_last C dX0_feed_15 Ho9 (by decide) (by decide) ?_
  refine ww_gen (fun h1 hE1 => ?_)
  have Ho9_h1 : h1 o = some (.inl (gA (xG X) 2, (1, .inr (.inl (vp_updL f 0 (((aFd t x1 x2 x3 x4 x5).1.1).toInt64)))))) := by rw [hE1]; exact up_s
  refine ww_goto (tgt := 23) C dX0_feed_16 (by decide) ?_
  refine ww_iconst C dX0_feed_23 cI_0 ?_
  exact ww_iret C dX0_feed_24 ⟨by rw [hq2], rfl, f1, _, hT1.ou ho1 ho2 hE1, by rw [hE1]; exact up_s, fun _ => updL_0, fun q n1 n2 n3 => by rw [hE1, up_n n3]; exact hF1 q n1 n2⟩
set_option maxHeartbeats 2000000 in
theorem ct_X0_trim {l : Launch} {Γ : Gm} (hl : l.flags = flags0) (hΓ : GOK Γ) {z : ZR} {h : AH} {a tp ba g ah : Nat} {er : Int32} {f0 : Nat → Int32} {t : TP} {o : Nat} {f : Nat → Int64} {x : Int32} (Ha : h a = some (.inr (0, [.ref tp, .int er, .ref g, .ref ah]))) (hT : TpC Γ h tp ba f0 t) (ht : TPo t) (ho1 : o ≠ tp) (Ho : h o = some (cOu Γ f)) : CtW l Γ yX0_trim cX0_trim 4 (some .int) [(0, 9, 12, 19)] 10 1 6 [.ref a, .int x, .ref o] z h (HtP Γ z h o tp ba t x) := by
  refine CtW.of hl hΓ (by decide +kernel) (Nat.le_of_ble_eq_true rfl) (fun X e1 e2 C => ?_)
  subst e1; subst e2
  have C : Cx X cX0_trim 4 "RingDominoLaw" "trim" (some .int) [(0, 9, 12, 19)] 10 := C
  have Ho : h o = some (.inl (gA (xG X) 2, (1, .inr (.inl f)))) := Ho
  show WW X (HtP (xG X) z h o tp ba t x) z h 1 6 0 [(0, .ref a), (1, .int x), (2, .ref o)] []
  refine ww_aload_n C dX0_trim_0 rfl 2 rfl rfl ?_
  refine ww_iconst C dX0_trim_1 cI_0 ?_
  refine ww_aload_n C dX0_trim_2 rfl 0 rfl rfl ?_
  refine ww_iload_n C dX0_trim_3 rfl 1 rfl ?_
  refine cv_X0_15 (As := [.int x]) (rest := [.int (nI 0), .ref o]) C dX0_trim_4 (ct_X1_trim (Cx.fl C) (Cx.ok C) Ha hT ht) (rc_X1 (Cx.ok C) (Or.inl Ha)) rfl rfl (Nat.le_of_ble_eq_true rfl) (by omega) (Nat.le_refl _) (Nat.le_refl _) (fun v9 z9 h9 q9 => ?_) (fun E9 a9 z9 h9 q9 => ?_)
  rotate_left
  · skip
    obtain ⟨hq0, hq1, hq2, hq3⟩ := q9; replace hq0 := hq0.symm; replace hq1 := hq1.symm; replace hq2 := hq2.symm; subst hq0; subst hq1; subst hq2
    refine wx_catchG C (name := "java/lang/IllegalArgumentException") [] { startPc := 0, endPc := 9, handlerPc := 12, catchType := 19 } [] rfl (fun _ hy => nomatch hy) (by decide) (by decide) q2523 q521 ?_
    show WW X (HtP (xG X) z h o tp ba t x) z h (1 - 1) (6 - 6) 12 [(0, .ref a), (1, .int x), (2, .ref o)] [.ref a9]
    refine ww_astore_n (lv' := [(3, .ref a9), (0, .ref a), (1, .int x), (2, .ref o)]) C dX0_trim_12 rfl (by decide) rfl rfl ?_
    refine ww_iconst C dX0_trim_13 cI_1 ?_
    exact ww_iret C dX0_trim_14 ⟨rfl, f, by rw [hq3]; exact ⟨rfl, (up_id Ho).symm⟩⟩
  refine ww_le (kc' := 0) (ns' := 0) (Nat.zero_le _) (Nat.zero_le _) ?_
  obtain ⟨hq0, hq1, hq2, hq3⟩ := q9; replace hq1 := hq1.symm; subst hq0; subst hq1
  have Ho9 : h9 o = some (.inl (gA (xG X) 2, (1, .inr (.inl f)))) := by rw [hq3, up_n ho1]; exact Ho
  refine ww_i2l C dX0_trim_7 rfl ?_
  refine ww_last C dX0_trim_8 Ho9 (by decide) (by decide) ?_
  refine ww_gen (fun h1 hE1 => ?_)
  have Ho9_h1 : h1 o = some (.inl (gA (xG X) 2, (1, .inr (.inl (vp_updL f 0 x.toInt64))))) := by rw [hE1]; exact up_s
  refine ww_goto (tgt := 15) C dX0_trim_9 (by decide) ?_
  refine ww_iconst C dX0_trim_15 cI_0 ?_
  exact ww_iret C dX0_trim_16 ⟨rfl, _, by rw [hq2]; exact ⟨rfl, by rw [hE1, hq3]; rfl, updL_0⟩⟩
set_option maxHeartbeats 2000000 in
theorem ct_X0_playRounds {l : Launch} {Γ : Gm} (hl : l.flags = flags0) (hΓ : GOK Γ) {z : ZR} {h : AH} {a tp g ah N : Nat} {er : Int32} {A : Nat → Nat} {B : GB} {G : GG} {rn dn : Int32} {T : TD} {o : Nat} {f : Nat → Int64} {x : Int32} {d9 : Nat} (hz : zle (cst Γ) z) (Ha : h a = some (.inr (0, [.ref tp, .int er, .ref g, .ref ah]))) (hM : GmM Γ z h g A B G rn dn) (hC : BC B) (hS : TdS B T) (hR : TdR T) (hG2 : G.2.2 = T.1.1) (hO : ∀ k, k < T.1.1 → OrO Γ z T N (A (200 + k)) k) (han : a ≠ g) (han4 : a ≠ A 4) (han6 : a ≠ A 6) (han8 : a ≠ A 8) (on : o ≠ g) (on4 : o ≠ A 4) (on6 : o ≠ A 6) (on8 : o ≠ A 8) (Ho : h o = some (cOu Γ f)) (hd9 : 5 * N + 41 ≤ d9) : CtW l Γ yX0_playRounds cX0_playRounds 4 (some .int) [(0, 9, 12, 19)] d9 661 1046 [.ref a, .int x, .ref o] z h (HpP Γ z h o g A G dn (uPla T B rn x)) := by
  refine CtW.of hl hΓ (by decide +kernel) (Nat.le_of_ble_eq_true rfl) (fun X e1 e2 C => ?_)
  subst e1; subst e2
  have C : Cx X cX0_playRounds 4 "RingDominoLaw" "playRounds" (some .int) [(0, 9, 12, 19)] d9 := C
  have Ho : h o = some (.inl (gA (xG X) 2, (1, .inr (.inl f)))) := Ho
  show WW X (HpP (xG X) z h o g A G dn (uPla T B rn x)) z h 661 1046 0 [(0, .ref a), (1, .int x), (2, .ref o)] []
  refine ww_aload_n C dX0_playRounds_0 rfl 2 rfl rfl ?_
  refine ww_iconst C dX0_playRounds_1 cI_0 ?_
  refine ww_aload_n C dX0_playRounds_2 rfl 0 rfl rfl ?_
  refine ww_iload_n C dX0_playRounds_3 rfl 1 rfl ?_
  refine cv_X0_75 (As := [.int x]) (rest := [.int (nI 0), .ref o]) C dX0_playRounds_4 (ct_X1_playRounds (Cx.fl C) (Cx.ok C) (d9 := 5 * N + 40) hz (Or.inl Ha) hM hC hS hR hG2 hO han han4 han6 han8 (Nat.le_refl _)) (rc_X1 (Cx.ok C) (Or.inl Ha)) rfl rfl (Nat.le_of_ble_eq_true rfl) (by omega) (Nat.le_refl _) (Nat.le_refl _) (fun v9 z9 h9 q9 => ?_) (fun E9 a9 z9 h9 q9 => ?_)
  rotate_left
  · skip
    obtain ⟨hq0, hq1, hq2, hq3⟩ := q9; replace hq0 := hq0.symm; replace hq1 := hq1.symm; replace hq2 := hq2.symm; subst hq0; subst hq1; subst hq2
    have hun : uPla T B rn x = ((nI 0, 1), B, rn) := uPla_1 hq3
    refine wx_catchG C (name := "java/lang/IllegalArgumentException") [] { startPc := 0, endPc := 9, handlerPc := 12, catchType := 19 } [] rfl (fun _ hy => nomatch hy) (by decide) (by decide) q2523 q521 ?_
    show WW X (HpP (xG X) z h o g A G dn (uPla T B rn x)) z h (661 - 661) (1046 - 1046) 12 [(0, .ref a), (1, .int x), (2, .ref o)] [.ref a9]
    refine ww_astore_n (lv' := [(3, .ref a9), (0, .ref a), (1, .int x), (2, .ref o)]) C dX0_playRounds_12 rfl (by decide) rfl rfl ?_
    refine ww_iconst C dX0_playRounds_13 cI_1 ?_
    exact ww_iret C dX0_playRounds_14 ⟨by rw [hun], rfl, f, h, (up_id Ho).symm, fun q => absurd (q.symm.trans hq3) (by decide), by rw [hun]; exact ⟨dn, hM⟩, FrG.rf⟩
  refine ww_le (kc' := 0) (ns' := 0) (Nat.zero_le _) (Nat.zero_le _) ?_
  obtain ⟨hq0, hq1, hq2, hM1, hF1⟩ := q9; replace hq1 := hq1.symm; subst hq0; subst hq1
  have Ho9 : h9 o = some (.inl (gA (xG X) 2, (1, .inr (.inl f)))) := hF1 o _ Ho on on4 on6 on8
  refine ww_i2l C dX0_playRounds_7 rfl ?_
  refine ww_last C dX0_playRounds_8 Ho9 (by decide) (by decide) ?_
  refine ww_gen (fun h1 hE1 => ?_)
  have Ho9_h1 : h1 o = some (.inl (gA (xG X) 2, (1, .inr (.inl (vp_updL f 0 (((uPla T B rn x).1.1).toInt64)))))) := by rw [hE1]; exact up_s
  refine ww_goto (tgt := 15) C dX0_playRounds_9 (by decide) ?_
  refine ww_iconst C dX0_playRounds_15 cI_0 ?_
  exact ww_iret C dX0_playRounds_16 ⟨by rw [hq2], rfl, _, h9, hE1, fun _ => updL_0, ⟨_, hM1⟩, hF1⟩
set_option maxHeartbeats 2000000 in
theorem ct_X0_pointsAfter {l : Launch} {Γ : Gm} (hl : l.flags = flags0) (hΓ : GOK Γ) {z : ZR} {h : AH} {a tp g ah N : Nat} {er : Int32} {A : Nat → Nat} {B : GB} {G : GG} {rn dn : Int32} {T : TD} {o : Nat} {f : Nat → Int64} {x : Int32} {d9 : Nat} (hz : zle (cst Γ) z) (Ha : h a = some (.inr (0, [.ref tp, .int er, .ref g, .ref ah]))) (hM : GmM Γ z h g A B G rn dn) (hC : BC B) (hS : TdS B T) (hR : TdR T) (hG2 : G.2.2 = T.1.1) (hO : ∀ k, k < T.1.1 → OrO Γ z T N (A (200 + k)) k) {D : Nat → Nat} (hAh : AhI Γ z h ah D) (hdj : ∀ q, fpG Γ ah D q → ¬ fpG Γ g A q) (na : ¬ fpG Γ ah D a) (no : ¬ fpG Γ ah D o) (Ho : h o = some (cOu Γ f)) (hd9 : 5 * N + 41 ≤ d9) : CtW l Γ yX0_pointsAfter cX0_pointsAfter 4 (some .int) [(0, 9, 12, 19)] d9 670 1302 [.ref a, .int x, .ref o] z h (HaP Γ z h o ah D (aPAf T B rn x)) := by
  refine CtW.of hl hΓ (by decide +kernel) (Nat.le_of_ble_eq_true rfl) (fun X e1 e2 C => ?_)
  subst e1; subst e2
  have C : Cx X cX0_pointsAfter 4 "RingDominoLaw" "pointsAfter" (some .int) [(0, 9, 12, 19)] d9 := C
  have Ho : h o = some (.inl (gA (xG X) 2, (1, .inr (.inl f)))) := Ho
  show WW X (HaP (xG X) z h o ah D (aPAf T B rn x)) z h 670 1302 0 [(0, .ref a), (1, .int x), (2, .ref o)] []
  refine ww_aload_n C dX0_pointsAfter_0 rfl 2 rfl rfl ?_
  refine ww_iconst C dX0_pointsAfter_1 cI_0 ?_
  refine ww_aload_n C dX0_pointsAfter_2 rfl 0 rfl rfl ?_
  refine ww_iload_n C dX0_pointsAfter_3 rfl 1 rfl ?_
  refine cv_X0_78 (As := [.int x]) (rest := [.int (nI 0), .ref o]) C dX0_pointsAfter_4 (ct_X1_pointsAfter (Cx.fl C) (Cx.ok C) (d9 := 5 * N + 40) hz (Or.inl Ha) hM hC hS hR hG2 hO hAh hdj na (Nat.le_refl _)) (rc_X1 (Cx.ok C) (Or.inl Ha)) rfl rfl (Nat.le_of_ble_eq_true rfl) (by omega) (Nat.le_refl _) (Nat.le_refl _) (fun v9 z9 h9 q9 => ?_) (fun E9 a9 z9 h9 q9 => ?_)
  rotate_left
  · skip
    obtain ⟨hq0, hq1, hq2, hq3⟩ := q9; replace hq0 := hq0.symm; replace hq1 := hq1.symm; replace hq2 := hq2.symm; subst hq0; subst hq1; subst hq2
    refine wx_catchG C (name := "java/lang/IllegalArgumentException") [] { startPc := 0, endPc := 9, handlerPc := 12, catchType := 19 } [] rfl (fun _ hy => nomatch hy) (by decide) (by decide) q2523 q521 ?_
    show WW X (HaP (xG X) z h o ah D (aPAf T B rn x)) z h (670 - 670) (1302 - 1302) 12 [(0, .ref a), (1, .int x), (2, .ref o)] [.ref a9]
    refine ww_astore_n (lv' := [(3, .ref a9), (0, .ref a), (1, .int x), (2, .ref o)]) C dX0_pointsAfter_12 rfl (by decide) rfl rfl ?_
    refine ww_iconst C dX0_pointsAfter_13 cI_1 ?_
    exact ww_iret C dX0_pointsAfter_14 ⟨by rw [hq3], rfl, f, h, (up_id Ho).symm, fun q => absurd (q.symm.trans hq3) (by decide), D, hAh, fun q hq => Or.inl hq, fun q e hq nf => ⟨hq, nf⟩⟩
  refine ww_le (kc' := 0) (ns' := 0) (Nat.zero_le _) (Nat.zero_le _) ?_
  obtain ⟨hq0, hq1, hq2, D1, hA1, hN1, hF1⟩ := q9; replace hq1 := hq1.symm; subst hq0; subst hq1
  have Ho9 : h9 o = some (.inl (gA (xG X) 2, (1, .inr (.inl f)))) := (hF1 o _ Ho no).1
  refine ww_i2l C dX0_pointsAfter_7 rfl ?_
  refine ww_last C dX0_pointsAfter_8 Ho9 (by decide) (by decide) ?_
  refine ww_gen (fun h1 hE1 => ?_)
  have Ho9_h1 : h1 o = some (.inl (gA (xG X) 2, (1, .inr (.inl (vp_updL f 0 (((aPAf T B rn x).1).toInt64)))))) := by rw [hE1]; exact up_s
  refine ww_goto (tgt := 15) C dX0_pointsAfter_9 (by decide) ?_
  refine ww_iconst C dX0_pointsAfter_15 cI_0 ?_
  exact ww_iret C dX0_pointsAfter_16 ⟨by rw [hq2], rfl, _, h9, hE1, fun _ => updL_0, D1, hA1, hN1, hF1⟩
end LAW2
