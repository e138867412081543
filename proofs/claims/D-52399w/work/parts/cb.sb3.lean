section SB3
set_option maxRecDepth 100000
theorem SbI.st {Γ : Gm} {h h1 k : AH} {a v : Nat} {u : Nat → Nat} {e : va_E} {y : Int32} (an : h a = none) (h1e : h1 = up h a e) (vn : h1 v = none) (hK : k = up (up h1 v (.inl (gA Γ 1, (16, .inl (fun _ => 0))))) a (.inr (24, [.ref v, .int (nI 0), .int y, .int (nI 0)]))) : SbI Γ h k a 0 16 u := by
  have hav : a ≠ v := fun x => by rw [← x, h1e, up_s] at vn; cases vn
  have v0 : h v = none := by rw [h1e, up_n (Ne.symm hav)] at vn; exact vn
  refine ⟨v, fun _ => 0, y, fun q e' hq => ?_, an, v0, by rw [hK, up_s], by rw [hK, up_n (Ne.symm hav), up_s], Nat.zero_le _, fun i hi => absurd hi (Nat.not_lt_zero i), fun _ _ _ => rfl⟩
  have n1 : q ≠ a := fun x => by rw [x, an] at hq; cases hq
  have n2 : q ≠ v := fun x => by rw [x, v0] at hq; cases hq
  rw [hK, up_n n1, up_n n2, h1e, up_n n1]; exact hq
theorem SbI.le {Γ : Gm} {h0 h : AH} {a m cap : Nat} {u : Nat → Nat} (hS : SbI Γ h0 h a m cap u) : hle h0 h := by
  obtain ⟨v, f, y, hl0, -⟩ := hS
  exact fun q e hq => hl0 q e hq
theorem SbI.no {Γ : Gm} {h0 h : AH} {a m cap s : Nat} {u : Nat → Nat} (hS : SbI Γ h0 h a m cap u) (hs : h s = none) : h0 s = none := by
  cases hq : h0 s with
  | none => rfl
  | some e => rw [hS.le s e hq] at hs; cases hs
theorem SbI.up2 {Γ : Gm} {h0 h : AH} {a m cap s w : Nat} {u : Nat → Nat} {e1 e2 : va_E} (hS : SbI Γ h0 h a m cap u) : hle (up (up h0 w e1) s e2) (up (up h w e1) s e2) := fun q e hq => by
  by_cases n1 : q = s
  · rw [n1, up_s] at hq ⊢; exact hq
  · rw [up_n n1] at hq ⊢
    by_cases n2 : q = w
    · rw [n2, up_s] at hq ⊢; exact hq
    · rw [up_n n2] at hq ⊢; exact hS.le q e hq
theorem SbI.ext {Γ : Gm} {h0 h : AH} {a m cap : Nat} {u u' : Nat → Nat} (hS : SbI Γ h0 h a m cap u) (he : ∀ i, i < m → u i = u' i) : SbI Γ h0 h a m cap u' := by
  obtain ⟨v, f, y, h1, h2, h3, h4, h5, h6, h7, h8⟩ := hS
  exact ⟨v, f, y, h1, h2, h3, h4, h5, h6, fun i hi => by rw [← he i hi]; exact h7 i hi, h8⟩
theorem sb_nx {t : TP} {fr j i : Nat} : va_up (fun i => byA t (fr + i)) j (byA t (fr + j)) i = byA t (fr + i) := by
  by_cases e : i = j
  · rw [e, va_eq]
  · rw [va_ne e]
theorem TpC.le {Γ : Gm} {h k : AH} {tp ba : Nat} {f : Nat → Int32} {t : TP} (hT : TpC Γ h tp ba f t) (hl : hle h k) : TpC Γ k tp ba f t := ⟨hl _ _ hT.1, hl _ _ hT.2.1, hT.2.2⟩
set_option maxHeartbeats 2000000 in
theorem ct_X2_text {l : Launch} {Γ : Gm} (hl : l.flags = flags0) (hΓ : GOK Γ) {z : ZR} {h : AH} {tp ba fr to : Nat} {f : Nat → Int32} {t : TP} (hT : TpC Γ h tp ba f t) (ht : TPo t) (hft : fr ≤ to) (hto : to ≤ 4000) : Ct l Γ yX2_text cX2_text 5 (some (.object "java/lang/String")) 9 (4 + (sbP (to - fr)).2.1) (24 + (sbP (to - fr)).2.2 + (to - fr)) [.ref tp, .int (nI fr), .int (nI to)] z h (Rv (fun v z' h' => z' = z ∧ ∃ s w g, v = .ref s ∧ s ≠ w ∧ h s = none ∧ h w = none ∧ (∀ e, ¬ z s e) ∧ (∀ e, ¬ z w e) ∧ (∀ i, i < to - fr → g i = bs (byA t (fr + i)) ∧ byA t (fr + i) < 256) ∧ h' = up (up h w (.inl (gA Γ 1, (to - fr, .inl g)))) s (.inr (25, [.ref w, .int (nI 0), .int (nI 0), .int (nI 0)])))) := by
  refine Ct.of hl hΓ (by decide +kernel) (Nat.le_of_ble_eq_true rfl) (fun X e1 e2 C => ?_)
  subst e1; subst e2
  have C : Cx X cX2_text 5 "RingDomino$Tape" "text" (some (.object "java/lang/String")) [] 9 := C
  show WW X (Rv (fun v z' h' => z' = z ∧ ∃ s w g, v = .ref s ∧ s ≠ w ∧ h s = none ∧ h w = none ∧ (∀ e, ¬ z s e) ∧ (∀ e, ¬ z w e) ∧ (∀ i, i < to - fr → g i = bs (byA t (fr + i)) ∧ byA t (fr + i) < 256) ∧ h' = up (up h w (.inl (gA (xG X) 1, (to - fr, .inl g)))) s (.inr (25, [.ref w, .int (nI 0), .int (nI 0), .int (nI 0)])))) z h (4 + (sbP (to - fr)).2.1) (24 + (sbP (to - fr)).2.2 + (to - fr)) 0 [(0, .ref tp), (1, .int (nI fr)), (2, .int (nI to))] []
  refine nw_X2_19 C dX2_text_0 (by omega) (by omega) (fun a a_n a_z a_g => ?_)
  refine ww_gen (fun h1 hE1 => ?_)
  have N1_h1 : h1 a = some (.inr (24, [.null, .int (nI 0), .int (nI 0), .int (nI 0)])) := by rw [hE1]; exact up_s
  refine ww_dup C dX2_text_3 rfl ?_
  refine ci_X2_21_q (As := []) (rest := [.ref a]) C dX2_text_4 (ct_J10_init (Cx.fl C) (Cx.ok C) N1_h1) rfl rfl (Nat.le_of_ble_eq_true rfl) (by decide) (by omega) (by omega) (fun z1 k1 q => ?_)
  obtain ⟨hq1, v, v_n, v_z, hK⟩ := q; replace hq1 := hq1.symm; subst hq1
  have hS : SbI (xG X) h k1 a 0 (sbP 0).1 (fun i => byA t (fr + i)) := SbI.st a_n hE1 v_n hK
  refine ww_astore_n (lv' := [(3, .ref a), (0, .ref tp), (1, .int (nI fr)), (2, .int (nI to))]) C dX2_text_7 rfl (by decide) rfl rfl ?_
  refine ww_iload_n C dX2_text_8 rfl 2 rfl ?_
  refine ww_istore (lv' := [(4, .int (nI fr)), (3, .ref a), (0, .ref tp), (1, .int (nI fr)), (2, .int (nI to))]) C dX2_text_9 (by decide) rfl ?_
  refine ww_le (kc' := 2 + ((sbP (to - fr)).2.1 - (sbP 0).2.1)) (ns' := 4 + (to - fr) + ((sbP (to - fr)).2.2 - (sbP 0).2.2)) (by have : (sbP 0).2.1 = 0 := rfl; omega) (by have : (sbP 0).2.2 = 0 := rfl; omega) ?_
  refine ww_sub [0, 1, 2, 4] rfl ?_
  refine loop_up (N := (to - fr)) (M := fun j => ∀ (h3 : AH), (SbI (xG X) h h3 a j (sbP j).1 (fun i => byA t (fr + i))) → WW X (Rv (fun v z' h' => z' = z ∧ ∃ s w g, v = .ref s ∧ s ≠ w ∧ h s = none ∧ h w = none ∧ (∀ e, ¬ z s e) ∧ (∀ e, ¬ z w e) ∧ (∀ i, i < to - fr → g i = bs (byA t (fr + i)) ∧ byA t (fr + i) < 256) ∧ h' = up (up h w (.inl (gA (xG X) 1, (to - fr, .inl g)))) s (.inr (25, [.ref w, .int (nI 0), .int (nI 0), .int (nI 0)])))) z h3 (2 + ((sbP (to - fr)).2.1 - (sbP j).2.1)) (4 + (to - fr) + ((sbP (to - fr)).2.2 - (sbP j).2.2)) 11 [(4, .int (nI (fr + j))), (3, .ref a), (0, .ref tp), (2, .int (nI to))] []) ?_ ?_ 0 (Nat.zero_le _) k1 hS
  · intro h3 hS3
    show WW X (Rv (fun v z' h' => z' = z ∧ ∃ s w g, v = .ref s ∧ s ≠ w ∧ h s = none ∧ h w = none ∧ (∀ e, ¬ z s e) ∧ (∀ e, ¬ z w e) ∧ (∀ i, i < to - fr → g i = bs (byA t (fr + i)) ∧ byA t (fr + i) < 256) ∧ h' = up (up h w (.inl (gA (xG X) 1, (to - fr, .inl g)))) s (.inr (25, [.ref w, .int (nI 0), .int (nI 0), .int (nI 0)])))) z h3 (2 + ((sbP (to - fr)).2.1 - (sbP (to - fr)).2.1)) (4 + (to - fr) + ((sbP (to - fr)).2.2 - (sbP (to - fr)).2.2)) 11 [(4, .int (nI (fr + (to - fr)))), (3, .ref a), (0, .ref tp), (2, .int (nI to))] []
    obtain ⟨v3, f3, y3, -, -, -, Ha3, -⟩ := id hS3
    refine ww_iload C dX2_text_11 0 rfl ?_
    refine ww_iload_n C dX2_text_13 rfl 3 rfl ?_
    refine ww_icmp_ge_t (tgt := 35) C dX2_text_14 (by decide) (nI_le (by omega) (by omega)) ?_
    refine ww_aload_n C dX2_text_35 rfl 1 rfl rfl ?_
    have hb9 := sbP_b (to - fr)
    refine cv_X2_30_q (As := []) (rest := []) C dX2_text_36 (ct_J10_toString (Cx.fl C) (Cx.ok C) hS3 (by omega)) (rc_J10 (Cx.ok C) (Or.inl Ha3)) rfl rfl (Nat.le_of_ble_eq_true rfl) (by decide) (by omega) (by omega) (fun vv z1 k4 q => ?_)
    obtain ⟨hq1, s, w, g, hv, hsw, s_n, w_n, s_z, w_z, hg, hK4⟩ := q; subst hv; replace hq1 := hq1.symm; subst hq1
    have hs0 : h s = none := hS3.no s_n
    have hw0 : h w = none := hS3.no w_n
    refine ww_hs (h' := up (up h w (.inl (gA (xG X) 1, (to - fr, .inl g)))) s (.inr (25, [.ref w, .int (nI 0), .int (nI 0), .int (nI 0)]))) (by rw [hK4]; exact hS3.up2) ?_
    exact ww_aret C (Or.inl ⟨_, rfl⟩) dX2_text_39 rfl ⟨rfl, s, w, g, rfl, hsw, hs0, hw0, s_z, w_z, hg, rfl⟩
  · intro j hi ih h3 hS3
    show WW X (Rv (fun v z' h' => z' = z ∧ ∃ s w g, v = .ref s ∧ s ≠ w ∧ h s = none ∧ h w = none ∧ (∀ e, ¬ z s e) ∧ (∀ e, ¬ z w e) ∧ (∀ i, i < to - fr → g i = bs (byA t (fr + i)) ∧ byA t (fr + i) < 256) ∧ h' = up (up h w (.inl (gA (xG X) 1, (to - fr, .inl g)))) s (.inr (25, [.ref w, .int (nI 0), .int (nI 0), .int (nI 0)])))) z h3 (2 + ((sbP (to - fr)).2.1 - (sbP j).2.1)) (4 + (to - fr) + ((sbP (to - fr)).2.2 - (sbP j).2.2)) 11 [(4, .int (nI (fr + j))), (3, .ref a), (0, .ref tp), (2, .int (nI to))] []
    have hb9 := sbP_b j
    have hT3 : TpC (xG X) h3 tp ba f t := hT.le hS3.le
    obtain ⟨v3, f3, y3, -, -, -, Ha3, -⟩ := id hS3
    refine ww_iload C dX2_text_11 0 rfl ?_
    refine ww_iload_n C dX2_text_13 rfl 3 rfl ?_
    refine ww_icmp_ge_f (tgt := 35) C dX2_text_14 (by decide) (nI_ge (by omega) (by omega)) ?_
    refine ww_aload_n C dX2_text_17 rfl 1 rfl rfl ?_
    refine ww_aload_n C dX2_text_18 rfl 2 rfl rfl ?_
    refine ww_iload C dX2_text_19 0 rfl ?_
    refine cv_X2_22_r (As := [.int (nI (fr + j))]) (rest := [.ref a]) C dX2_text_21 (ct_X2_at (Cx.fl C) (Cx.ok C) hT3 ht (by omega)) (rc_X2 (Cx.ok C) (Or.inl hT3.1)) rfl rfl (Nat.le_of_ble_eq_true rfl) (by decide) (Nat.zero_le _) (Nat.zero_le _) ?_
    refine ww_i2c (v := nI (byA t (fr + j))) C dX2_text_24 (by exact i2c0 _ (byA_lt ht _)) ?_
    have hm9 := sbP_mono (m := j + 1) (to - fr - (j + 1))
    rw [show j + 1 + (to - fr - (j + 1)) = to - fr by omega] at hm9
    have hp9 : sbP (j + 1) = (sbN j (sbP j).1, (sbP j).2.1 + (if j < (sbP j).1 then 0 else 1), (sbP j).2.2 + (if j < (sbP j).1 then 0 else 2 * (sbP j).1 + 2)) := rfl
    rw [hp9] at hm9
    dsimp only at hm9
    refine cv_X2_26_q (As := [.int (nI (byA t (fr + j)))]) (rest := []) C dX2_text_25 (ct_J10_append (Cx.fl C) (Cx.ok C) hS3 (by omega) (byA_lt ht _)) (rc_J10 (Cx.ok C) (Or.inl Ha3)) rfl rfl (Nat.le_of_ble_eq_true rfl) (by decide) (by omega) (by omega) (fun vv z1 k4 q => ?_)
    obtain ⟨hv, hq1, hS4⟩ := q; subst hv; replace hq1 := hq1.symm; subst hq1
    refine ww_le (kc' := 2 + ((sbP (to - fr)).2.1 - (sbP (j + 1)).2.1)) (ns' := 4 + (to - fr) + ((sbP (to - fr)).2.2 - (sbP (j + 1)).2.2)) (by rw [hp9]; dsimp only; omega) (by rw [hp9]; dsimp only; omega) ?_
    refine ww_pop C dX2_text_28 rfl ?_
    refine ww_iinc (lv' := [(4, .int (nI (fr + j + 1))), (3, .ref a), (0, .ref tp), (2, .int (nI to))]) C dX2_text_29 0 rfl (inc_n _) (by decide) rfl ?_
    refine ww_goto (tgt := 11) C dX2_text_32 (by decide) ?_
    exact ih k4 (hS4.ext (fun i hi => sb_nx))
end SB3
