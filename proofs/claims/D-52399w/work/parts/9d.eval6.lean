section EV6
set_option maxRecDepth 100000
theorem ndV_o {B : GB} {rn : Int32} {T : TD} {vl : Nat → Int32} {f : Nat} : ∀ n i, (i < f ∨ f + n ≤ i) → ndV B rn T vl f n i = vl i
  | 0, _, _ => rfl
  | n + 1, i, h => by
    show upd _ _ _ i = _
    rw [upd_ne (by omega)]
    exact ndV_o n i (by omega)
theorem ndV_s {B : GB} {rn : Int32} {T : TD} {vl : Nat → Int32} {f : Nat} : ∀ m n i, n ≤ m → i < f + n → ndV B rn T vl f m i = ndV B rn T vl f n i
  | 0, n, i, h, _ => by rw [show n = 0 by omega]
  | m + 1, n, i, h, hi => by
    rcases Nat.lt_or_ge m n with q | q
    · rw [show n = m + 1 by omega]
    · show upd _ _ _ i = _
      rw [upd_ne (by omega)]
      exact ndV_s m n i q hi
theorem ev_P {B : GB} {rn : Int32} {T : TD} (hS : TdS B T) (hR : TdR T) {k : Nat} (hk : k < T.1.1) : EvP B rn T (evN B rn T k) (T.2.1 23 k) (T.2.1 24 k) := by
  intro i h1 h2
  obtain ⟨s1, s2, s3, s4, s5, s6, s7⟩ := hS.2.2 k hk
  obtain ⟨p1, p2, p3⟩ := s5 i h1 h2
  obtain ⟨r1, r2⟩ := (hR k hk).1 i h1 h2
  refine ⟨?_, fun q => p1.2.1 q, r1, r2⟩
  have hj : i = T.2.1 23 k + (i - T.2.1 23 k) := by omega
  have e1 : evN B rn T k i = ndV B rn T (fun _ => 0) (T.2.1 23 k) (i - T.2.1 23 k + 1) i := ndV_s _ _ i (by omega) (by omega)
  have e2 : ndV B rn T (fun _ => 0) (T.2.1 23 k) (i - T.2.1 23 k + 1) i = rkI B rn (ndV B rn T (fun _ => 0) (T.2.1 23 k) (i - T.2.1 23 k)) (T.2.1 27 i) (T.2.1 28 i) (T.2.1 29 i) := by
    show upd _ (T.2.1 23 k + (i - T.2.1 23 k)) _ i = _
    rw [← hj, upd_eq]
  rw [e1, e2]
  refine rkI_c p1 (fun q => ?_) (fun q => ?_)
  · have := r1 q
    exact (ndV_s _ _ _ (by omega) (by omega)).symm
  · have := r2 q
    exact (ndV_s _ _ _ (by omega) (by omega)).symm
def crE (d : Nat) : Nat := if d = 0 then 10 else if d = 1 then 20 else 21
/-- the Order o is the order k -/
def OrO (Γ : Gm) (z : ZR) (T : TD) (N o k : Nat) : Prop := ∃ c1 c2 c3 te, z o (.inr (15, [.ref (gE Γ (crE (T.2.1 21 k))), .int (nI (T.2.1 22 k)), .ref c1, .ref c2, .ref c3, .ref te])) ∧ (T.2.1 21 k = 0 → SuO Γ z true T N c1 (T.2.1 25 (3 * k)) ∧ SuO Γ z true T N c2 (T.2.1 25 (3 * k + 1)) ∧ SuO Γ z true T N c3 (T.2.1 25 (3 * k + 2))) ∧ (match T.2.2 k with | none => z te (.inr (21, [])) | some t => TeO Γ z true T N te t)
theorem te_C {l : Launch} {Γ : Gm} (hl : l.flags = flags0) (hΓ : GOK Γ) {z : ZR} {h : AH} {g : Nat} {A : Nat → Nat} {B : GB} {rn dn : Int32} (hz : zle (cst Γ) z) (hG : GmP Γ z h g A B rn dn) (hC : BC B) {T : TD} (hS : TdS B T) (hR : TdR T) {k te N : Nat} (hk : k < T.1.1) (ht : match T.2.2 k with | none => z te (.inr (21, [])) | some t => TeO Γ z true T N te t) : TmC l Γ (5 * N + 20) z h te g (teB T (evN B rn T k) k) := by
  unfold teB
  cases hq : T.2.2 k with
  | none =>
    rw [hq] at ht
    exact Or.inr (Or.inr (Or.inr (Or.inr (Or.inr ⟨rc_X24 hΓ (Or.inr ht), ct_X24_holds hl hΓ (by omega)⟩))))
  | some t =>
    rw [hq] at ht
    have hr := (hR k hk).2.1 t hq
    obtain ⟨b, e, t'⟩ := TmC.of (l := l) hl hΓ hz hG hC (ev_P (rn := rn) hS hR hk) N te t hr.1 hr.2 ht
    have : decide (¬ evN B rn T k t = 0) = b := by rw [e]; cases b <;> decide
    simp only
    rw [this]; exact t'
theorem cor_0 {B : GB} {rn : Int32} {T : TD} {k : Nat} (ht : teB T (evN B rn T k) k = true) (h0 : T.2.1 21 k = 0) : coR B rn T k = cPt B (T.2.1 22 k) (fmN (evN B rn T k (T.2.1 25 (3 * k + 1))) (Br B) * Bc B + fmN (evN B rn T k (T.2.1 25 (3 * k))) (Bc B)) (fmN (evN B rn T k (T.2.1 25 (3 * k + 2))) 6) := by
  unfold coR coB cPt
  rw [ht, h0]
  first | done | rfl
theorem cor_1 {B : GB} {rn : Int32} {T : TD} {k : Nat} (ht : teB T (evN B rn T k) k = true) (h0 : T.2.1 21 k = 1) : coR B rn T k = cTk B (T.2.1 22 k) := by
  unfold coR coB cTk
  rw [ht, h0]
  first | done | rfl
theorem cor_2 {B : GB} {rn : Int32} {T : TD} {k : Nat} (ht : teB T (evN B rn T k) k = true) (h0 : T.2.1 21 k = 2) : coR B rn T k = cFt B (T.2.1 22 k) := by
  unfold coR coB cFt
  rw [ht, h0]
  first | done | rfl
theorem cor_f {B : GB} {rn : Int32} {T : TD} {k : Nat} (ht : teB T (evN B rn T k) k = false) : coR B rn T k = (false, B) := by
  unfold coR coB
  rw [ht]
theorem cor_n {B : GB} {rn : Int32} {T : TD} {k : Nat} (h : (coR B rn T k).1 = false) : (coR B rn T k).2 = B := by
  unfold coR coB at h ⊢
  repeat' split at h
  all_goals first | rfl | (cases h)
  all_goals simp_all
end EV6
