section EV4
set_option maxRecDepth 100000
theorem cm_44 {x y : Int32} : cmB 60 60 x y = decide (x < y) := by
  unfold cmB
  by_cases h : x < y
  · rw [if_pos h, decide_eq_true h]; rfl
  · rw [if_neg h, decide_eq_false h]; split <;> rfl
theorem cm_45 {x y : Int32} : cmB 62 62 x y = decide (y < x) := by
  unfold cmB
  by_cases h : x < y
  · rw [if_pos h, decide_eq_false (fun q => Int32.lt_irrefl (Int32.lt_trans h q))]; rfl
  · rw [if_neg h]
    by_cases e : x = y
    · rw [if_pos e, show decide (y < x) = false from decide_eq_false (fun q => by rw [e] at q; exact Int32.lt_irrefl q)]; rfl
    · rw [if_neg e, decide_eq_true (Int32.lt_of_le_of_ne (Int32.not_lt.mp h) (fun q => e q.symm))]; rfl
theorem cm_46 {x y : Int32} : cmB 61 61 x y = decide (x = y) := by
  unfold cmB
  by_cases h : x < y
  · rw [if_pos h, show decide (x = y) = false from decide_eq_false (fun q => by rw [q] at h; exact Int32.lt_irrefl h)]; rfl
  · rw [if_neg h]
    by_cases e : x = y
    · rw [if_pos e, decide_eq_true e]; rfl
    · rw [if_neg e, decide_eq_false e]; rfl
theorem cm_47 {x y : Int32} : cmB 60 61 x y = decide (x ≤ y) := by
  unfold cmB
  by_cases h : x < y
  · rw [if_pos h, decide_eq_true (Int32.le_of_lt h)]; rfl
  · rw [if_neg h]
    by_cases e : x = y
    · rw [if_pos e, show decide (x ≤ y) = true from decide_eq_true (by rw [e]; exact Int32.le_refl _)]; rfl
    · rw [if_neg e, decide_eq_false (fun q => h (Int32.lt_of_le_of_ne q e))]; rfl
theorem cm_48 {x y : Int32} : cmB 62 61 x y = decide (y ≤ x) := by
  unfold cmB
  by_cases h : x < y
  · rw [if_pos h, decide_eq_false (fun q => Int32.not_lt.mpr q h)]; rfl
  · rw [if_neg h, decide_eq_true (Int32.not_lt.mp h)]; split <;> rfl
def foB (al : Bool) (bv : Nat → Bool) : Nat → Bool
  | 0 => bv 0
  | m + 1 => if al then foB al bv m && bv (m + 1) else foB al bv m || bv (m + 1)
theorem fo_e {al : Bool} {bv : Nat → Bool} : ∀ m, foB al bv m = al ↔ ∀ k, k < m + 1 → bv k = al
  | 0 => ⟨fun h k hk => by rw [show k = 0 by omega]; exact h, fun h => h 0 (by omega)⟩
  | m + 1 => by
    have ih := fo_e (al := al) (bv := bv) m
    have e : foB al bv (m + 1) = al ↔ foB al bv m = al ∧ bv (m + 1) = al := by
      show (if al then foB al bv m && bv (m + 1) else foB al bv m || bv (m + 1)) = al ↔ _
      cases al <;> cases foB _ bv m <;> cases bv (m + 1) <;> decide
    rw [e, ih]
    exact ⟨fun h k hk => by rcases Nat.lt_or_ge k (m + 1) with q | q; { exact h.1 k q }; { rw [show k = m + 1 by omega]; exact h.2 }, fun h => ⟨fun k hk => h k (by omega), h (m + 1) (by omega)⟩⟩
theorem sv_e {al : Bool} {bv : Nat → Bool} {m : Nat} : svB al bv m = al ↔ ∀ k, k < m → bv k = al := by
  unfold svB
  cases hf : ff (fun k => bv k != al) m 0 with
  | none =>
    refine ⟨fun _ k hk => ?_, fun _ => rfl⟩
    have := ff_no _ _ hf k (Nat.zero_le _) (by omega)
    simpa using this
  | some y =>
    obtain ⟨h1, h2⟩ := ff_lt _ _ _ hf
    refine ⟨fun h => ?_, fun h => ?_⟩
    · exfalso; cases al <;> cases h
    · have := h y (by omega)
      rw [this] at h2
      simp at h2
theorem sv_fo {al : Bool} {bv : Nat → Bool} {m : Nat} : svB al bv (m + 1) = foB al bv m := by
  have h1 := sv_e (al := al) (bv := bv) (m := m + 1)
  have h2 := fo_e (al := al) (bv := bv) m
  rw [← h2] at h1
  cases hs : svB al bv (m + 1) <;> cases hf : foB al bv m <;> rw [hs, hf] at h1 <;> first | rfl | (cases al <;> simp at h1)
theorem bI_and {a b : Bool} : bI a &&& bI b = bI (a && b) := by cases a <;> cases b <;> decide
theorem bI_or {a b : Bool} : bI a ||| bI b = bI (a || b) := by cases a <;> cases b <;> decide
theorem bI_not {a : Bool} : nI 1 - bI a = bI (!a) := by cases a <;> decide
theorem ch_r {B : GB} {rn : Int32} {T : TD} {V : Nat → Int32} {fr to : Nat} (hV : EvP B rn T V fr to) {al : Bool} {js : Nat → Nat} : ∀ m i, fr ≤ i → i < to → chN T (if al then 20 else 21) js m i → ∀ k, k < m + 1 → fr ≤ js k ∧ js k < to
  | 0, i, h1, h2, hc, k, hk => by
    have hc : i = js 0 := hc
    rw [show k = 0 by omega, ← hc]; exact ⟨h1, h2⟩
  | m + 1, i, h1, h2, hc, k, hk => by
    obtain ⟨c1, c2, c3⟩ := hc
    obtain ⟨v1, v2, v3, v4⟩ := hV i h1 h2
    have hJ : isJ (nso T i) = true := by rw [c1]; cases al <;> rfl
    have hl := v3 (Or.inr hJ)
    have hr := v4 hJ
    rcases Nat.lt_or_ge k (m + 1) with q | q
    · exact ch_r hV m _ hl.1 (by omega) c3 k q
    · rw [show k = m + 1 by omega, ← c2]; exact ⟨hr.1, by omega⟩
theorem ch_v {B : GB} {rn : Int32} {T : TD} {V : Nat → Int32} {fr to : Nat} (hV : EvP B rn T V fr to) {al : Bool} {js : Nat → Nat} {bv : Nat → Bool} : ∀ m i, fr ≤ i → i < to → chN T (if al then 20 else 21) js m i → (∀ k, k < m + 1 → V (js k) = bI (bv k)) → V i = bI (foB al bv m)
  | 0, i, h1, h2, hc, hb => by
    have hc : i = js 0 := hc
    rw [hc]; exact hb 0 (by omega)
  | m + 1, i, h1, h2, hc, hb => by
    obtain ⟨c1, c2, c3⟩ := hc
    obtain ⟨v1, v2, v3, v4⟩ := hV i h1 h2
    have hJ : isJ (nso T i) = true := by rw [c1]; cases al <;> rfl
    have hl := v3 (Or.inr hJ)
    have ih := ch_v hV m _ hl.1 (by omega) c3 (fun k hk => hb k (by omega))
    have hr := hb (m + 1) (by omega)
    rw [← c2] at hr
    rw [v1, c1]
    cases al with
    | true =>
      show rkI B rn V 20 _ _ = bI (foB true bv m && bv (m + 1))
      simp only [rkI, jnI]
      rw [ih, hr]; exact bI_and
    | false =>
      show rkI B rn V 21 _ _ = bI (foB false bv m || bv (m + 1))
      simp only [rkI, jnI]
      rw [ih, hr]; exact bI_or
theorem TmC.of {l : Launch} {Γ : Gm} (hl : l.flags = flags0) (hΓ : GOK Γ) {z : ZR} {h : AH} {g : Nat} {A : Nat → Nat} {B : GB} {rn dn : Int32} (hz : zle (cst Γ) z) (hG : GmP Γ z h g A B rn dn) (hC : BC B) {T : TD} {V : Nat → Int32} {fr to : Nat} (hV : EvP B rn T V fr to) :
    ∀ n a i, fr ≤ i → i < to → TeO Γ z true T n a i → ∃ b, V i = bI b ∧ TmC l Γ (5 * n + 20) z h a g b
  | 0, _, _, _, _, q => q.elim
  | n + 1, a, i, h1, h2, q => by
    obtain ⟨v1, v2, v3, v4⟩ := hV i h1 h2
    have ih := TmC.of hl hΓ hz hG hC hV n
    unfold TeO at q
    rcases q with ⟨sg, m, u, b, c, q1, q2, q3, q4, q5, q6⟩ | ⟨q1, c, q2, q3⟩ | ⟨q1, q2⟩ | ⟨q1, q2⟩ | ⟨al, L, arr, m, xs, js, q1, q2, q3, q4, q5⟩
    · have hJ : isJ (nso T i) = true := by rcases q4 with ⟨e, -⟩ | ⟨e, -⟩ | ⟨e, -⟩ | ⟨e, -⟩ | ⟨e, -⟩ <;> rw [e] <;> rfl
      have hU := v3 (Or.inr hJ)
      have hW := v4 hJ
      have s1 := SmC.of (l := l) hl hΓ hz hG hC hV n b _ hU.1 (by omega) q5
      have s2 := SmC.of (l := l) hl hΓ hz hG hC hV n c _ hW.1 (by omega) q6
      refine ⟨cmB (u 0) (u (m - 1)) (V (nle T i)) (V (nri T i)), ?_, Or.inr (Or.inr (Or.inr (Or.inr (Or.inl ⟨rc_X22 hΓ (Or.inr q1), ct_X22_holds hl hΓ (Or.inr q1) (q2.mono zle.rf h0_le) q3 s1 s2 (by omega)⟩))))⟩
      rw [v1]
      rcases q4 with ⟨e, e1, e2⟩ | ⟨e, e1, e2⟩ | ⟨e, e1, e2⟩ | ⟨e, e1, e2⟩ | ⟨e, e1, e2⟩ <;> rw [e, e1, e2] <;> simp only [rkI, jnI]
      · rw [cm_44]
      · rw [cm_45]
      · rw [cm_46]
      · rw [cm_47]
      · rw [cm_48]
    · have hU := v3 (Or.inl (by rw [q1]; rfl))
      obtain ⟨b, e, t⟩ := ih c _ hU.1 (by omega) q3
      refine ⟨!b, ?_, Or.inr (Or.inl ⟨rc_X19 hΓ (Or.inr q2), ct_X19_holds hl hΓ (Or.inr q2) t (by omega)⟩)⟩
      rw [v1, q1]
      simp only [rkI]
      rw [e]; exact bI_not
    · refine ⟨(Bp B (nle T i)).isSome, ?_, Or.inr (Or.inr (Or.inl ⟨rc_X20 hΓ (Or.inr q2), ct_X20_holds hl hΓ hz hG hC (v2 (Or.inr (Or.inl q1))) (Or.inr q2) (by omega)⟩))⟩
      rw [v1, q1]; simp only [rkI]
    · refine ⟨decide (0 < wyN B (nle T i)), ?_, Or.inr (Or.inr (Or.inr (Or.inl ⟨rc_X21 hΓ (Or.inr q2), ct_X21_holds hl hΓ hz hG hC (v2 (Or.inr (Or.inr q1))) (Or.inr q2) (by omega)⟩)))⟩
      rw [v1, q1]
      simp only [rkI]
      have := fw_wy B (nle T i)
      congr 1
      rw [← Option.not_isNone, this]
      by_cases hw : wyN B (nle T i) = 0
      · rw [decide_eq_true hw, decide_eq_false (by omega)]; rfl
      · rw [decide_eq_false hw, decide_eq_true (by omega)]; rfl
    · have hr := ch_r hV m i h1 h2 q5
      have hb : ∀ k, k < m + 1 → V (js k) = bI (decide (V (js k) = 1)) ∧ TmC l Γ (5 * n + 20) z h (xs k) g (decide (V (js k) = 1)) := by
        intro k hk
        obtain ⟨b, e, t⟩ := ih (xs k) (js k) (hr k hk).1 (hr k hk).2 (q4 k hk)
        have eb : decide (V (js k) = 1) = b := by rw [e]; cases b <;> decide
        rw [eb]; exact ⟨e, t⟩
      have hv := ch_v hV m i h1 h2 q5 (bv := fun k => decide (V (js k) = 1)) (fun k hk => (hb k hk).1)
      refine ⟨svB al (fun k => decide (V (js k) = 1)) (m + 1), by rw [sv_fo]; exact hv, Or.inl ⟨rc_X18 hΓ (Or.inr q1), ct_X18_holds hl hΓ (Or.inr q1) (q2.mono zle.rf h0_le) q3 (fun k hk => (hb k hk).2) (by omega)⟩⟩
end EV4
