/-! ===== the law's invariant behind a change ===== -/
section PB29
set_option maxRecDepth 100000
variable {Γ : Gm} {z : ZR} {h h1 h2 hx : AH} {a tp ba g ah o : Nat} {A D D' : Nat → Nat} {er : Int32} {t : TP} {B B' : GB} {rn rn' dn dn' : Int32} {T : TD} {Dm : Nat → Nat} {M M' : MS} {G : GG} {N : Nat} {f : Nat → Int32}
theorem Mgw.td (hg : Mgw M M') (hT : TdP M T) : TdP M' T := by
  obtain ⟨h1, h2, h3, h4, h5⟩ := hT
  refine ⟨(hg.1 23 (by omega)).trans h1, fun i k hi hk => ?_, fun k p hk h0 hp => ?_, fun k hk => ?_, fun i k hi hk => ?_⟩
  · rw [hg.2 i (by omega)]; exact h2 i k hi hk
  · rw [hg.2 25 (by omega)]; exact h3 k p hk h0 hp
  · rw [hg.2 26 (by omega)]; exact h4 k hk
  · rw [hg.2 i (by omega)]; exact h5 i k hi hk
theorem Mgw.tv (hg : Mgw M M') (hV : TpV M t) : TpV M' t := ⟨(hg.1 1 (by omega)).trans hV.1, fun q hq => by rw [hg.2 1 (by omega)]; exact hV.2 q hq⟩
theorem Mgo.w (hg : Mgo M M') : Mgw M M' := ⟨fun j hj => hg.1 j (by omega), hg.2⟩
theorem Mag.w (hg : Mag M M') : Mgw M M' := ⟨fun j hj => hg.1 j (by omega), fun i hi => hg.2 i (by omega)⟩
/-- all pieces of the invariant at once -/
theorem LwI.wr {f1 : Nat → Int64} (hCo : CoI Γ z hx a tp ba g ah A D er t B rn T) (hb : MBd M' 30 40 B) (hT : TdP M' T) (hrn : M'.1 31 = rn) (hV : TpV M' t) (her : M'.1 2 = er) (hdj : ∀ i, mi i = true → ¬ fpC Γ a tp ba g ah A D (Dm i) ∧ Dm i ≠ o) (hno : ¬ fpC Γ a tp ba g ah A D o)
    (hF1 : ∀ q, q ≠ o → h1 q = hx q) (ho : h1 o = some (cOu Γ f1)) (hX : Mx Γ h2 Dm M') (hF2 : FrD h1 h2 Dm) : LwI Γ z h2 a (Dm 0) o :=
  ⟨tp, ba, g, ah, A, D, er, t, B, rn, T, Dm, M', f1, hCo.lw hF1 hF2 hdj hno, rfl, hX, hb, hT, hrn, hV, her, by rw [hF2 o (fun i hi => ((hdj i hi).2).symm)]; exact ho, hdj, hno⟩
/-- the Game has changed -/
theorem CoI.gm (Ha : h a = some (.inr (0, [.ref tp, .int er, .ref g, .ref ah]))) (hTp : TpC Γ h tp ba f t) (hTo : TPo t) (hS : TdS B T) (hR : TdR T) (hG2 : G.2.2 = T.1.1) (hN : N ≤ 402) (hO : ∀ k, k < T.1.1 → OrO Γ z T N (A (200 + k)) k) (hAh : AhI Γ z h ah D) (hd2 : ∀ q, fpG Γ ah D q → ¬ fpG Γ g A q) (hd3 : ∀ q, (q = a ∨ q = tp ∨ q = ba) → ¬ fpG Γ g A q ∧ ¬ fpG Γ ah D q) (ow0 : owE Γ h)
    (hF : FrG g A h h1) (hM' : GmM Γ z h1 g A B' G rn' dn') (hC' : BC B') (hB1 : B'.1 = B.1) : CoI Γ z h1 a tp ba g ah A D er t B' rn' T := by
  have k : ∀ q e, h q = some e → ¬ fpG Γ g A q → h1 q = some e := fun q e hq nf => fr_fp hF nf (ow0 q e hq) hq
  exact ⟨f, G, dn', N, k _ _ Ha (hd3 a (Or.inl rfl)).1, hTp.ext (fun e q => k _ _ q (hd3 tp (Or.inr (Or.inl rfl))).1) (fun e q => k _ _ q (hd3 ba (Or.inr (Or.inr rfl))).1), hTo, hM', hC', hS.c hB1, hR, hG2, hN, hO, hAh.ext (fun q e hq f => k q e hq (hd2 q f)), hd2, hd3⟩
/-- the second Game has changed -/
theorem CoI.ahd (Ha : h a = some (.inr (0, [.ref tp, .int er, .ref g, .ref ah]))) (hTp : TpC Γ h tp ba f t) (hTo : TPo t) (hM : GmM Γ z h g A B G rn dn) (hC : BC B) (hS : TdS B T) (hR : TdR T) (hG2 : G.2.2 = T.1.1) (hN : N ≤ 402) (hO : ∀ k, k < T.1.1 → OrO Γ z T N (A (200 + k)) k) (hd2 : ∀ q, fpG Γ ah D q → ¬ fpG Γ g A q) (hd3 : ∀ q, (q = a ∨ q = tp ∨ q = ba) → ¬ fpG Γ g A q ∧ ¬ fpG Γ ah D q)
    (hA' : AhI Γ z h1 ah D') (hF : ∀ q e, h q = some e → ¬ fpG Γ ah D q → h1 q = some e ∧ ¬ fpG Γ ah D' q) : CoI Γ z h1 a tp ba g ah A D' er t B rn T := by
  have n3 := fun q hq => (hd3 q hq).2
  refine ⟨f, G, dn, N, (hF _ _ Ha (n3 a (Or.inl rfl))).1, hTp.ext (fun e q => (hF _ _ q (n3 tp (Or.inr (Or.inl rfl)))).1) (fun e q => (hF _ _ q (n3 ba (Or.inr (Or.inr rfl)))).1), hTo, hM.ext (fun q e hq f => (hF q e hq (fun f2 => hd2 q f2 f)).1), hC, hS, hR, hG2, hN, hO, hA', fun q f1 f2 => ?_, fun q hq => ⟨(hd3 q hq).1, ?_⟩⟩
  · obtain ⟨e, he⟩ := fp_ex hM f2
    exact (hF q e he (fun f3 => hd2 q f3 f2)).2 f1
  · rcases hq with rfl | rfl | rfl
    · exact (hF _ _ Ha (n3 _ (Or.inl rfl))).2
    · exact (hF _ _ hTp.1 (n3 _ (Or.inr (Or.inl rfl)))).2
    · exact (hF _ _ hTp.2.1 (n3 _ (Or.inr (Or.inr rfl)))).2
theorem fpC_ah {q : Nat} (hN : ∀ q, fpG Γ ah D' q → fpG Γ ah D q ∨ h q = none) (f : fpC Γ a tp ba g ah A D' q) : fpC Γ a tp ba g ah A D q ∨ h q = none := by
  rcases f with f | f | f | f | f
  · exact Or.inl (Or.inl f)
  · exact Or.inl (Or.inr (Or.inl f))
  · exact Or.inl (Or.inr (Or.inr (Or.inl f)))
  · exact Or.inl (Or.inr (Or.inr (Or.inr (Or.inl f))))
  · exact (hN q f).imp (fun f => Or.inr (Or.inr (Or.inr (Or.inr f)))) id
/-- the tape has changed -/
theorem CoI.tap {t' : TP} {f' : Nat → Int32} (hCo : CoI Γ z h a tp ba g ah A D er t B rn T) (hT' : TpC Γ h1 tp ba f' t') (hTo' : TPo t') (hF : ∀ q, q ≠ tp → q ≠ ba → q ≠ o → h1 q = h q) (hno : ¬ fpC Γ a tp ba g ah A D o) (nat : a ≠ tp) (nab : a ≠ ba) : CoI Γ z h1 a tp ba g ah A D er t' B rn T := by
  obtain ⟨f, G, dn, N, h1', h2, h3, h4, h5, h6, h7, h8, h9, h10, h11, h12, h13⟩ := hCo
  have nt := h13 tp (Or.inr (Or.inl rfl))
  have nb := h13 ba (Or.inr (Or.inr rfl))
  have k1 : ∀ q, fpG Γ g A q → h1 q = h q := fun q f => hF q (fun e => nt.1 (e ▸ f)) (fun e => nb.1 (e ▸ f)) (fun e => hno (e ▸ Or.inr (Or.inr (Or.inr (Or.inl f)))))
  have k2 : ∀ q, fpG Γ ah D q → h1 q = h q := fun q f => hF q (fun e => nt.2 (e ▸ f)) (fun e => nb.2 (e ▸ f)) (fun e => hno (e ▸ Or.inr (Or.inr (Or.inr (Or.inr f)))))
  exact ⟨f', G, dn, N, by rw [hF a nat nab (fun e => hno (e ▸ Or.inl rfl))]; exact h1', hT', hTo', h4.ext (fun q e hq f => (k1 q f).trans hq), h5, h6, h7, h8, h9, h10, h11.ext (fun q e hq f => (k2 q f).trans hq), h12, h13⟩
/-- what a way by hand does to the board -/
def UpO (q : (Int32 × Nat) × GB) (B : GB) : Prop := BC q.2 ∧ q.2.1 = B.1 ∧ (q.1.2 = 0 → (∃ k, k < Bt B) ∧ q.2.2.1 = B.2.1) ∧ (q.1.2 ≠ 0 → q.2 = B)
theorem up_gm {q : (Int32 × Nat) × GB} (hM : GmM Γ z h g A B G rn dn) (hq : UpO q B) : GmM Γ z (if q.1.2 = 0 then gmH Γ h A G q.2 else h) g A q.2 G rn dn ∧ FrG g A h (if q.1.2 = 0 then gmH Γ h A G q.2 else h) := by
  by_cases e : q.1.2 = 0
  · rw [if_pos e]
    obtain ⟨⟨k, hk⟩, h2⟩ := hq.2.2.1 e
    exact ⟨hM.st hk hq.2.1 h2, FrG.gm⟩
  · rw [if_neg e, hq.2.2.2 e]
    exact ⟨hM, FrG.rf⟩
theorem ixO_lt {v : Int32} {n k : Nat} (hn : n < 2 ^ 31) (h : ixO v n = some k) : k < n := by
  unfold ixO at h
  split at h
  · rename_i hq
    obtain ⟨c, hc, e, h2⟩ := ixB_t hn hq
    cases h
    rw [e, nI_clamp (by omega)]; exact hc
  · cases h
theorem uPut_ok (hC : BC B) (x1 x2 x3 : Int32) : UpO (uPut B x1 x2 x3) B := by
  have hb := hC.1.2.1
  have hzz := BO.z hC.1
  unfold uPut
  cases q1 : ixO x1 (Bt B) with
  | none => exact ⟨hC, rfl, fun e => (by cases e), fun _ => rfl⟩
  | some k =>
    cases q2 : ixO x2 (Bz B) with
    | none => exact ⟨hC, rfl, fun e => (by cases e), fun _ => rfl⟩
    | some c =>
      cases q3 : ixO x3 6 with
      | none => exact ⟨hC, rfl, fun e => (by cases e), fun _ => rfl⟩
      | some u =>
        cases q4 : ftN B k c u with
        | false => simp only [q4]; exact ⟨hC, rfl, fun e => (by cases e), fun _ => rfl⟩
        | true =>
          simp only [q4]
          obtain ⟨d1, d2⟩ := ftN_d q4
          have l1 := ixO_lt (by omega) q1
          exact ⟨BC_put hC l1 (ixO_lt (by omega) q2) (ixO_lt (by decide) q3) d1 d2, rfl, fun _ => ⟨⟨k, l1⟩, rfl⟩, fun e => absurd rfl e⟩
theorem uTak_ok (hC : BC B) (x1 : Int32) : UpO (uTak B x1) B := by
  have hb := hC.1.2.1
  unfold uTak
  cases q1 : ixO x1 (Bt B) with
  | none => exact ⟨hC, rfl, fun e => (by cases e), fun _ => rfl⟩
  | some k =>
    cases q2 : Bp B k with
    | none => simp only [q2]; exact ⟨hC, rfl, fun e => (by cases e), fun _ => rfl⟩
    | some y =>
      simp only [q2]
      exact ⟨BC_tak hC q2, rfl, fun _ => ⟨⟨k, ixO_lt (by omega) q1⟩, rfl⟩, fun e => absurd rfl e⟩
theorem uFit_ok (hC : BC B) (x1 : Int32) : UpO (uFit B x1) B := by
  have hb := hC.1.2.1
  have hzz := BO.z hC.1
  unfold uFit
  cases q1 : ixO x1 (Bt B) with
  | none => exact ⟨hC, rfl, fun e => (by cases e), fun _ => rfl⟩
  | some k =>
    cases q2 : fwN B k with
    | none => simp only [q2]; exact ⟨hC, rfl, fun e => (by cases e), fun _ => rfl⟩
    | some y =>
      simp only [q2]
      obtain ⟨d1, d2⟩ := ftN_d (show ftN B k (y / 6) (y % 6) = true from (ff_lt _ _ _ q2).2)
      have d3 := (ff_lt _ _ _ q2).1
      have l1 := ixO_lt (by omega) q1
      exact ⟨BC_put hC l1 (by omega) (by omega) d1 d2, rfl, fun _ => ⟨⟨k, l1⟩, rfl⟩, fun e => absurd rfl e⟩
theorem uPla_ok (hC : BC B) (hS : TdS B T) (x1 : Int32) : BC (uPla T B rn x1).2.1 ∧ (uPla T B rn x1).2.1.1 = B.1 := by
  unfold uPla
  cases frB x1 with
  | false => exact ⟨hC, rfl⟩
  | true => exact ⟨(plN_ok hC hS _).1, (plN_ok hC hS _).2.1⟩
theorem Mfc.w {t' : TP} (hg : Mfc M M') (hb : MBd M 30 40 B) (hT : TdP M T) : MBd M' 30 40 B ∧ TdP M' T ∧ M'.1 31 = M.1 31 ∧ M'.1 2 = M.1 2 := by
  obtain ⟨g1, g2, g3⟩ := hg
  have ga : Mag (upd M.1 1 (M'.1 1), va_up M.2.1 1 (M'.2.1 1), M.2.2) M' := ⟨fun j hj => by
      by_cases e : j = 1
      · subst e; show _ = upd M.1 1 (M'.1 1) 1; rw [upd_eq]
      · show _ = upd M.1 1 (M'.1 1) j
        rw [upd_ne e]; exact g1 j (by omega), fun i hi => by
      by_cases e : i = 1
      · subst e; show _ = va_up M.2.1 1 (M'.2.1 1) 1; rw [va_eq]
      · show _ = va_up M.2.1 1 (M'.2.1 1) i
        rw [va_ne e]; exact g2 i e⟩
  have hb1 : MBd (upd M.1 1 (M'.1 1), va_up M.2.1 1 (M'.2.1 1), M.2.2) 30 40 B := hb
  have hT1 : TdP (upd M.1 1 (M'.1 1), va_up M.2.1 1 (M'.2.1 1), M.2.2) T := by
    obtain ⟨t1, t2, t3, t4, t5⟩ := hT
    refine ⟨t1, fun i k hi hk => ?_, t3, t4, fun i k hi hk => ?_⟩
    · show va_up M.2.1 1 (M'.2.1 1) i k = _
      rw [va_ne (by omega)]; exact t2 i k hi hk
    · show va_up M.2.1 1 (M'.2.1 1) i k = _
      rw [va_ne (by omega)]; exact t5 i k hi hk
  exact ⟨ga.b hb1, ga.td hT1, g1 31 (by omega), g1 2 (by omega)⟩
end PB29
