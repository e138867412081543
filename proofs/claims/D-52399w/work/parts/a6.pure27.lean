/-! ===== what holds of the Component, between two calls of the law ===== -/
section PB27
set_option maxRecDepth 100000
/-- the Component's own cells -/
def fpC (Γ : Gm) (a tp ba g ah : Nat) (A D : Nat → Nat) (q : Nat) : Prop := q = a ∨ q = tp ∨ q = ba ∨ fpG Γ g A q ∨ fpG Γ ah D q
def CoI (Γ : Gm) (z : ZR) (h : AH) (a tp ba g ah : Nat) (A D : Nat → Nat) (er : Int32) (t : TP) (B : GB) (rn : Int32) (T : TD) : Prop :=
  ∃ (f : Nat → Int32) (G : GG) (dn : Int32) (N : Nat), h a = some (.inr (0, [.ref tp, .int er, .ref g, .ref ah])) ∧ TpC Γ h tp ba f t ∧ TPo t ∧ GmM Γ z h g A B G rn dn ∧ BC B ∧ TdS B T ∧ TdR T ∧ G.2.2 = T.1.1 ∧ N ≤ 402 ∧ (∀ k, k < T.1.1 → OrO Γ z T N (A (200 + k)) k) ∧ AhI Γ z h ah D ∧ (∀ q, fpG Γ ah D q → ¬ fpG Γ g A q) ∧ ∀ q, (q = a ∨ q = tp ∨ q = ba) → ¬ fpG Γ g A q ∧ ¬ fpG Γ ah D q
variable {Γ : Gm} {z : ZR} {h h' : AH} {a tp ba g ah : Nat} {A D : Nat → Nat} {er : Int32} {t : TP} {B : GB} {rn : Int32} {T : TD}
theorem AhI.ext (hA : AhI Γ z h ah D) (he : ∀ q e, h q = some e → fpG Γ ah D q → h' q = some e) : AhI Γ z h' ah D := by
  obtain ⟨B2, G2, r2, d2, h1, h2⟩ := hA
  exact ⟨B2, G2, r2, d2, h1.ext he, h2⟩
theorem TpC.ext {f : Nat → Int32} (hT : TpC Γ h tp ba f t) (h1 : ∀ e, h tp = some e → h' tp = some e) (h2 : ∀ e, h ba = some e → h' ba = some e) : TpC Γ h' tp ba f t := ⟨h1 _ hT.1, h2 _ hT.2.1, hT.2.2⟩
theorem CoI.ext (hC : CoI Γ z h a tp ba g ah A D er t B rn T) (he : ∀ q e, h q = some e → fpC Γ a tp ba g ah A D q → h' q = some e) : CoI Γ z h' a tp ba g ah A D er t B rn T := by
  obtain ⟨f, G, dn, N, h1, h2, h3, h4, h5, h6, h7, h8, h9, h10, h11, h12⟩ := hC
  exact ⟨f, G, dn, N, he _ _ h1 (Or.inl rfl), h2.ext (fun e q => he _ _ q (Or.inr (Or.inl rfl))) (fun e q => he _ _ q (Or.inr (Or.inr (Or.inl rfl)))), h3, h4.ext (fun q e hq f => he q e hq (Or.inr (Or.inr (Or.inr (Or.inl f))))), h5, h6, h7, h8, h9, h10, h11.ext (fun q e hq f => he q e hq (Or.inr (Or.inr (Or.inr (Or.inr f))))), h12⟩
/-- the law's invariant: both have been told the same, lie the same -/
def LwI (Γ : Gm) (z : ZR) (h : AH) (a m o : Nat) : Prop := ∃ (tp ba g ah : Nat) (A D : Nat → Nat) (er : Int32) (t : TP) (B : GB) (rn : Int32) (T : TD) (Dm : Nat → Nat) (M : MS) (f : Nat → Int64),
  CoI Γ z h a tp ba g ah A D er t B rn T ∧ Dm 0 = m ∧ Mx Γ h Dm M ∧ MBd M 30 40 B ∧ TdP M T ∧ M.1 31 = rn ∧ TpV M t ∧ M.1 2 = er ∧ h o = some (cOu Γ f) ∧ (∀ i, mi i = true → ¬ fpC Γ a tp ba g ah A D (Dm i) ∧ Dm i ≠ o) ∧ ¬ fpC Γ a tp ba g ah A D o
def t00 : TP := (fun _ => 0, 0)
theorem bd0_C : BC bd0 := by
  refine ⟨⟨⟨by decide, by decide⟩, by decide, fun x => Nat.le_refl _, fun k hk => absurd hk (Nat.not_lt_zero k), fun k y q => (by cases q), fun k hk => absurd hk (Nat.not_lt_zero k)⟩, fun k hk => absurd hk (Nat.not_lt_zero k), fun x k q => (by cases q), fun k x q => (by cases q)⟩
theorem td0_S : TdS bd0 td0 := ⟨by decide, by decide, fun k hk => absurd hk (Nat.not_lt_zero k)⟩
theorem td0_R : TdR td0 := fun k hk => absurd hk (Nat.not_lt_zero k)
theorem t00_o : TPo t00 := ⟨by decide, fun a ha => absurd ha (Nat.not_lt_zero a)⟩
end PB27
