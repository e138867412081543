/-! ===== the law's script; the law's invariant behind a step ===== -/
section KIT17
set_option maxRecDepth 100000
variable {X : XT} {P : Oc → ZR → AH → Prop} {z : ZR} {h : AH} {kc ns pc nL d : Nat} {lv : List (Nat × Value)} {st : List Value} {cc : ByteArray} {own mn : String} {ret : Option FieldType} {hh : List (Nat × Nat × Nat × Nat)}
theorem Inv.vS {H : Heap} {locs : List Loc} (hI : Inv X z h H locs) : va_S (fun q => gN (xG X) ≤ q) (gS (xG X)).heap H locs := ⟨hI.1.1, fun q hq _ => hI.1.2.1 q hq, hI.2.2⟩
theorem ww_sld (C : Cx X cc nL own mn ret hh d) {b L j : Nat} {xs : Nat → Int32} (hs : va_X b L xs (gS (xG X)) (gS (xG X)).heap) (hb : b < gN (xG X)) (hj : j < L) (hL : L < 2 ^ 31) (hd : decode cc pc = .ok (.iaload, 1)) (k : WW X P z h kc ns (pc + 1) lv (.int (xs j) :: st)) : WW X P z h kc ns pc lv (.int (nI j) :: .ref b :: st) := by
  intro a1 a2 H ls locs hI hl
  refine va_sld (A := fun q => gN (xG X) ≤ q) (H0 := (gS (xG X)).heap) C.1 C.2.1 (va_X.moved C.2.2.2.2.2.2.2.1.alike hs) hb (Nat.not_le.mpr hb) hI.vS (nI_in hj hL) hd ?_
  rw [nI_clamp (by omega)]
  exact k a1 a2 H ls locs hI hl
theorem ww_slen (C : Cx X cc nL own mn ret hh d) {b L : Nat} {xs : Nat → Int32} (hs : va_X b L xs (gS (xG X)) (gS (xG X)).heap) (hb : b < gN (xG X)) (hd : decode cc pc = .ok (.arraylength, 1)) (k : WW X P z h kc ns (pc + 1) lv (.int (nI L) :: st)) : WW X P z h kc ns pc lv (.ref b :: st) := by
  intro a1 a2 H ls locs hI hl
  exact va_slen (A := fun q => gN (xG X) ≤ q) (H0 := (gS (xG X)).heap) C.1 C.2.1 (va_X.moved C.2.2.2.2.2.2.2.1.alike hs) hb (Nat.not_le.mpr hb) hI.vS hd (k a1 a2 H ls locs hI hl)
theorem cmp_s (x : Int64) : lg_cmp x x = 0 := by
  unfold lg_cmp
  simp
end KIT17
section PB28
set_option maxRecDepth 100000
variable {Γ : Gm} {z : ZR} {h h1 h2 : AH} {a tp ba g ah o : Nat} {A D : Nat → Nat} {er : Int32} {t : TP} {B : GB} {rn : Int32} {T : TD} {Dm : Nat → Nat} {M M' : MS}
theorem Mag.td (hg : Mag M M') (hT : TdP M T) : TdP M' T := by
  obtain ⟨h1, h2, h3, h4, h5⟩ := hT
  refine ⟨(hg.1 23 (by omega)).trans h1, fun i k hi hk => ?_, fun k p hk h0 hp => ?_, fun k hk => ?_, fun i k hi hk => ?_⟩
  · rw [hg.2 i (by omega)]; exact h2 i k hi hk
  · rw [hg.2 25 (by omega)]; exact h3 k p hk h0 hp
  · rw [hg.2 26 (by omega)]; exact h4 k hk
  · rw [hg.2 i (by omega)]; exact h5 i k hi hk
theorem Mag.tv (hg : Mag M M') (hV : TpV M t) : TpV M' t := ⟨(hg.1 1 (by omega)).trans hV.1, fun q hq => by rw [hg.2 1 (by omega)]; exact hV.2 q hq⟩
/-- nothing but the law's row and the model's cells has changed -/
theorem CoI.lw (hC : CoI Γ z h a tp ba g ah A D er t B rn T) (hF1 : ∀ q, q ≠ o → h1 q = h q) (hF2 : FrD h1 h2 Dm) (hdj : ∀ i, mi i = true → ¬ fpC Γ a tp ba g ah A D (Dm i) ∧ Dm i ≠ o) (hno : ¬ fpC Γ a tp ba g ah A D o) : CoI Γ z h2 a tp ba g ah A D er t B rn T :=
  hC.ext (fun q e hq f => by
    rw [hF2 q (fun i hi e9 => (hdj i hi).1 (e9 ▸ f)), hF1 q (fun e9 => hno (e9 ▸ f))]
    exact hq)
theorem LwI.rd {f1 : Nat → Int64} (hCo : CoI Γ z h a tp ba g ah A D er t B rn T) (hb : MBd M 30 40 B) (hT : TdP M T) (hrn : M.1 31 = rn) (hV : TpV M t) (her : M.1 2 = er) (hdj : ∀ i, mi i = true → ¬ fpC Γ a tp ba g ah A D (Dm i) ∧ Dm i ≠ o) (hno : ¬ fpC Γ a tp ba g ah A D o)
    (hF1 : ∀ q, q ≠ o → h1 q = h q) (ho : h1 o = some (cOu Γ f1)) (hg : Mag M M') (hX : Mx Γ h2 Dm M') (hF2 : FrD h1 h2 Dm) : LwI Γ z h2 a (Dm 0) o :=
  ⟨tp, ba, g, ah, A, D, er, t, B, rn, T, Dm, M', f1, hCo.lw hF1 hF2 hdj hno, rfl, hX, hg.b hb, hg.td hT, (hg.1 31 (by omega)).trans hrn, hg.tv hV, (hg.1 2 (by omega)).trans her, by rw [hF2 o (fun i hi => ((hdj i hi).2).symm)]; exact ho, hdj, hno⟩
end PB28
