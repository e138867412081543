/-! ===== heaps: forgetting, growing, facts that stay ===== -/
section W10
set_option maxRecDepth 100000
variable {X : XT} {P : Oc → ZR → AH → Prop} {z : ZR} {h : AH} {kc ns pc nL d : Nat} {lv : List (Nat × Value)} {st : List Value} {cc : ByteArray} {own mn : String} {ret : Option FieldType} {hh : List (Nat × Nat × Nat × Nat)}
abbrev hle (h h' : AH) : Prop := ∀ a e, h a = some e → h' a = some e
theorem Inv.lessH {X : XT} {z : ZR} {h h' : AH} {H : Heap} {locs : List Loc} (hI : Inv X z h H locs) (hs : hle h' h) : Inv X z h' H locs := by
  refine ⟨⟨hI.1.1, hI.1.2.1, hI.1.2.2.1, fun a e q => hI.1.2.2.2 a e (hs a e q)⟩, ⟨hI.2.1.1, hI.2.1.2.1, fun a q => ?_, hI.2.1.2.2.2⟩, hI.2.2⟩
  cases hc : h' a with
  | none => exact absurd hc q
  | some e => exact hI.2.1.2.2.1 a (by rw [hs a e hc]; simp)
/-- cells may be forgotten -/
theorem ww_hs {h' : AH} (hs : hle h' h) (k : WW X P z h' kc ns pc lv st) : WW X P z h kc ns pc lv st :=
  fun a1 a2 H ls locs hI hl => k a1 a2 H ls locs (hI.lessH hs) hl
theorem ww_z0 (k : zle (xz X) z → WW X P z h kc ns pc lv st) : WW X P z h kc ns pc lv st :=
  fun a1 a2 H ls locs hI hl => k hI.2.1.2.2.2 a1 a2 H ls locs hI hl
/-- facts may be forgotten -/
theorem ww_zs {z' : ZR} (h1 : zle (xz X) z') (h2 : zle z' z) (k : WW X P z' h kc ns pc lv st) : WW X P z h kc ns pc lv st :=
  fun a1 a2 H ls locs hI hl => k a1 a2 H ls locs ⟨⟨hI.1.1, hI.1.2.1, fun a e q => hI.1.2.2.1 a e (h2 a e q), fun a e q => ⟨(hI.1.2.2.2 a e q).1, (hI.1.2.2.2 a e q).2.1, fun e' q' => (hI.1.2.2.2 a e q).2.2 e' (h2 a e' q')⟩⟩, ⟨hI.2.1.1, hI.2.1.2.1, hI.2.1.2.2.1, h1⟩, hI.2.2⟩ hl
/-- what is owned has no fact that stays, and is no cell of the start -/
theorem ww_own {a : Nat} {e : va_E} (ha : h a = some e) (k : gN (xG X) ≤ a → (∀ e', ¬ z a e') → WW X P z h kc ns pc lv st) : WW X P z h kc ns pc lv st :=
  fun a1 a2 H ls locs hI hl => k (hI.1.2.2.2 a e ha).2.1 (hI.1.2.2.2 a e ha).2.2 a1 a2 H ls locs hI hl
theorem hle.rf {h : AH} : hle h h := fun _ _ q => q
theorem hle.tr {h h1 h2 : AH} (a : hle h h1) (b : hle h1 h2) : hle h h2 := fun x e q => b x e (a x e q)
theorem up_hle {h : AH} {a : Nat} {e : va_E} (ha : h a = none) : hle h (up h a e) := fun x e' q => by
  rw [up_n (ne_nw q ha)]; exact q
theorem del_up {h : AH} {a : Nat} {e : va_E} (ha : h a = none) : del (up h a e) a = h := by
  funext q
  by_cases hq : q = a
  · simp [del, up, hq, ha]
  · simp [del, up, hq]
theorem zad_le {z : ZR} {a : Nat} {e : va_E} : zle z (zad z a e) := fun _ _ q => Or.inl q
theorem zad_s {z : ZR} {a : Nat} {e : va_E} : zad z a e a e := Or.inr ⟨rfl, rfl⟩
theorem zle.rf {z : ZR} : zle z z := fun _ _ q => q
theorem zle.tr {z z1 z2 : ZR} (a : zle z z1) (b : zle z1 z2) : zle z z2 := fun x e q => b x e (a x e q)
theorem rd.mono {z z' : ZR} {h h' : AH} {a : Nat} {e : va_E} (hr : rd z h a e) (hz : zle z z') (hh : hle h h') : rd z' h' a e := hr.elim (fun q => Or.inl (hh _ _ q)) (fun q => Or.inr (hz _ _ q))
theorem ALp.mono {Γ : Gm} {z z' : ZR} {h h' : AH} {a arr n : Nat} {xs : Nat → Nat} (hL : ALp Γ z h a arr n xs) (hz : zle z z') (hh : hle h h') : ALp Γ z' h' a arr n xs := by
  obtain ⟨m, c, f, h1, h2, h3⟩ := hL
  exact ⟨m, c, f, rd.mono h1 hz hh, rd.mono h2 hz hh, h3⟩
theorem TilP.mono {Γ : Gm} {z z' : ZR} {a : Nat} {num : Nat → Nat} (hT : TilP Γ z a num) (hz : zle z z') : TilP Γ z' a num := by
  obtain ⟨b, h1, h2⟩ := hT
  exact ⟨b, hz _ _ h1, hz _ _ h2⟩
theorem GmP.mono {Γ : Gm} {z z' : ZR} {h h' : AH} {g : Nat} {A : Nat → Nat} {B : GB} {rn dn : Int32} (hG : GmP Γ z h g A B rn dn) (hz : zle z z') (hh : hle h h') : GmP Γ z' h' g A B rn dn := by
  obtain ⟨h1, h2, h3, h4, h5, h6⟩ := hG
  exact ⟨rd.mono h1 hz hh, rd.mono h2 hz hh, h3.mono hz hh, fun k hk => (h4 k hk).mono hz, h5.mono hz hh, h6.mono hz hh⟩
/-- a fresh cell, frozen at once -/
theorem ww_frzN {h0 : AH} {a : Nat} {e : va_E} (ha : h0 a = none) (hE : h = up h0 a e) (k : WW X P (zad z a e) h0 kc ns pc lv st) : WW X P z h kc ns pc lv st := by
  subst hE
  refine ww_frz up_s ?_
  rw [del_up ha]
  exact k
/-- a list's row: n things, and nothing behind them -/
def lf (n : Nat) (xs : Nat → Nat) : Nat → Option Nat := fun i => if i < n then some (xs i) else none
theorem lf_lt {n i : Nat} {xs : Nat → Nat} (hi : i < n) : lf n xs i = some (xs i) := by simp [lf, hi]
theorem lf_ge {n i : Nat} {xs : Nat → Nat} (hi : n ≤ i) : lf n xs i = none := by simp [lf, Nat.not_lt.mpr hi]
theorem lf_0 {xs : Nat → Nat} : lf 0 xs = fun _ => none := by funext i; simp [lf]
theorem lf_set {n k v : Nat} {xs : Nat → Nat} (hk : k < n) : va_up (lf n xs) k (some v) = lf n (va_up xs k v) := by
  funext i
  by_cases hi : i = k
  · subst hi; simp [va_up, lf, hk]
  · simp [va_up, lf, hi]
theorem lf_add {n v : Nat} {xs : Nat → Nat} : va_up (lf n xs) n (some v) = lf (n + 1) (va_up xs n v) := by
  funext i
  by_cases hi : i = n
  · subst hi; simp [va_up, lf]
  · simp only [va_up, lf, if_neg hi]
    by_cases h2 : i < n
    · rw [if_pos h2, if_pos (by omega)]
    · rw [if_neg h2, if_neg (by omega)]
theorem lf_ext {n : Nat} {xs ys : Nat → Nat} (he : ∀ i, i < n → xs i = ys i) : lf n xs = lf n ys := by
  funext i
  by_cases hi : i < n
  · simp [lf, hi, he i hi]
  · simp [lf, hi]
/-- the cells of an ArrayList that may be written -/
def cAL (md : Int32) (arr n : Nat) : va_E := .inr (23, [.int md, .ref arr, .int (nI n)])
def cAr (Γ : Gm) (cap : Nat) (f : Nat → Option Nat) : va_E := .inl (gA Γ 4, (cap, refs f))
def ALm (Γ : Gm) (h : AH) (a arr n : Nat) (md : Int32) (cap : Nat) (xs : Nat → Nat) : Prop := h a = some (cAL md arr n) ∧ ((h arr = some (cAr Γ cap (lf n xs)) ∧ arr ≠ gE Γ 0) ∨ (cap = 0 ∧ arr = gE Γ 0)) ∧ n ≤ cap ∧ cap < 2 ^ 20
theorem cst_e0 {Γ : Gm} {z : ZR} (hz : zle (cst Γ) z) : z (gE Γ 0) (cAr Γ 0 (fun _ => none)) := hz _ _ (Or.inr (Or.inr (Or.inr (Or.inr (Or.inl ⟨rfl, rfl⟩)))))
theorem ALm.r {Γ : Gm} {z : ZR} {h : AH} {a arr n : Nat} {md : Int32} {cap : Nat} {xs : Nat → Nat} (hz : zle (cst Γ) z) (hL : ALm Γ h a arr n md cap xs) : rd z h arr (cAr Γ cap (lf n xs)) := by
  obtain ⟨h1, h2, h3, h4⟩ := hL
  rcases h2 with ⟨q, -⟩ | ⟨q1, q2⟩
  · exact Or.inl q
  · subst q1; subst q2
    have : n = 0 := by omega
    subst this
    rw [lf_0]
    exact Or.inr (cst_e0 hz)
theorem ALm.p {Γ : Gm} {z : ZR} {h : AH} {a arr n : Nat} {md : Int32} {cap : Nat} {xs : Nat → Nat} (hz : zle (cst Γ) z) (hL : ALm Γ h a arr n md cap xs) : ALp Γ z h a arr n xs :=
  ⟨md, cap, lf n xs, Or.inl hL.1, hL.r hz, hL.2.2.1, Nat.lt_trans hL.2.2.2 (by decide), fun _ hi => lf_lt hi⟩
theorem ALm.ow {Γ : Gm} {h : AH} {a arr n k : Nat} {md : Int32} {cap : Nat} {xs : Nat → Nat} (hL : ALm Γ h a arr n md cap xs) (hk : k < n) : h arr = some (cAr Γ cap (lf n xs)) ∧ arr ≠ gE Γ 0 := by
  obtain ⟨h1, h2, h3, h4⟩ := hL
  rcases h2 with q | ⟨q1, q2⟩
  · exact q
  · omega
/-- a Game's cells that may be written. G: of its lists (tiles, orders, cells, turns) modCount and room; no: orders -/
abbrev GG : Type := (Nat → Int32) × (Nat → Nat) × Nat
def cGm (A : Nat → Nat) (B : GB) (rn dn : Int32) : va_E := .inr (2, [.int (nI (Bc B)), .int (nI (Br B)), .ref (A 0), .ref (A 2), .int rn, .int dn, .ref (A 4), .ref (A 5), .ref (A 7)])
def cLi (Γ : Gm) (B : GB) : va_E := .inl (gA Γ 0, (49, .inl (fun x => nI (Bl B x))))
def GmM (Γ : Gm) (z : ZR) (h : AH) (g : Nat) (A : Nat → Nat) (B : GB) (G : GG) (rn dn : Int32) : Prop :=
  h g = some (cGm A B rn dn) ∧ h (A 4) = some (cLi Γ B) ∧ ALm Γ h (A 0) (A 1) (Bt B) (G.1 0) (G.2.1 0) (fun k => A (100 + k)) ∧ (∀ k, k < Bt B → TilP Γ z (A (100 + k)) (Bn B k)) ∧
  ALm Γ h (A 2) (A 3) G.2.2 (G.1 1) (G.2.1 1) (fun k => A (200 + k)) ∧ ALm Γ h (A 5) (A 6) (Bt B) (G.1 2) (G.2.1 2) (fun k => bxA Γ (oI (Bp B k))) ∧ ALm Γ h (A 7) (A 8) (Bt B) (G.1 3) (G.2.1 3) (fun k => bxA Γ (nI (Bu B k))) ∧
  ∀ i j, i < 9 → j < 9 → A i = A j → i = j ∨ A i = gE Γ 0
theorem GmM.p {Γ : Gm} {z : ZR} {h : AH} {g : Nat} {A : Nat → Nat} {B : GB} {G : GG} {rn dn : Int32} (hz : zle (cst Γ) z) (hG : GmM Γ z h g A B G rn dn) : GmP Γ z h g A B rn dn := by
  obtain ⟨h1, h2, h3, h4, h5, h6, h7, -⟩ := hG
  exact ⟨Or.inl h1, Or.inl h2, h3.p hz, h4, h6.p hz, h7.p hz⟩
end W10
