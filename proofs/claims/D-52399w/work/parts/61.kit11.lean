section W12
set_option maxRecDepth 100000
variable {X : XT} {P : Oc → ZR → AH → Prop} {z : ZR} {h : AH} {kc ns pc nL d : Nat} {lv : List (Nat × Value)} {st : List Value} {cc : ByteArray} {own mn : String} {ret : Option FieldType} {hh : List (Nat × Nat × Nat × Nat)}
/-- a cell under another, equal, picture -/
theorem ww_ext {a : Nat} {e0 e : va_E} (ha : h a = some e0) (hv : ∀ H, va_at (gD (xG X)) clX (a, e0) H → va_at (gD (xG X)) clX (a, e) H) (k : WW X P z (up h a e) kc ns pc lv st) : WW X P z h kc ns pc lv st := by
  intro a1 a2 H ls locs hI hl
  have hI1 := hI.sto (i := 0) (H1 := H) ha (hv H (hI.1.2.2.2 a _ ha).1) rfl (fun _ _ => rfl)
  exact k a1 a2 H ls locs ⟨hI1.1, hI1.2.1, hI.2.2⟩ hl
theorem cell_ext {cA : ClassId} {n : Nat} {f g : Nat → Int32} (he : ∀ i, i < n → f i = g i) : vp_cell cA (n, .inl f) = vp_cell cA (n, .inl g) := by
  rw [vp_cell_el, vp_cell_el]
  unfold arrV
  congr 1
  apply Array.ext
  · simp
  · intro i h1 h2
    have hi : i < n := by simpa using h1
    simp [vp_el, he i hi]
theorem ww_extI {a n t : Nat} {f g : Nat → Int32} (ha : h a = some (.inl (gA (xG X) t, (n, .inl f)))) (he : ∀ i, i < n → f i = g i) (k : WW X P z (up h a (.inl (gA (xG X) t, (n, .inl g)))) kc ns pc lv st) : WW X P z h kc ns pc lv st :=
  ww_ext ha (fun H q => by
    have q : H[a]? = some (vp_cell (gA (xG X) t) (n, .inl f)) := q
    show H[a]? = some (vp_cell (gA (xG X) t) (n, .inl g))
    rw [q, cell_ext he]) k
end W12
