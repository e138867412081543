/-! ===== clone of a row of bytes ===== -/
section KIT19
set_option maxRecDepth 100000
variable {X : XT} {P : Oc → ZR → AH → Prop} {z : ZR} {h : AH} {kc ns pc nL d : Nat} {lv : List (Nat × Value)} {st : List Value} {cc : ByteArray} {own mn : String} {ret : Option FieldType} {hh : List (Nat × Nat × Nat × Nat)}
theorem ww_clone (C : Cx X cc nL own mn ret hh d) {index a n : Nat} {f : Nat → Int32} (hlink : Cond.methodLink own index ⟨"[B", "clone", "()Ljava/lang/Object;"⟩ ∈ lw_all) (hd : decode cc pc = .ok (.invokevirtual index, 3)) (ha : h a = some (.inl (gA (xG X) 1, (n, .inl f)))) (hfit : ∀ i, i < n → fits .byte (.int (f i)) = true) (hd1 : 1 ≤ d) (hst : (st.map fun v => v.category).sum ≤ 8) (hk : 1 ≤ kc) (hns : n ≤ ns)
    (k : ∀ b : Nat, h b = none → (∀ e, ¬ z b e) → gN (xG X) ≤ b → WW X P z (up h b (.inl (gA (xG X) 1, (n, .inl f)))) (kc - 1) (ns - n) (pc + 3) lv (.ref b :: st)) : WW X P z h kc ns pc lv (.ref a :: st) := by
  intro a1 a2 H ls locs hI hl
  have hc : H[a]? = some (vp_cell (gA (xG X) 1) (n, .inl f)) := (hI.1.2.2.2 a _ ha).1
  obtain ⟨a9, -, -, hAr, hRA, -⟩ := C.2.2.2.2.2.2.2.2.1
  have hAr : ArrOfT (xs X) (gA (xG X) 1) .byte := arrOfT_moved C.2.2.2.2.2.2.2.1.alike (hAr 1 (by decide))
  have hRA : (xs X).vm.findClass "[B" = some (gA (xG X) 1) := va_RA.moved C.2.2.2.2.2.2.2.1.alike (hRA 1 (by decide))
  have hf : (xR X).frames = d := C.2.2.2.2.2.2.2.2.2.2.2.2.1
  have hlo : (xR X).locals = 48 * d := C.2.2.2.2.2.2.2.2.2.2.2.2.2
  have hcl : va_Nw (.castable "[B" "java/lang/Cloneable") (xs X) := va_Nw.warmC C.2.2.2.2.2.2.2.1 (Cx.N C q422 rfl)
  obtain ⟨c0, t0, f1, f2, f3⟩ := Cond.castable_spec (va_Nw.use (A := xa X) rfl hcl)
  cases hRA.symm.trans f1
  have hfit9 : ∀ (i : Nat) (v : Value), (vp_cell (gA (xG X) 1) (n, .inl f)).slots[i]? = some v → fits .byte v = true := fun i v hv => va_fit (F := fun j => .int (f j)) (fun i hi => hfit i hi) i v hv
  intro T hT S
  have hcT : T.heap[a]? = some (vp_cell (gA (xG X) 1) (n, .inl f)) := by rw [hT]; exact hc
  obtain ⟨-, kA, hkA, comp, hkind⟩ := State.isArrayOf_alike S.warmed.alike (hAr 0 (fun _ => .null))
  obtain ⟨-, kS, hkS, compS, hkindS⟩ := hAr 0 (fun _ => .null)
  obtain ⟨vm', S', step⟩ := S.cloneArray C.1 C.2.2.2.1 (C.2.2.2.2.1 _ hlink) (C.2.2.2.2.1 _ q418) (C.2.2.2.2.1 _ q419) (C.2.2.2.2.1 _ q420) (C.2.2.2.2.1 _ q421) (a := a) (cell := vp_cell (gA (xG X) 1) (n, .inl f)) hcT (fun k h => by cases h) (fun h => by cases h) hRA f2 f3
    (fun i v hv => by
      have hk' : T.vm.classes[gA (xG X) 1]? = some kA := hkA
      have hc0 : (vp_cell (gA (xG X) 1) (n, .inl f)).cls = gA (xG X) 1 := rfl
      rw [hc0]
      simpa [State.fitsSlot, State.slotType?, hk', hkind] using hfit9 i v hv)
    (g := F0 (xm X) pc ls (.ref a :: st)) rfl (by rw [hl.1]) rfl (by rw [C.2.1]; exact hd) (by rw [hf]; exact hd1) (by show 2 * 0 + _ + 14 ≤ _; rw [hlo]; omega) (by omega) (by show _ + (arrV (gA (xG X) 1) n (fun j => .int (f j))).slots.size ≤ _; rw [arrV_size]; omega) (hloader := Vm.clonesLoader_of_array hkS hkindS)
  have hsz : (vp_cell (gA (xG X) 1) (n, .inl f)).slots.size = n := arrV_size _ _ _
  have hce : ({ cls := (vp_cell (gA (xG X) 1) (n, .inl f)).cls, slots := (vp_cell (gA (xG X) 1) (n, .inl f)).slots } : Cell) = vp_cell (gA (xG X) 1) (n, .inl f) := rfl
  rw [hce, hsz] at S'
  generalize hH1 : H.push (vp_cell (gA (xG X) 1) (n, .inl f)) = H1
  have z1 : H1.size = H.size + 1 := by rw [← hH1, Array.size_push]
  have e1 : H1[H.size]? = some (vp_cell (gA (xG X) 1) (n, .inl f)) := by rw [← hH1, Array.getElem?_push_size]
  have o1 : ∀ q : Nat, q < H.size → H1[q]? = H[q]? := fun q hq => by rw [← hH1, Array.getElem?_push, if_neg (Nat.ne_of_lt hq)]
  obtain ⟨hI1, hno, hnz⟩ := hI.new (e := .inl (gA (xG X) 1, (n, .inl f))) e1 z1 o1
  have key := k H.size hno hnz hI.1.1 (by omega) (by omega) H1 ls locs hI1 hl
  rw [show (xR X).cells - (kc - 1) = (xR X).cells - kc + 1 by omega, show (xR X).slots - (ns - n) = (xR X).slots - ns + n by omega] at key
  obtain ⟨t, b1, b2⟩ := key ((T.setVm vm').pushCell (vp_cell (gA (xG X) 1) (n, .inl f))) (by rw [← hH1, ← hT]; rfl) S'
  refine ⟨t, step t ?_, b2⟩
  rw [hce, hT]
  exact b1
end KIT19
