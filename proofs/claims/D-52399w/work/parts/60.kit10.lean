/-! ===== System.arraycopy between rows of numbers ===== -/
section W11
set_option maxRecDepth 100000
variable {X : XT} {P : Oc → ZR → AH → Prop} {z : ZR} {h : AH} {kc ns pc nL d : Nat} {lv : List (Nat × Value)} {st : List Value} {cc : ByteArray} {own mn : String} {ret : Option FieldType} {hh : List (Nat × Nat × Nat × Nat)}
theorem nn_toInt {x : Int32} (hx : ¬ x < 0) : x.toInt = (x.toNatClampNeg : Int) := by
  have h0 : (0 : Int) ≤ x.toInt := by
    have := Int32.not_lt.mp hx
    simpa using Int32.le_iff_toInt_le.mp this
  show x.toInt = ((x.toInt.toNat : Nat) : Int)
  omega
theorem ww_copyi (C : Cx X cc nL own mn ret hh d) {index t a0 a n0 n1 sp dp n : Nat} {f g : Nat → Int32} (hlink : Cond.methodLink own index arraycopyName ∈ lw_all) (hnat : Cond.native arraycopyName ∈ lw_all) (hstat : Cond.static arraycopyName ∈ lw_all) (hini : Cond.initialized "java/lang/System" ∈ lw_all) (hd : decode cc pc = .ok (.invokestatic index, 3)) (ht : t < 10) (hprim : refKind (aty t) = false)
    (ha0 : h a0 = some (.inl (gA (xG X) t, (n0, .inl f)))) (ha : h a = some (.inl (gA (xG X) t, (n1, .inl g)))) (h4 : sp + n ≤ n0) (h5 : dp + n ≤ n1) (hn0 : n0 < 2 ^ 31) (hn1 : n1 < 2 ^ 31) (hfit : ∀ i, i < n → fits (aty t) (.int (f (sp + i))) = true) (hd1 : 1 ≤ d) (hst : (st.map fun v => v.category).sum ≤ 8)
    (k : WW X P z (up h a (.inl (gA (xG X) t, (n1, .inl (va_cpy f g sp dp n))))) kc ns (pc + 3) lv st) : WW X P z h kc ns pc lv (.int (nI n) :: .int (nI dp) :: .ref a :: .int (nI sp) :: .ref a0 :: st) := by
  intro a1 a2 H ls locs hI hl
  have hc0 : H[a0]? = some (vp_cell (gA (xG X) t) (n0, .inl f)) := (hI.1.2.2.2 a0 _ ha0).1
  have hc1 : H[a]? = some (vp_cell (gA (xG X) t) (n1, .inl g)) := (hI.1.2.2.2 a _ ha).1
  obtain ⟨a9, -, -, hAr, -⟩ := C.2.2.2.2.2.2.2.2.1
  have hAr := arrOfT_moved C.2.2.2.2.2.2.2.1.alike (hAr t ht)
  obtain ⟨-, k0, hk0, cm0, hkk0⟩ := hAr n0 (fun j => .int (f j))
  obtain ⟨-, k1, hk1, cm1, hkk1⟩ := hAr n1 (fun j => .int (g j))
  have hf : (xR X).frames = d := C.2.2.2.2.2.2.2.2.2.2.2.2.1
  have hlo : (xR X).locals = 48 * d := C.2.2.2.2.2.2.2.2.2.2.2.2.2
  have c1 : (nI sp).toNatClampNeg = sp := nI_clamp (by omega)
  have c2 : (nI dp).toNatClampNeg = dp := nI_clamp (by omega)
  have c3 : (nI n).toNatClampNeg = n := nI_clamp (by omega)
  have hroom : 2 * 0 + (st.map fun v => v.category).sum + (nativeFrameWords "java/lang/System" "arraycopy" 5 + 11) ≤ (xR X).locals := by
    have : nativeFrameWords "java/lang/System" "arraycopy" 5 = 7 := by decide
    rw [hlo, this]
    omega
  intro T hT S
  obtain ⟨vm', S', step⟩ := S.arraycopy C.1 C.2.2.2.1 (C.2.2.2.2.1 _ hlink) (C.2.2.2.2.1 _ hnat) (C.2.2.2.2.1 _ hstat) (C.2.2.2.2.1 _ hini) (src := a0) (dst := a) (cs := vp_cell (gA (xG X) t) (n0, .inl f)) (cd := vp_cell (gA (xG X) t) (n1, .inl g)) (srcPos := nI sp) (destPos := nI dp) (n := nI n) (by rw [hT]; exact hc0) (by rw [hT]; exact hc1)
    (fun _ h => by cases h) (fun _ h => by cases h) (fun h => by cases h) (fun h => by cases h) hk0 hk1 hkk0 hkk1 (by simp [hprim]) (nI_pos (by omega)) (nI_pos (by omega)) (nI_pos (by omega))
    (by rw [nn_toInt (nI_pos (by omega)), nn_toInt (nI_pos (by omega)), c1, c3]; show ¬ _ > ((arrV (gA (xG X) t) n0 (fun j => .int (f j))).slots.size : Int); rw [arrV_size]; omega)
    (by rw [nn_toInt (nI_pos (by omega)), nn_toInt (nI_pos (by omega)), c2, c3]; show ¬ _ > ((arrV (gA (xG X) t) n1 (fun j => .int (g j))).slots.size : Int); rw [arrV_size]; omega)
    (fun vm₁ _ i hi => by
      rw [c3] at hi
      rw [c1]
      have e : (vp_cell (gA (xG X) t) (n0, .inl f)).slots.getD (sp + i) .null = .int (f (sp + i)) := by
        show (arrV (gA (xG X) t) n0 (fun j => .int (f j))).slots.getD _ _ = _
        rw [Array.getD_eq_getD_getElem?, arrV_read _ _ (by omega)]
        rfl
      rw [e]
      exact ⟨hfit i hi, trivial⟩)
    (g := F0 (xm X) pc ls (.int (nI n) :: .int (nI dp) :: .ref a :: .int (nI sp) :: .ref a0 :: st)) rfl (by rw [hl.1]) (rest := st) rfl (by rw [C.2.1]; exact hd) (by rw [hf]; exact hd1) hroom
  have e1 : copied (vp_cell (gA (xG X) t) (n0, .inl f)) (vp_cell (gA (xG X) t) (n1, .inl g)) (nI sp) (nI dp) (nI n) = vp_cell (gA (xG X) t) (n1, .inl (va_cpy f g sp dp n)) := by
    have := va_copied (fun x => Value.int x) (gA (xG X) t) (gA (xG X) t) (n0 := n0) (n1 := n1) (sp := sp) (dp := dp) (n := n) f g h4
    show (arrV (gA (xG X) t) n1 (fun j => .int (g j))).storeRun (nI dp).toNatClampNeg ((arrV (gA (xG X) t) n0 (fun j => .int (f j))).stretch (nI sp).toNatClampNeg (nI n).toNatClampNeg) = _
    rw [c1, c2, c3]
    exact this
  rw [e1] at S' step
  have hlt : a < H.size := (Array.getElem?_eq_some_iff.mp hc1).1
  have hI1 := hI.sto (i := 0) (e := .inl (gA (xG X) t, (n1, .inl (va_cpy f g sp dp n)))) (H1 := H.setIfInBounds a (vp_cell (gA (xG X) t) (n1, .inl (va_cpy f g sp dp n)))) ha (show (H.setIfInBounds a _)[a]? = some _ by simp [Array.getElem?_setIfInBounds, hlt]) (by simp) (fun q hq => by simp [Array.getElem?_setIfInBounds, Ne.symm hq])
  obtain ⟨t9, b1, b2⟩ := k a1 a2 _ ls _ ⟨hI1.1, hI1.2.1, fun q hq => by
      rcases List.mem_append.mp hq with q1 | q1
      · exact hI.2.2 q q1
      · obtain ⟨y, -, hy⟩ := List.mem_map.mp q1
        rw [← hy]
        exact (hI.1.2.2.2 a _ ha).2.1⟩ hl _ (by rw [← hT]; rfl) S'
  exact ⟨t9, step t9 b1, b2⟩
end W11
