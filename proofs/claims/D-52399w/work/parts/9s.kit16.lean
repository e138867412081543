/-! ===== references copied, class objects, instanceof ===== -/
section KIT16
set_option maxRecDepth 100000
variable {X : XT} {P : Oc → ZR → AH → Prop} {z : ZR} {h : AH} {kc ns pc nL d : Nat} {lv : List (Nat × Value)} {st : List Value} {cc : ByteArray} {own mn : String} {ret : Option FieldType} {hh : List (Nat × Nat × Nat × Nat)}
/-- System.arraycopy between rows of Objects; the first may be read alone -/
theorem ww_copyq (C : Cx X cc nL own mn ret hh d) {index a0 a n0 n1 sp dp n : Nat} {f g : Nat → Option Nat} (hlink : Cond.methodLink own index arraycopyName ∈ lw_all) (hnat : Cond.native arraycopyName ∈ lw_all) (hstat : Cond.static arraycopyName ∈ lw_all) (hini : Cond.initialized "java/lang/System" ∈ lw_all) (hd : decode cc pc = .ok (.invokestatic index, 3))
    (ha0 : rd z h a0 (.inl (gA (xG X) 4, (n0, refs f)))) (ha : h a = some (.inl (gA (xG X) 4, (n1, refs g)))) (h4 : sp + n ≤ n0) (h5 : dp + n ≤ n1) (hn0 : n0 < 2 ^ 31) (hn1 : n1 < 2 ^ 31) (hel : ∀ i, i < n → ∀ y, f (sp + i) = some y → ∃ C1, rcv (xG X) z h y C1 ∧ Cond.castable C1 "java/lang/Object" ∈ lw_tbl) (hd1 : 1 ≤ d) (hst : (st.map fun v => v.category).sum ≤ 8)
    (k : WW X P z (up h a (.inl (gA (xG X) 4, (n1, refs (va_cpy f g sp dp n))))) kc ns (pc + 3) lv st) : WW X P z h kc ns pc lv (.int (nI n) :: .int (nI dp) :: .ref a :: .int (nI sp) :: .ref a0 :: st) := by
  intro a1 a2 H ls locs hI hl
  obtain ⟨cs, hc0, s1, s2, s3, s4, s5, s6⟩ := hI.1.w ha0
  have hc1 : H[a]? = some (vp_cell (gA (xG X) 4) (n1, refs g)) := (hI.1.2.2.2 a _ ha).1
  obtain ⟨a9, -, -, hAr, hRA, -⟩ := C.2.2.2.2.2.2.2.2.1
  have hAr := arrOfT_moved C.2.2.2.2.2.2.2.1.alike (hAr 4 (by decide))
  have hRA := va_RA.moved C.2.2.2.2.2.2.2.1.alike (hRA 4 (by decide))
  obtain ⟨kA, comp, r1, r2, r3, -⟩ := hRA
  obtain ⟨-, k0, hk0, cm0, hkk0⟩ := hAr n0 (fun j => va_rf (f j))
  obtain ⟨-, k1, hk1, cm1, hkk1⟩ := hAr n1 (fun j => va_rf (g j))
  have hf : (xR X).frames = d := C.2.2.2.2.2.2.2.2.2.2.2.2.1
  have hlo : (xR X).locals = 48 * d := C.2.2.2.2.2.2.2.2.2.2.2.2.2
  have c1 : (nI sp).toNatClampNeg = sp := nI_clamp (by omega)
  have c2 : (nI dp).toNatClampNeg = dp := nI_clamp (by omega)
  have c3 : (nI n).toNatClampNeg = n := nI_clamp (by omega)
  have s4 : n0 ≤ cs.slots.size := s4
  have s6 : ∀ j, j < n0 → cs.slots[j]? = some (va_rf (f j)) := s6
  have s3 : cs.cls = gA (xG X) 4 := s3
  have hroom : 2 * 0 + (st.map fun v => v.category).sum + (nativeFrameWords "java/lang/System" "arraycopy" 5 + 11) ≤ (xR X).locals := by
    have : nativeFrameWords "java/lang/System" "arraycopy" 5 = 7 := by decide
    rw [hlo, this]
    omega
  intro T hT S
  obtain ⟨vm', S', step⟩ := S.arraycopy C.1 C.2.2.2.1 (C.2.2.2.2.1 _ hlink) (C.2.2.2.2.1 _ hnat) (C.2.2.2.2.1 _ hstat) (C.2.2.2.2.1 _ hini) (src := a0) (dst := a) (cs := cs) (cd := vp_cell (gA (xG X) 4) (n1, refs g)) (srcPos := nI sp) (destPos := nI dp) (n := nI n) (by rw [hT]; exact hc0) (by rw [hT]; exact hc1)
    (fun q h => by rw [h] at s1; cases s1) (fun _ h => by cases h) s2 (fun h => by cases h) (by rw [s3]; exact hk0) hk1 hkk0 hkk1 rfl (nI_pos (by omega)) (nI_pos (by omega)) (nI_pos (by omega))
    (by rw [nn_toInt (nI_pos (by omega)), nn_toInt (nI_pos (by omega)), c1, c3]; omega)
    (by rw [nn_toInt (nI_pos (by omega)), nn_toInt (nI_pos (by omega)), c2, c3]; show ¬ _ > ((arrV (gA (xG X) 4) n1 (fun j => va_rf (g j))).slots.size : Int); rw [arrV_size]; omega)
    (fun vm₁ hal i hi => by
      rw [c3] at hi
      rw [c1]
      have e : cs.slots.getD (sp + i) .null = va_rf (f (sp + i)) := by
        rw [Array.getD_eq_getD_getElem?, s6 _ (by omega)]
        rfl
      rw [e]
      cases hy : f (sp + i) with
      | none => exact ⟨rfl, trivial⟩
      | some y =>
        obtain ⟨C1, hv, hca⟩ := hel i hi y hy
        obtain ⟨cv, g1, g2, g3⟩ := hv _ H C.2.2.2.2.2.2.2.1 hI.1
        have hasg := vb_asgC (va_Nw.warmC C.2.2.2.2.2.2.2.1 (Cx.N C hca rfl)) comp cv.cls r3 g3
        cases hk1.symm.trans r1
        cases hkk1.symm.trans r2
        obtain ⟨kC, hkC, -⟩ := Vm.findClass_spec g3
        obtain ⟨kE, hkE, -⟩ := Vm.findClass_spec r3
        obtain ⟨kC', hkC', -⟩ := hal.2.2 _ _ hkC
        obtain ⟨kE', hkE', -⟩ := hal.2.2 _ _ hkE
        refine ⟨rfl, cv, (show T.heap[y]? = some cv by rw [hT]; exact g1), (fun q h => by rw [h] at g2; cases g2), ⟨kC', hkC'⟩, ?_, ?_⟩
        · exact ⟨kE', hkE'⟩
        · show vm₁.assignable _ _ = true
          rw [hal.assignable]
          exact hasg)
    (g := F0 (xm X) pc ls (.int (nI n) :: .int (nI dp) :: .ref a :: .int (nI sp) :: .ref a0 :: st)) rfl (by rw [hl.1]) (rest := st) rfl (by rw [C.2.1]; exact hd) (by rw [hf]; exact hd1) hroom
  have e1 : copied cs (vp_cell (gA (xG X) 4) (n1, refs g)) (nI sp) (nI dp) (nI n) = vp_cell (gA (xG X) 4) (n1, refs (va_cpy f g sp dp n)) := by
    have := va_copiedX (fun x => va_rf x) cs (gA (xG X) 4) (n0 := n0) (n1 := n1) (sp := sp) (dp := dp) (n := n) f g s6 h4
    show (arrV (gA (xG X) 4) n1 (fun j => va_rf (g j))).storeRun (nI dp).toNatClampNeg (cs.stretch (nI sp).toNatClampNeg (nI n).toNatClampNeg) = _
    rw [c1, c2, c3]
    exact this
  rw [e1] at S' step
  have hlt : a < H.size := (Array.getElem?_eq_some_iff.mp hc1).1
  have hI1 := hI.sto (i := 0) (e := .inl (gA (xG X) 4, (n1, refs (va_cpy f g sp dp n)))) (H1 := H.setIfInBounds a (vp_cell (gA (xG X) 4) (n1, refs (va_cpy f g sp dp n)))) ha (show (H.setIfInBounds a _)[a]? = some _ by simp [Array.getElem?_setIfInBounds, hlt]) (by simp) (fun q hq => by simp [Array.getElem?_setIfInBounds, Ne.symm hq])
  obtain ⟨t9, b1, b2⟩ := k a1 a2 _ ls _ ⟨hI1.1, hI1.2.1, fun q hq => by
      rcases List.mem_append.mp hq with q1 | q1
      · exact hI.2.2 q q1
      · obtain ⟨y, -, hy⟩ := List.mem_map.mp q1
        rw [← hy]
        exact (hI.1.2.2.2 a _ ha).2.1⟩ hl _ (by rw [← hT]; rfl) S'
  exact ⟨t9, step t9 b1, b2⟩
/-- the Class object of a class -/
theorem Cx.mi (C : Cx X cc nL own mn ret hh d) {k : Nat} {q : String} (hk : mrL[k]? = some q) : va_Mi q (gE (xG X) (3000 + k)) (xs X) := by
  obtain ⟨a0, -, -, -, -, hS⟩ := C.2.2.2.2.2.2.2.2.1
  obtain ⟨c, kk, a, h1, h2, h3, h4⟩ := Term.mirror_spec (hS.2.2.2.2 k q hk)
  cases h4
  exact va_Mi.moved C.2.2.2.2.2.2.2.1.alike ⟨c, kk, h1, h2, h3⟩
theorem ww_ldcM (C : Cx X cc nL own mn ret hh d) {k index : Nat} {q : String} (hk : mrL[k]? = some q) (hlink : Cond.classLink own index q ∈ lw_all) (hd : decode cc pc = .ok (.ldc index, 2)) (kk : WW X P z h kc ns (pc + 2) lv (.ref (gE (xG X) (3000 + k)) :: st)) : WW X P z h kc ns pc lv st :=
  fun a1 a2 H ls locs hI hl => va_ldcM C.1 C.2.1 C.2.2.2.1 (C.2.2.2.2.1 _ hlink) (Cx.mi C hk) hd (kk a1 a2 H ls locs hI hl)
abbrev gcN : MethodName := ⟨"java/lang/Object", "getClass", "()Ljava/lang/Class;"⟩
theorem ww_getC (C : Cx X cc nL own mn ret hh d) {k index b : Nat} {q : String} (hk : mrL[k]? = some q) (hlink : Cond.methodLink own index gcN ∈ lw_all) (hdecl : Cond.declares gcN ∈ lw_tbl) (hsel : Cond.selects q gcN gcN ∈ lw_all) (hinst : Cond.instanceMethod gcN ∈ lw_all) (hnat : Cond.native gcN ∈ lw_all) (hr : rcv (xG X) z h b q) (hd : decode cc pc = .ok (.invokevirtual index, 3)) (hst : (st.map fun v => v.category).sum ≤ 8) (hd1 : 1 ≤ d)
    (kk : WW X P z h kc ns (pc + 3) lv (.ref (gE (xG X) (3000 + k)) :: st)) : WW X P z h kc ns pc lv (.ref b :: st) := by
  intro a1 a2 H ls locs hI hl
  have hf : (xR X).frames = d := C.2.2.2.2.2.2.2.2.2.2.2.2.1
  have hlo : (xR X).locals = 48 * d := C.2.2.2.2.2.2.2.2.2.2.2.2.2
  exact va_getC C.1 C.2.1 (by rw [hl.1]) C.2.2.2.1 (C.2.2.2.2.1 _ hlink) (Cx.dc C hdecl rfl) (C.2.2.2.2.1 _ hsel) (C.2.2.2.2.1 _ hinst) (C.2.2.2.2.1 _ hnat) (Cx.mi C hk) (hr _ H C.2.2.2.2.2.2.2.1 hI.1) (by rw [hf]; exact hd1) (by rw [hlo]; omega) hd (kk a1 a2 H ls locs hI hl)
/-- a row of references, as a receiver -/
theorem rcv_arr {Γ : Gm} (hΓ : GOK Γ) {b : Nat} {a : vp_A} (hr : rd z h b (.inl (gA Γ 4, a))) : rcv Γ z h b "[Ljava/lang/Object;" := by
  intro U H hW hR
  obtain ⟨cell, h1, h2, h3, h4, -⟩ := hR.w hr
  obtain ⟨a9, -, -, -, hRA, -⟩ := hΓ
  have hRA := va_RA.moved hW.alike (hRA 4 (by decide))
  refine ⟨cell, h1, h2, ?_⟩
  have h4 : cell.cls = gA Γ 4 := h4
  rw [h4]
  exact va_nmO hRA (by decide +kernel)
theorem ww_instY (C : Cx X cc nL own mn ret hh d) {index b : Nat} {C1 nm : String} (hlink : Cond.classLink own index nm ∈ lw_all) (hca : Cond.castable C1 nm ∈ lw_tbl) (hr : rcv (xG X) z h b C1) (hd : decode cc pc = .ok (.instanceof index, 3)) (k : WW X P z h kc ns (pc + 3) lv (.int (nI 1) :: st)) : WW X P z h kc ns pc lv (.ref b :: st) :=
  fun a1 a2 H ls locs hI hl => va_instY C.1 C.2.1 C.2.2.2.1 (C.2.2.2.2.1 _ hlink) (va_Nw.warmC C.2.2.2.2.2.2.2.1 (Cx.N C hca rfl)) (hr _ H C.2.2.2.2.2.2.2.1 hI.1) hd (k a1 a2 H ls locs hI hl)
theorem ww_instNo (C : Cx X cc nL own mn ret hh d) {index b : Nat} {C1 nm : String} (hlink : Cond.classLink own index nm ∈ lw_all) (hca : Cond.not (.castable C1 nm) ∈ flatL) (hr : rcv (xG X) z h b C1) (hd : decode cc pc = .ok (.instanceof index, 3)) (k : WW X P z h kc ns (pc + 3) lv (.int (nI 0) :: st)) : WW X P z h kc ns pc lv (.ref b :: st) :=
  fun a1 a2 H ls locs hI hl => va_instNo C.1 C.2.1 C.2.2.2.1 (C.2.2.2.2.1 _ hlink) (Cx.nc C hca) (hr _ H C.2.2.2.2.2.2.2.1 hI.1) hd (k a1 a2 H ls locs hI hl)
theorem cpy_lf {m cap : Nat} {xs : Nat → Nat} (hm : m ≤ cap) : va_cpy (lf m xs) (fun _ => none) 0 0 cap = lf m xs := by
  funext i
  simp only [va_cpy]
  by_cases hi : i < m
  · rw [lf_lt hi]; simp [lf, hi]; omega
  · simp [lf, hi]
theorem cpy_lfm {m : Nat} {xs : Nat → Nat} : va_cpy (lf m xs) (fun _ => none) 0 0 m = lf m xs := cpy_lf (Nat.le_refl m)
end KIT16
