/-! ===== small things for writes ===== -/
/-- a row of references -/
abbrev refs (f : Nat → Option Nat) : ((Nat → Int32) ⊕ (Nat → Int64) ⊕ (Nat → UInt32) ⊕ (Nat → UInt64) ⊕ (Nat → Option Nat)) := .inr (.inr (.inr (.inr f)))
section W8
set_option maxRecDepth 100000
variable {X : XT} {P : Oc → ZR → AH → Prop} {z : ZR} {h : AH} {kc ns pc nL d : Nat} {lv : List (Nat × Value)} {st : List Value} {cc : ByteArray} {own mn : String} {ret : Option FieldType} {hh : List (Nat × Nat × Nat × Nat)}
theorem ww_gen (k : ∀ h1, h1 = h → WW X P z h1 kc ns pc lv st) : WW X P z h kc ns pc lv st := k h rfl
theorem ne_ob {x a : Nat} {e e' : va_E} (hx : h x = some e) (ha : h a = some e') (hn : ¬ e = e') : x ≠ a := fun q => hn (by subst q; exact Option.some.inj (hx.symm.trans ha))
theorem ne_nw {x a : Nat} {e : va_E} (hx : h x = some e) (ha : h a = none) : x ≠ a := fun q => by rw [q, ha] at hx; cases hx
theorem fit_bI (b : Bool) : fits .boolean (.int (bI b)) = true := by cases b <;> decide +kernel
theorem fit_z0 : fits .boolean (.int (nI 0)) = true := by decide +kernel
theorem fit_z1 : fits .boolean (.int (nI 1)) = true := by decide +kernel
theorem va_rf_nar {n : String} (r : Option Nat) : narrow (.object n) (va_rf r) = va_rf r := by cases r <;> rfl
theorem va_rf_fit {n : String} (r : Option Nat) : fits (.object n) (va_rf r) = true := by cases r <;> rfl
theorem va_rf_narA {n : FieldType} (r : Option Nat) : narrow (.array n) (va_rf r) = va_rf r := by cases r <;> rfl
theorem va_rf_fitA {n : FieldType} (r : Option Nat) : fits (.array n) (va_rf r) = true := by cases r <;> rfl
/-- a reference is stored into a row of Objects -/
theorem ww_aast (C : Cx X cc nL own mn ret hh d) {t a n j v : Nat} {f : Nat → Option Nat} {C1 E : String} (hd : decode cc pc = .ok (.aastore, 1)) (ht : t < 6) (hE : aty t = .object E) (hca : Cond.castable C1 E ∈ lw_tbl) (ha : h a = some (.inl (gA (xG X) t, (n, refs f)))) (hv : rcv (xG X) z h v C1) (hj : j < n) (hn : n < 2 ^ 31) (k : WW X P z (up h a (.inl (gA (xG X) t, (n, refs (va_up f j (some v)))))) kc ns (pc + 1) lv st) : WW X P z h kc ns pc lv (.ref v :: .int (nI j) :: .ref a :: st) := by
  intro a1 a2 H ls locs hI hl
  have hc := (hI.1.2.2.2 a _ ha).1
  obtain ⟨cv, g1, g2, g3⟩ := hv _ H C.2.2.2.2.2.2.2.1 hI.1
  obtain ⟨a0, -, -, -, hRA, -⟩ := C.2.2.2.2.2.2.2.2.1
  have hRA := va_RA.moved C.2.2.2.2.2.2.2.1.alike (hRA t ht)
  rw [hE] at hRA
  obtain ⟨kA, comp, k1, k2, k3, -⟩ := hRA
  have hasg := vb_asgC (va_Nw.warmC C.2.2.2.2.2.2.2.1 (Cx.N C hca rfl)) comp cv.cls k3 g3
  obtain ⟨kc9, hkc9, -⟩ := Vm.findClass_spec k3
  obtain ⟨kv9, hkv9, -⟩ := Vm.findClass_spec g3
  refine W.aast C.1 C.2.1 hc (fun q h => by cases h) (fun h => by cases h) k1 k2 rfl hkc9 ⟨nI_pos (by omega), by rw [nI_clamp (by omega)]; show _ < (arrV _ _ _).slots.size; rw [arrV_size]; exact hj⟩ g1 (fun q h => by rw [h] at g2; cases g2) hkv9 hasg rfl rfl hd fun H1 e z1 oq => ?_
  refine k a1 a2 H1 ls _ (hI.sto ha ?_ z1 oq) hl
  show H1[a]? = some (vp_cell _ _)
  rw [e, nI_clamp (by omega), vp_cell_q, vp_cell_q, arrV_store]
  congr 2
  funext q
  by_cases hq : q = j
  · subst hq
    simp [updV, va_up, va_rf]
  · simp [updV, va_up, hq]
theorem ww_aastN (C : Cx X cc nL own mn ret hh d) {t a n j : Nat} {f : Nat → Option Nat} {E : String} (hd : decode cc pc = .ok (.aastore, 1)) (ht : t < 6) (hE : aty t = .object E) (ha : h a = some (.inl (gA (xG X) t, (n, refs f)))) (hj : j < n) (hn : n < 2 ^ 31) (k : WW X P z (up h a (.inl (gA (xG X) t, (n, refs (va_up f j none))))) kc ns (pc + 1) lv st) : WW X P z h kc ns pc lv (.null :: .int (nI j) :: .ref a :: st) := by
  intro a1 a2 H ls locs hI hl
  have hc := (hI.1.2.2.2 a _ ha).1
  have harr := Cx.arr C (t := t) (cell := vp_cell (gA (xG X) t) (n, refs f)) (by omega) rfl rfl
  rw [hE] at harr
  refine va_WaastN (C := E) C.1 C.2.1 hc harr (fun h => by cases h) (nI_ix hj hn (by show _ ≤ (arrV _ _ _).slots.size; rw [arrV_size]; exact Nat.le_refl _)) rfl rfl hd fun H1 e z1 oq => ?_
  refine k a1 a2 H1 ls _ (hI.sto ha ?_ z1 oq) hl
  show H1[a]? = some (vp_cell _ _)
  rw [e, nI_clamp (by omega), vp_cell_q, vp_cell_q, arrV_store]
  congr 2
  funext q
  by_cases hq : q = j
  · subst hq
    simp [updV, va_up, va_rf]
  · simp [updV, va_up, hq]
/-- a new row of numbers -/
theorem ww_newa (C : Cx X cc nL own mn ret hh d) {t n : Nat} {atype : ArrayType} (hd : decode cc pc = .ok (.newarray atype, 2)) (ht : t < 6) (hty : newarray.typeOf atype = aty t) (hw : Cond.arrayClass (newarray.typeOf atype) ∈ lw_all) {a0 : vp_A} (ha0 : ∀ cA : ClassId, vp_cell cA a0 = arrV cA n (fun _ => defaultValue (aty t))) (hn : n < 2 ^ 24) (hk : 1 ≤ kc) (hns : n ≤ ns)
    (k : ∀ a : Nat, h a = none → (∀ e, ¬ z a e) → gN (xG X) ≤ a → WW X P z (up h a (.inl (gA (xG X) t, a0))) (kc - 1) (ns - n) (pc + 2) lv (.ref a :: st)) : WW X P z h kc ns pc lv (.int (nI n) :: st) := by
  intro a1 a2 H ls locs hI hl
  have hcb : n * componentBytes (newarray.typeOf atype) ≤ 536870912 := by
    have : componentBytes (newarray.typeOf atype) ≤ 8 := by cases atype <;> decide
    calc n * componentBytes (newarray.typeOf atype) ≤ n * 8 := Nat.mul_le_mul_left _ this
      _ ≤ 536870912 := by omega
  refine va_newaK C.1 C.2.1 (C.2.2.2.2.1 _ hw) rfl hd rfl (nI_pos (by omega)) (nI_clamp (by omega)) hcb (by omega) (by omega) rfl fun H1 cA e1 z1 o1 hAr hNm => ?_
  obtain ⟨a9, -, -, -, hRA, -⟩ := C.2.2.2.2.2.2.2.2.1
  have hRA := va_RA.moved C.2.2.2.2.2.2.2.1.alike (hRA t ht)
  have hcA : cA = gA (xG X) t := by
    rw [hty] at hNm
    have h2 : (xs X).vm.findClass ("[" ++ (aty t).toString) = some (gA (xG X) t) := by
      have h6 : t = 0 ∨ t = 1 ∨ t = 2 ∨ t = 3 ∨ t = 4 ∨ t = 5 := by omega
      rcases h6 with rfl | rfl | rfl | rfl | rfl | rfl
      · exact hRA
      · exact hRA
      · exact hRA
      · exact hRA
      · obtain ⟨_, _, _, _, _, q⟩ := hRA; exact q
      · obtain ⟨_, _, _, _, _, q⟩ := hRA; exact q
    exact Option.some.inj (hNm.symm.trans h2)
  subst hcA
  obtain ⟨hI1, hno, hnz⟩ := hI.new (e := .inl (gA (xG X) t, a0)) (show H1[H.size]? = some (vp_cell _ _) by rw [ha0, ← hty]; exact e1) z1 o1
  have key := k H.size hno hnz hI.1.1 (by omega) (by omega) H1 ls locs hI1 hl
  rw [show (xR X).cells - (kc - 1) = (xR X).cells - kc + 1 by omega, show (xR X).slots - (ns - n) = (xR X).slots - ns + n by omega] at key
  exact key
/-- a new row of references -/
theorem ww_anew (C : Cx X cc nL own mn ret hh d) {t n index : Nat} {E : String} (hd : decode cc pc = .ok (.anewarray index, 3)) (ht : t < 6) (hE : aty t = .object E) (hlink : Cond.classLink own index E ∈ lw_all) (hover : Cond.arrayOver (.object E) ∈ lw_tbl) (hn : n < 2 ^ 24) (hk : 1 ≤ kc) (hns : n ≤ ns)
    (k : ∀ a : Nat, h a = none → (∀ e, ¬ z a e) → gN (xG X) ≤ a → WW X P z (up h a (.inl (gA (xG X) t, (n, refs (fun _ => none))))) (kc - 1) (ns - n) (pc + 3) lv (.ref a :: st)) : WW X P z h kc ns pc lv (.int (nI n) :: st) := by
  intro a1 a2 H ls locs hI hl
  have hcl := nI_clamp (n := n) (by omega)
  obtain ⟨a9, hT, -, -, hRA, -⟩ := C.2.2.2.2.2.2.2.2.1
  refine W.anew C.1 C.2.1 C.2.2.2.1 (C.2.2.2.2.1 _ hlink) (va_AO.use (va_AO.moved C.2.2.2.2.2.2.2.1.alike (va_AO.of (hT _ hover)))) rfl hd rfl (nI_pos (by omega)) (by rw [hcl]; omega) (by omega) (by rw [hcl]; omega) fun cA kA comp g1 g2 g3 g4 => ?_
  have hRA := va_RA.moved C.2.2.2.2.2.2.2.1.alike (hRA t ht)
  rw [hE] at hRA
  obtain ⟨_, _, _, _, _, q6⟩ := hRA
  have hcA : cA = gA (xG X) t := Option.some.inj (g1.symm.trans q6)
  subst hcA
  rw [hcl]
  have e1 : (H.push { cls := gA (xG X) t, slots := Array.replicate n .null, vm := .none })[H.size]? = some (vp_cell (gA (xG X) t) (n, refs (fun _ => none))) := by
    rw [Array.getElem?_push_size]
    congr 1
    refine Eq.trans ?_ (vp_cell_q _ _ _).symm
    unfold arrV
    congr 1
    apply Array.ext
    · simp
    · intro i h1 h2
      simp [va_rf]
  obtain ⟨hI1, hno, hnz⟩ := hI.new (H1 := H.push { cls := gA (xG X) t, slots := Array.replicate n .null, vm := .none }) (e := .inl (gA (xG X) t, (n, refs (fun _ => none)))) e1 (by simp) (fun q hq => by rw [Array.getElem?_push, if_neg (Nat.ne_of_lt hq)])
  have key := k H.size hno hnz hI.1.1 (by omega) (by omega) _ ls locs hI1 hl
  rw [show (xR X).cells - (kc - 1) = (xR X).cells - kc + 1 by omega, show (xR X).slots - (ns - n) = (xR X).slots - ns + n by omega] at key
  exact key
end W8
section W9
set_option maxRecDepth 100000
/-- a contract of a method in a class some of whose methods the machine answers itself, not this one -/
theorem Ct.ofF {l : Launch} {Γ : Gm} {y : MethodName} {cc : ByteArray} {nL : Nat} {ret : Option FieldType} {d mc ms : Nat} {av : List Value} {z : ZR} {h : AH} {P : Oc → ZR → AH → Prop} (hl : l.flags = flags0) (hΓ : GOK Γ) (hy : plainFor y = true) (hlen : (lg_sl av).length ≤ nL)
    (body : ∀ X : XT, xG X = Γ → xl X = l → Cx X cc nL y.cls y.name ret [] d → WW X P z h mc ms 0 (lv_args 0 av) []) : Ct l Γ y cc nL ret d mc ms av z h P := by
  refine MetFree.of_bodySF (code := cc) (maxLocals := nL) (ret := ret) hy ?_ ?_
  · intro args s m h hn
    obtain ⟨meth, c, h1, h2, h3, h4, h5, h6, -, -⟩ := Cond.code_spec hn (atoms_spec (ws := ws_ y cc nL ret) h _ List.mem_cons_self)
    exact ⟨meth, c, h1, h2, h3, h4, h5, h6⟩
  · intro p e s m args below meth c s₁ B hml hv _
    have hh0 : s₁.heap = s.heap := by rw [B.state]; rfl
    obtain ⟨rfl, hW, hR⟩ := hv
    have hts0 := atoms_spec (ws := ws_ y cc nL ret) B.pre
    have hts : ∀ w ∈ lw_all, w.before _ s = true := fun w h => hts0 w (List.mem_cons_of_mem _ h)
    have hown : s.vm.findClass y.cls = some m.cls := findClass_of_methodNamed B.named
    have hnm := (name_of_methodNamed B.named B.method).1
    have htab : c.exceptionTable.toList = tableOf [] := by
      obtain ⟨meth9, c9, h1, h2, -, -, -, -, h7, -⟩ := Cond.code_spec B.named (hts0 _ List.mem_cons_self)
      cases Option.some.inj (h1.symm.trans B.method)
      cases Option.some.inj (h2.symm.trans (Stand.of_body B).code)
      rw [Array.isEmpty_iff.mp h7]
      rfl
    have hl2 := lv_entry av (n := nL) hlen
    rw [← hml] at hl2
    have key := body ((p, l, e, (headSpec (ws_ y cc nL ret) (rmD d mc ms)).room, s, m), (av.toArray, below, meth, c), (Γ, z, h)) rfl rfl ⟨B.exec, B.bytes, hml, hown, hts, B.returns, B.notSynchronized, hW, hΓ, hl, hnm, htab, rfl, rfl⟩ (Nat.le_refl _) (Nat.le_refl _) s.heap _ [] ⟨hR, Frm.rf, fun q hq => by cases hq⟩ hl2
    have e1 : (headSpec (ws_ y cc nL ret) (rmD d mc ms)).room.cells - mc = 0 := Nat.sub_self _
    have e2 : (headSpec (ws_ y cc nL ret) (rmD d mc ms)).room.slots - ms = 0 := Nat.sub_self _
    rw [show (xR ((p, l, e, (headSpec (ws_ y cc nL ret) (rmD d mc ms)).room, s, m), (av.toArray, below, meth, c), (Γ, z, h))).cells - mc = 0 from e1, show (xR ((p, l, e, (headSpec (ws_ y cc nL ret) (rmD d mc ms)).room, s, m), (av.toArray, below, meth, c), (Γ, z, h))).slots - ms = 0 from e2] at key
    have K : W p l e (headSpec (ws_ y cc nL ret) (rmD d mc ms)).room s m av.toArray below meth c s.heap [] 0 0 (vx_MQ below (QcP Γ z h P) (XcP Γ z h P) av.toArray s mc ms fun q => gN Γ ≤ q) (entryFrame m av.toArray nL) := by
      rw [lg_entry_eq, ← hml]
      exact key
    obtain ⟨t, a1, o, b1, b2, b3⟩ := K s₁ hh0 (Stand.of_body B)
    exact ⟨t, o, a1, b1, b2, b3⟩
end W9
