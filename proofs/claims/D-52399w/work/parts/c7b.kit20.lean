/-! ===== calls of private methods of a superclass (no 'selects' word in the tables) ===== -/
section KIT20
set_option maxRecDepth 100000
theorem sel_p {y x0 : MethodName} {s : State} {args : Array Value} {C1 : String} (hy : y.cls ≠ "java/lang/invoke/MethodHandle" ∧ y.cls ≠ "java/lang/invoke/VarHandle") (h0 : (Cond.selects C1 x0 x0).before args s = true) (hc0 : x0.cls = y.cls) (hpriv : (Cond.privateMethod y).before args s = true) (hinst : (Cond.instanceMethod y).before args s = true) : (Cond.selects C1 y y).before args s = true := by
  obtain ⟨mk, methM, hnamed, hmethM, -, -⟩ := Cond.instanceMethod_spec hinst
  have hfound : s.methodFound? y.cls y.name y.desc = some mk := State.methodFound?_of_named hnamed hy
  have hf := findClass_of_methodNamed hnamed
  simp only [Cond.before, Cond.holds, Cond.value] at h0 ⊢
  cases hc : s.vm.findClass C1 with
  | none => rw [hc] at h0; simp at h0
  | some c =>
    have hsel : selectMethod {} s.vm c mk = .method mk := selectMethod_private hmethM (Cond.privateMethod_at hpriv mk methM hnamed hmethM)
    rw [hc] at h0
    cases h1 : s.methodFound? x0.cls x0.name x0.desc with
    | none => rw [h1] at h0; simp at h0
    | some r0 =>
      rw [h1] at h0
      cases h2 : s.methodNamed? x0 with
      | none => rw [h2] at h0; simp at h0
      | some m0 =>
        rw [h2] at h0
        have hf0 := findClass_of_methodNamed h2
        rw [hc0] at hf0
        have e : m0.cls = mk.cls := Option.some.inj (hf0.symm.trans hf)
        simp only [hfound, hnamed, hsel]
        cases hs0 : selectMethod {} s.vm c r0 with
        | method m' =>
          simp only [hs0, e] at h0
          simp at h0 ⊢
          exact h0.2
        | _ => simp only [hs0] at h0; simp at h0
variable {X : XT} {P : Oc → ZR → AH → Prop} {z : ZR} {h : AH} {kc ns pc nL d : Nat} {lv : List (Nat × Value)} {st : List Value} {cc : ByteArray} {own mn : String} {ret : Option FieldType} {hh : List (Nat × Nat × Nat × Nat)}
theorem Cx.selP (C : Cx X cc nL own mn ret hh d) {y x0 : MethodName} {C1 : String} (hy : y.cls ≠ "java/lang/invoke/MethodHandle" ∧ y.cls ≠ "java/lang/invoke/VarHandle") (h0 : Cond.selects C1 x0 x0 ∈ lw_tbl) (hc0 : x0.cls = y.cls) (hp : Cond.privateMethod y ∈ lw_tbl) (hi : Cond.instanceMethod y ∈ lw_tbl) : (Cond.selects C1 y y).before (xa X) (xs X) = true := by
  obtain ⟨a9, hts, -⟩ := C.2.2.2.2.2.2.2.2.1
  have h1 := sel_p hy (hts _ h0) hc0 (hts _ hp) (hts _ hi)
  exact pay_in (big := [Cond.selects C1 y y]) (ws := [Cond.selects C1 y y]) (fun w hw => by rw [List.mem_singleton.mp hw]; exact h1) (fun w hw => ⟨hw, by rw [List.mem_singleton.mp hw]; exact good_of_word rfl⟩) _ (List.mem_singleton.mpr rfl) _ _ C.2.2.2.2.2.2.2.1
theorem ww_callP (C : Cx X cc nL own mn ret hh d) {index nLy dy mc ms n b : Nat} {y : MethodName} {cy : ByteArray} {rety : Option FieldType} {As rest st0 : List Value} {Pc : Oc → ZR → AH → Prop} {C1 : String} (hsel : (Cond.selects C1 y y).before (xa X) (xs X) = true) (w1 : Cond.methodLink own index y ∈ lw_all) (w2 : Cond.sameMethod y.cls y.cls y.name y.desc ∈ lw_all) (w4 : Cond.instanceMethod y ∈ lw_all) (w5 : Cond.initialized y.cls ∈ lw_all) (w6 : Cond.code y cy nLy rety ∈ lw_all) (hdsc : y.cls ≠ "java/lang/invoke/MethodHandle" ∧ y.cls ≠ "java/lang/invoke/VarHandle" ∧ (parseMethodDescriptor y.desc).map (fun d => d.parameters.length) = some n) (hd : decode cc pc = .ok (.invokevirtual index, 3)) (hM : Ct (xl X) (xG X) y cy nLy rety dy mc ms (.ref b :: As) z h Pc) (hr : rcv (xG X) z h b C1) (hn : As.length = n) (hs : st0 = As.reverse ++ .ref b :: rest) (hst : (rest.map fun v => v.category).sum ≤ 8) (hdy : dy + 1 ≤ d) (hnl : nLy ≤ 29) (hmc : mc ≤ kc) (hms : ms ≤ ns) (kk : ∀ v z' h', Pc (.inl v) z' h' → WW X P z' h' (kc - mc) (ns - ms) (pc + 3) lv (v.toList ++ rest)) (kx : ∀ E q z' h', Pc (.inr (E, q)) z' h' → WX X P z' h' (kc - mc) (ns - ms) pc lv E q) : WW X P z h kc ns pc lv st0 := by
  intro a1 a2 H ls locs hI hl
  have hG : GoodIn lw_all (ws_ y cy nLy rety) := lw_good (fun w hw => by
    rcases List.mem_cons.mp hw with rfl | q
    · exact w6
    · exact q)
  have hc : Cond.code y cy nLy rety ∈ ws_ y cy nLy rety := List.mem_cons_self
  have hR := Cx.room C (mc := mc) (ms := ms) hdy hnl
  have cw : va_CU (xR X) (xs X) (xa X) own C1 y.cls index y y cy nLy rety (ws_ y cy nLy rety) (rmD dy mc ms) mc ms n := by
    refine ⟨⟨rfl, rfl, hR.1, hR.2, pay_in C.2.2.2.2.1 hG, hc⟩, C.2.2.2.2.1 _ w6, C.2.2.2.2.1 _ w5, ⟨hdsc.1, hdsc.2.1⟩, fun sig q => ?_, C.2.2.2.2.1 _ w1, C.2.2.2.2.1 _ w2, va_Decl.of (C.2.2.2.2.1 _ w4) (C.2.2.2.2.1 _ w6), hsel, C.2.2.2.2.1 _ w4⟩
    have h2 := hdsc.2.2
    rw [q] at h2
    exact (Option.some.inj h2).symm
  exact ww_run a1 a2 hI hl hmc hms (vx_runU (Cx.fix C) hM cw (Cx.preV C hI hr) rfl hn (Cx.sz C hl) hs (Cx.rest C hst) hd ⟨by omega, by omega⟩) kk kx
end KIT20
section KIT20B
set_option maxRecDepth 100000
variable {X : XT} {P : Oc → ZR → AH → Prop} {z : ZR} {h : AH} {kc ns pc nL d : Nat} {lv : List (Nat × Value)} {st : List Value} {cc : ByteArray} {own mn : String} {ret : Option FieldType} {hh : List (Nat × Nat × Nat × Nat)}
/-- checkcast of a row of bytes -/
theorem ww_castB (C : Cx X cc nL own mn ret hh d) {index a n : Nat} {f : Nat → Int32} (hlink : Cond.classLink own index "[B" ∈ lw_all) (hd : decode cc pc = .ok (.checkcast index, 3)) (ha : h a = some (.inl (gA (xG X) 1, (n, .inl f)))) (k : WW X P z h kc ns (pc + 3) lv (.ref a :: st)) : WW X P z h kc ns pc lv (.ref a :: st) := by
  intro a1 a2 H ls locs hI hl
  obtain ⟨a9, -, -, -, hRA, -⟩ := C.2.2.2.2.2.2.2.2.1
  have hRA : (xs X).vm.findClass "[B" = some (gA (xG X) 1) := va_RA.moved C.2.2.2.2.2.2.2.1.alike (hRA 1 (by decide))
  have hP : va_P (gD (xG X)) clX [(a, .inl (gA (xG X) 1, (n, .inl f)))] H := fun k q hq => by
    have hk : k < 1 := (List.getElem?_eq_some_iff.mp hq).1
    rw [show k = 0 by omega] at hq
    cases hq
    exact (hI.1.2.2.2 a _ ha).1
  exact va_castA C.1 C.2.1 C.2.2.2.1 (C.2.2.2.2.1 _ hlink) hP 0 rfl hRA hd (k a1 a2 H ls locs hI hl)
end KIT20B
