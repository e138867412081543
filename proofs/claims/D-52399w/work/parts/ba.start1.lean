/-! ===== the start: classes, rows, constants ===== -/
section STA1
set_option maxRecDepth 100000
def adO (o : Option Value) : Nat := match o with
  | some (.ref a) => a
  | _ => 0
theorem adO_r {o : Option Value} (h : ∃ a, o = some (.ref a)) : o = some (.ref (adO o)) := by
  obtain ⟨a, rfl⟩ := h
  rfl
/-- the constants' addresses -/
def EgD (a0 : Array Value) (s : State) : Nat → Nat := fun k => adO ((trm k).eval a0 s none [] s)
variable {a0 : Array Value} {s : State}
theorem bf_v {c : Cond} (h : c.before a0 s = true) : c.value a0 s none s [] = some true := by
  simpa [Cond.before, Cond.holds] using h
theorem eq_e {t u : Term} {v : Value} (h : (Cond.eq t u).before a0 s = true) (hu : u.eval a0 s none [] s = some v) : t.eval a0 s none [] s = some v := va_eqI (bf_v h) hu
theorem flH (hN : (Jvm.Cond.and given_1 narrow_1).before a0 s = true) {i : Nat} {c : Cond} (h : flatL[i]? = some c) : c.before a0 s = true := flat_of_before _ hN c (List.mem_of_getElem? h)
theorem ex_r {t : Term} {cls : String} (h : (Cond.exactly t cls).before a0 s = true) : ∃ a, t.eval a0 s none [] s = some (.ref a) := by
  obtain ⟨a, c, cell, k, h1, -⟩ := Cond.exactly_spec h
  exact ⟨a, h1⟩
/-- a row of the start -/
theorem watA {Γ : Gm} {t : Term} {a n : Nat} {cA : ClassId} {F : (Nat → Int32) ⊕ (Nat → Int64) ⊕ (Nat → UInt32) ⊕ (Nat → UInt64) ⊕ (Nat → Option Nat)} (ht : t.eval a0 s none [] s = some (.ref a)) (hc : ∀ cell, s.heap[a]? = some cell → cell.cls = cA) (hl : (Term.length t).eval a0 s none [] s = some (.int (nI n))) (hn : n < 2 ^ 31) (he : ∀ j, j < n → (Term.elem t (.int (nI j))).eval a0 s none [] s = some (vp_el (n, F) j)) : wat Γ (a, .inl (cA, (n, F))) s.heap := by
  obtain ⟨a1, cell, h1, h2, h3⟩ := Term.length_spec hl
  cases Option.some.inj (h1.symm.trans ht)
  obtain ⟨g1, g2, g3, -⟩ := State.arrayAt?_spec h2
  have hel : ∀ j, j < n → cell.slots[j]? = some (vp_el (n, F) j) := fun j hj => by
    obtain ⟨a2, j2, c2, e1, e2, e3, e4, e5⟩ := Term.elem_spec (he j hj)
    cases Option.some.inj (e1.symm.trans h1)
    cases Option.some.inj (e3.symm.trans h2)
    cases Option.some.inj (e2.symm.trans (rfl : (Term.int (nI j)).eval a0 s none [] s = some (.int (nI j))))
    rw [nI_clamp (by omega)] at e5
    exact e5
  refine ⟨cell, g1, g3, g2, hc cell g1, ?_, ?_, hel⟩
  · show n ≤ cell.slots.size
    rcases Nat.eq_zero_or_pos n with q | q
    · omega
    · have := (Array.getElem?_eq_some_iff.mp (hel (n - 1) (by omega))).1
      omega
  · exact (Value.int.inj h3).symm
/-- an object of the start -/
theorem watO {Γ : Gm} {t : Term} {a ci N : Nat} {C : String} {T : u_T} {fs : List Value} (hc : clX[ci]? = some (C, T, N)) (hK : u_Kn s C T N ((gD Γ).1 ci) ((gD Γ).2 ci)) (hx : (Cond.exactly t C).before a0 s = true) (ht : t.eval a0 s none [] s = some (.ref a)) (h0 : 0 < N) (hf : ∀ k, k < N → (Term.field t (T k).1 (T k).2.1 (T k).2.2.1).eval a0 s none [] s = some (vp_V fs k)) : wat Γ (a, .inr (ci, fs)) s.heap := by
  obtain ⟨a1, c, cell, k, h1, h2, h3, h4, h5, h6, -⟩ := Cond.exactly_spec hx
  cases Option.some.inj (h1.symm.trans ht)
  have hfd : ∀ k, k < N → ∃ c2, s.heap[a]? = some c2 ∧ c2.vm ≠ .unknown ∧ c2.slots[(gD Γ).2 ci k]? = some (vp_V fs k) := fun k hk => by
    obtain ⟨cf, kf, fi, fd, g1, g2⟩ := hK.1 k hk
    obtain ⟨-, c2, q1, q2, -, -, q5⟩ := Term.field_spec g1 ht (hf k hk)
    exact ⟨c2, q1, q2, by rw [← g2]; exact q5⟩
  have hv : cell.vm ≠ .unknown := by
    obtain ⟨c2, q1, q2, -⟩ := hfd 0 h0
    cases Option.some.inj (q1.symm.trans h3)
    exact q2
  refine ⟨(C, T, N), cell, hc, h3, h5, hv, ?_, fun k hk => ?_⟩
  · have := hK.2.1
    exact h6.trans (Option.some.inj (h2.symm.trans this))
  · obtain ⟨c2, q1, -, q3⟩ := hfd k hk
    cases Option.some.inj (q1.symm.trans h3)
    exact q3
/-- classes by their names -/
theorem ex_c {t : Term} {cls : String} {a : Nat} {cA : ClassId} (h : (Cond.exactly t cls).before a0 s = true) (ht : t.eval a0 s none [] s = some (.ref a)) (hf : s.vm.findClass cls = some cA) : ∀ cell, s.heap[a]? = some cell → cell.cls = cA := by
  obtain ⟨a1, c, cell, k, h1, h2, h3, h4, h5, h6, -⟩ := Cond.exactly_spec h
  cases Option.some.inj (h1.symm.trans ht)
  intro c2 hc2
  cases Option.some.inj (hc2.symm.trans h3)
  exact h6.trans (Option.some.inj (h2.symm.trans hf))
theorem arr_k {cA : ClassId} {kA : Class} {comp : ClassId} {ty : FieldType} (h1 : s.vm.classes[cA]? = some kA) (h2 : kA.kind = .array comp ty) : ArrOfT s cA ty := fun n z => ⟨(fun k h => by cases h), kA, h1, comp, h2⟩
theorem sta_p (hts : ∀ w ∈ lw_tbl, w.before a0 s = true) {ty : FieldType} (hw : Cond.arrayClass ty ∈ lw_tbl) (hno : ∀ C, ty ≠ .object C) : ∃ cA, ArrOfT s cA ty ∧ va_RA s cA ty := by
  obtain ⟨c, k, comp, h1, h2, h3⟩ := Cond.arrayClass_spec (hts _ hw)
  refine ⟨c, arr_k h2 h3, ?_⟩
  cases ty <;> first | exact h1 | exact absurd rfl (hno _)
theorem sta_o (hts : ∀ w ∈ lw_tbl, w.before a0 s = true) {C : String} (hw : Cond.arrayOver (.object C) ∈ lw_tbl) : ∃ cA, ArrOfT s cA (.object C) ∧ va_RA s cA (.object C) := by
  obtain ⟨comp, c, k, h1, h2, h3, h4, h5⟩ := Cond.arrayOver_spec (hts _ hw)
  exact ⟨c, arr_k h3 h4, k, comp, h3, h4, h1, h5⟩
/-- the class of a constant row -/
theorem sta_s {t : Term} {C : String} (ho : (Cond.arrayOf t (.object C)).before a0 s = true) {a : Nat} (ht : t.eval a0 s none [] s = some (.ref a)) {cell : Cell} (hc : s.heap[a]? = some cell) : ArrOfT s cell.cls (.object C) := by
  obtain ⟨⟨h1, kA, h2, comp, h3⟩, -⟩ := Cond.arrayOf_spec ho ht hc
  exact arr_k h2 h3
end STA1
