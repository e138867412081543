section KIT15
set_option maxRecDepth 100000
variable {X : XT} {P : Oc → ZR → AH → Prop} {z : ZR} {h : AH} {kc ns pc nL d : Nat} {lv : List (Nat × Value)} {st : List Value} {cc : ByteArray} {own mn : String} {ret : Option FieldType} {hh : List (Nat × Nat × Nat × Nat)}
theorem Cx.nc (C : Cx X cc nL own mn ret hh d) {E nm : String} (hw : Cond.not (.castable E nm) ∈ flatL) : va_Nc E nm (xs X) := by
  obtain ⟨a0, -, -, -, -, hN, -⟩ := C.2.2.2.2.2.2.2.2.1
  exact va_Nc.moved C.2.2.2.2.2.2.2.1.alike (va_Nc.of (flat_of_before _ hN _ hw))
/-- caught by one of several handlers -/
theorem wx_catchG (C : Cx X cc nL own mn ret hh d) {E name : String} {q : Nat} (pre : List ExceptionTableEntry) (x : ExceptionTableEntry) (suf : List ExceptionTableEntry) (ht : tableOf hh = pre ++ x :: suf)
    (hpass : ∀ y ∈ pre, y.catchType ≠ 0 ∧ ∃ nm : String, Cond.classLink own y.catchType nm ∈ lw_all ∧ Cond.not (.castable E nm) ∈ flatL) (hx : covers x pc = true) (h0 : x.catchType ≠ 0) (hlink : Cond.classLink own x.catchType name ∈ lw_all) (hcast : Cond.castable E name ∈ lw_tbl) (k : WW X P z h kc ns x.handlerPc lv [.ref q]) : WX X P z h kc ns pc lv E q := by
  intro a1 a2 H ls locs rest ce hI hl hcell hv hcl
  exact vx_catch C.2.2.2.1 pre x suf (by rw [C.2.2.2.2.2.2.2.2.2.2.2.1, ht]) (fun y hy => Or.inr ⟨(hpass y hy).1, (hpass y hy).2.choose, C.2.2.2.2.1 _ (hpass y hy).2.choose_spec.1, Cx.nc C (hpass y hy).2.choose_spec.2⟩) hx h0 (C.2.2.2.2.1 _ hlink) (Cx.dc C hcast rfl) hcell hv hcl (k a1 a2 H ls locs hI hl)
theorem nc_ISE : Cond.not (.castable "java/lang/IllegalStateException" "java/lang/IndexOutOfBoundsException") ∈ flatL := by decide +kernel
/-- the law's row of one long -/
def cOu (Γ : Gm) (f : Nat → Int64) : va_E := .inl (gA Γ 2, (1, .inr (.inl f)))
/-- a law's helper: what was thrown; the answer lies in the row -/
def HlP (Γ : Gm) (z : ZR) (h : AH) (o : Nat) (q : Int32 × Nat) : Oc → ZR → AH → Prop := Rv (fun v z' h' => v = .int (nI q.2) ∧ z' = z ∧ ∃ f, h' = up h o (cOu Γ f) ∧ (q.2 = 0 → f 0 = q.1.toInt64))
def HuP (Γ : Gm) (z : ZR) (h : AH) (o : Nat) (A : Nat → Nat) (G : GG) (q : (Int32 × Nat) × GB) : Oc → ZR → AH → Prop := Rv (fun v z' h' => v = .int (nI q.1.2) ∧ z' = z ∧ ∃ f, h' = up (if q.1.2 = 0 then gmH Γ h A G q.2 else h) o (cOu Γ f) ∧ (q.1.2 = 0 → f 0 = q.1.1.toInt64))
theorem updL_0 {f : Nat → Int64} {x : Int64} : vp_updL f 0 x 0 = x := by simp [vp_updL]
theorem bI_64 {b : Bool} (h : ¬ bI b = 0) : (bI b).toInt64 = (1 : Int64) := by cases b <;> first | (exact absurd rfl h) | rfl
theorem bI_640 {b : Bool} (h : bI b = 0) : (bI b).toInt64 = (0 : Int64) := by rw [h]; rfl
end KIT15
