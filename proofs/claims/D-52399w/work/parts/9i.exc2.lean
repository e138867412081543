section EXC2
set_option maxRecDepth 100000
variable {p : Program} {l : Launch} {e : Env} {R : Room} {s : State} {m : MethodId} {args : Array Value} {below : List Frame} {meth : Method} {c : Code} {H : Heap} {locs : List Loc} {cells slots : Nat} {Q : State → Prop}
variable {mc ms : Nat} {free : Addr → Prop} {A0 A1 : Nat → Prop} {H0 : Heap} {a : Array Value} {ls : Array Slot} {st0 rest : List Value}
variable {Qc : Array Value → State → Outcome → State → Prop} {XC : String → Addr → State → State → Prop}
theorem vy_throw0 {cc : ByteArray} {pc : Nat} (hexec : p.tables.exec = Jvm.exec) (hb : c.code = cc) (hl : l.stackTraces = false) {own cls : String} {names : List String} {ik ic mc ms : Nat} {A : Nat → Prop}
    (hown : s.vm.findClass own = some m.cls) (hcls : Bundle.fit cls = true) (hnames : ∀ n ∈ names, Bundle.fit n = true)
    (hk : (Cond.classLink own ik cls).before args s = true) (hini : (Cond.initialized cls).before args s = true) (hat : ∀ w ∈ vx_at0 own ic cls names, w.before args s = true)
    (hgood : ∀ w ∈ Cond.classLink own ik cls :: Cond.initialized cls :: vx_at0 own ic cls names, vx_ot w = true)
    (hU : vx_Zq Bundle.tN "UNASSIGNED_STACK" Bundle.steD A s H) (hN : vx_Zq Bundle.tN "SUPPRESSED_SENTINEL" Bundle.listD A s H) (hsize : ls.size = c.maxLocals)
    (d0 : decode cc pc = .ok (.new ik, 3)) (d3 : decode cc (pc + 3) = .ok (.dup, 1)) (d4 : decode cc (pc + 4) = .ok (.invokespecial ic, 3)) (d7 : decode cc (pc + 7) = .ok (.athrow, 1))
    (hout : ∀ x ∈ c.exceptionTable.toList, covers x (pc + 7) = false)
    (hRframes : names.length + 3 < R.frames) (hRlocals : (rest.map fun v => v.category).sum + (13 * (names.length + 1) + 42) ≤ R.locals) (hRcells : cells + 1 ≤ R.cells) (hRslots : slots + 6 ≤ R.slots) (hlocks : meth.locks = false)
    (hx : ∀ (q9 : Addr) (t : State), s.vm.Alike t.vm → H.size ≤ t.heap.size → (∀ q : Nat, q < H.size → t.heap[q]? = H[q]?) → XC cls q9 s t)
    (hf : ∀ z ∈ locs, free z.base) (hc : cells + 1 ≤ mc) (hs : slots + 6 ≤ ms) :
    W p l e R s m args below meth c H locs cells slots (vx_MQ below Qc XC args s mc ms free) (F0 m pc ls rest) := by
  intro T hT X
  have htr : e.platform.stackTraces = false := (show e.platform.stackTraces = l.stackTraces by rw [X.admits.platform]).trans hl
  have Y := vx_rebase X (R' := { frames := R.frames, locals := R.locals, cells := 1, slots := 6 }) (Nat.le_refl _) (Nat.le_refl _) hRcells hRslots
  obtain ⟨s', hA⟩ : ∃ z, z = (T.setVm s.vm).setFrames (.invoking m args :: below) := ⟨_, rfl⟩
  rw [← hA] at Y
  have hvm : s'.vm = s.vm := by rw [hA]; rfl
  have hhp : s'.heap = H := by rw [hA]; exact hT
  have hW0 : s.WarmedH s'.vm := by rw [hvm]; exact State.WarmedH.refl s
  have hat' : ∀ w ∈ vx_at0 own ic cls names, w.before args s' = true := fun w hw => vx_ot_at hW0 hvm.symm (hgood w (List.mem_cons_of_mem _ (List.mem_cons_of_mem _ hw))) (hat w hw)
  have hk' : (Cond.classLink own ik cls).before args s' = true := vx_ot_at hW0 hvm.symm (hgood _ List.mem_cons_self) hk
  have hini' : (Cond.initialized cls).before args s' = true := vx_ot_at hW0 hvm.symm (hgood _ (List.mem_cons_of_mem _ List.mem_cons_self)) hini
  have hU' : vx_Zq Bundle.tN "UNASSIGNED_STACK" Bundle.steD A s' s'.heap := by rw [hhp]; exact vx_Zq.moved hW0.alike hU
  have hN' : vx_Zq Bundle.tN "SUPPRESSED_SENTINEL" Bundle.listD A s' s'.heap := by rw [hhp]; exact vx_Zq.moved hW0.alike hN
  have h : ∀ w ∈ Bundle.ownAtoms0 own ic cls names, w.before args s' = true := vx_own hat' (vx_isRefq hU'.1) (vx_isRefq hN'.1) hU'.2.word hN'.2.word
  have hown' : s'.vm.findClass own = some m.cls := by rw [hvm]; exact hown
  have hins : (Cond.instantiable cls 6).before args s' = true := h _ (by simp [Bundle.ownAtoms0])
  obtain ⟨vm₁, cX, kX, hfX, hkX, -, -, X₁, st1⟩ := Y.newCold hexec (own := own) (C := cls) (index := ik) (n := 6) hown' hk' hins hini'
    (g := F0 m pc ls rest) rfl (by rw [hb]; exact d0) (Nat.le_refl _) (Nat.le_refl _)
  generalize hT1 : (T.setVm vm₁).pushCell { cls := cX, slots := kX.instanceTypes.map defaultValue, vm := .none } = T1 at X₁ st1
  have hcat : (Value.ref T.heap.size).category = 1 := rfl
  have hcellA : T1.heap[T.heap.size]? = some (freshCell cX kX) := by rw [← hT1]; exact State.heap_pushCell_size _ _
  have d3' : decode c.code (pc + 3) = .ok (.dup, 1) := by rw [hb]; exact d3
  obtain ⟨U, hsteps, hrun, hend, hW, hsame, ce, hce, hO⟩ := X₁.ctorThrow0 hexec htr (own := own) (cls := cls) (names := names) (ic := ic) hown' hcls hnames h (fun x hx => nomatch hx) hfX hkX hcellA (by rw [hhp, hT]; exact Nat.le_refl _)
    (g := { method := m, pc := pc + 4, locals := ls, stack := .ref T.heap.size :: .ref T.heap.size :: rest, locked := none }) rfl hsize rfl rfl (rest := rest) rfl
    (by rw [hb]; exact d4) (by rw [hb]; exact d7) hout hRframes (by simp only [List.map_cons, List.sum_cons, hcat]; omega) hlocks
  obtain ⟨f1, f2⟩ := vx_frame hsame
  rw [hhp] at f1 f2
  have hWs : s.WarmedH U.vm := State.WarmedH.trans hW0 hW
  have hcl : s.vm.findClass cls = some ce.cls := by
    have h9 := hO.cls
    rw [hvm] at h9
    exact h9
  have hall : s.sameButNew ({ U with vm := s.vm } : State) locs mc ms := by
    subst hA
    obtain ⟨e1, e2⟩ := hsame
    rw [State.setFrames_setFrames] at e1
    have h2 : (T.setVm s.vm).sameButNew ({ U with vm := s.vm } : State) [] (0 + 1) (0 + 6) := ⟨e1, e2⟩
    have h3 := X.same.trans h2
    rw [List.append_nil] at h3
    exact h3.mono hc hs
  refine ⟨U, ?_, .threw T.heap.size, hrun, hend, Or.inr ⟨T.heap.size, rfl, cls, ce, locs, hx T.heap.size U hWs.alike f1 (fun q hq => f2 q hq (fun z hz => nomatch hz)), hce, hO.vm, hcl, hWs, hall, hf⟩⟩
  refine st1 _ ?_
  show Steps p.tables e below (T1.setTop { method := m, pc := pc + 3, locals := ls, stack := .ref T.heap.size :: rest, locked := none }) _
  jvm_step X₁.here [X₁.here.top, hexec, d3', Value.category]
  exact hsteps
end EXC2
section EXC3
set_option maxRecDepth 100000
variable {X : XT} {P : Oc → ZR → AH → Prop} {z : ZR} {h : AH} {kc ns pc nL d : Nat} {lv : List (Nat × Value)} {st : List Value} {cc : ByteArray} {own mn : String} {ret : Option FieldType} {hh : List (Nat × Nat × Nat × Nat)}
/-- words that hold by the tables alone -/
def dcW : Cond → Bool
  | .castable _ _ => true
  | .declares _ => true
  | _ => false
theorem Cx.dc (C : Cx X cc nL own mn ret hh d) {w : Cond} (hw : w ∈ lw_tbl) (h : dcW w = true) : w.before (xa X) (xs X) = true := by
  cases w <;> first | (cases h; done) | skip
  · exact va_Nw.use rfl (va_Nw.warmD C.2.2.2.2.2.2.2.1 (Cx.N C hw rfl))
  · exact va_Nw.use rfl (va_Nw.warmC C.2.2.2.2.2.2.2.1 (Cx.N C hw rfl))
theorem zq_any {Γ : Gm} (hΓ : GOK Γ) {Cn nm ds : String} (hn : Cond.isRef (.static Cn nm ds) ∈ flatL) (hly : Cond.laysStatic Cn nm ds ∈ lw_tbl) (hini : Cond.initialized Cn ∈ lw_all) : vx_Zq Cn nm ds (fun a => gN Γ ≤ a) (gS Γ) (gS Γ).heap := by
  obtain ⟨a0, hT, -, -, -, hN, -⟩ := hΓ
  exact vx_Zqof (hT _ hly) (hT _ (lw_all_tbl hini)) (flat_of_before _ hN _ hn) (fun a ha => Nat.not_le.mpr ha)
theorem zq_at (C : Cx X cc nL own mn ret hh d) {H : Heap} {locs : List Loc} (hI : Inv X z h H locs) {Cn nm ds : String} (hq : vx_Zq Cn nm ds (fun a => gN (xG X) ≤ a) (gS (xG X)) (gS (xG X)).heap) : vx_Zq Cn nm ds (fun a => gN (xG X) ≤ a) (xs X) H :=
  (vx_Zq.moved C.2.2.2.2.2.2.2.1.alike hq).kept (H1 := H) (fun a ha _ => hI.1.2.1 a ha)
theorem Inv.more {H H1 : Heap} {locs : List Loc} (hI : Inv X z h H locs) (z1 : H.size ≤ H1.size) (oq : ∀ q : Nat, q < H.size → H1[q]? = H[q]?) : Inv X z h H1 locs := by
  obtain ⟨⟨r1, r2, r3, r4⟩, hF, hL⟩ := hI
  refine ⟨⟨by omega, fun q hq => ?_, fun b e' hb => ?_, fun b e' hb => ?_⟩, hF.trans ⟨z1, fun q hq _ => oq q hq, fun b hb => Or.inl hb, fun _ _ q => q⟩, hL⟩
  · rw [oq q (by omega)]; exact r2 q hq
  · exact (r3 b e' hb).kept (oq b (r3 b e' hb).lt)
  · obtain ⟨q1, q2⟩ := r4 b e' hb
    exact ⟨q1.kept (oq b q1.lt), q2⟩
theorem ww_throw0 (C : Cx X cc nL own mn ret hh d) {cls : String} {names : List String} {ik ic : Nat} (hU : Cond.isRef (.static Bundle.tN "UNASSIGNED_STACK" Bundle.steD) ∈ flatL) (hN : Cond.isRef (.static Bundle.tN "SUPPRESSED_SENTINEL" Bundle.listD) ∈ flatL) (lU : Cond.laysStatic Bundle.tN "UNASSIGNED_STACK" Bundle.steD ∈ lw_tbl) (lN : Cond.laysStatic Bundle.tN "SUPPRESSED_SENTINEL" Bundle.listD ∈ lw_tbl) (hi0 : Cond.initialized Bundle.tN ∈ lw_all)
    (hcls : Bundle.fit cls = true) (hnames : ∀ n ∈ names, Bundle.fit n = true) (hk : Cond.classLink own ik cls ∈ lw_all) (hini : Cond.initialized cls ∈ lw_all) (hat : ∀ w ∈ vx_at0 own ic cls names, w ∈ lw_all ∨ (w ∈ lw_tbl ∧ dcW w = true))
    (hgood : ∀ w ∈ Cond.classLink own ik cls :: Cond.initialized cls :: vx_at0 own ic cls names, vx_ot w = true)
    (d0 : decode cc pc = .ok (.new ik, 3)) (d3 : decode cc (pc + 3) = .ok (.dup, 1)) (d4 : decode cc (pc + 4) = .ok (.invokespecial ic, 3)) (d7 : decode cc (pc + 7) = .ok (.athrow, 1))
    (hout : ∀ x ∈ tableOf hh, covers x (pc + 7) = false) (hd : names.length + 3 < d) (hct : (st.map fun v => v.category).sum + (13 * (names.length + 1) + 42) ≤ 48 * d) (hkc : 1 ≤ kc) (hns : 6 ≤ ns) (hp : ∀ q, P (.inr (cls, q)) z h) : WW X P z h kc ns pc lv st := by
  intro a1 a2 H ls locs hI hl
  exact vy_throw0 (A := fun a => gN (xG X) ≤ a) C.1 C.2.1 (by unfold Launch.stackTraces; rw [Cx.fl C]; decide) C.2.2.2.1 hcls hnames (C.2.2.2.2.1 _ hk) (C.2.2.2.2.1 _ hini)
    (fun w hw => (hat w hw).elim (fun q => C.2.2.2.2.1 _ q) (fun q => Cx.dc C q.1 q.2)) hgood (zq_at C hI (zq_any (Cx.ok C) hU lU hi0)) (zq_at C hI (zq_any (Cx.ok C) hN lN hi0)) ((Cx.sz C hl).trans C.2.2.1.symm)
    d0 d3 d4 d7 (by rw [C.2.2.2.2.2.2.2.2.2.2.2.1]; exact hout) (by rw [C.2.2.2.2.2.2.2.2.2.2.2.2.1]; exact hd) (by rw [C.2.2.2.2.2.2.2.2.2.2.2.2.2]; exact hct) (by omega) (by omega) C.2.2.2.2.2.2.1
    (fun q9 t _ t1 t2 => ⟨z, h, hp q9, (Inv.more hI t1 t2).1, (Inv.more hI t1 t2).2.1⟩) hI.2.2 (by omega) (by omega)
/-- caught by the method's only handler -/
theorem wx_catch (C : Cx X cc nL own mn ret hh d) {E name : String} {q : Nat} {x : ExceptionTableEntry} (ht : tableOf hh = [x]) (hx : covers x pc = true) (h0 : x.catchType ≠ 0) (hlink : Cond.classLink own x.catchType name ∈ lw_all) (hcast : Cond.castable E name ∈ lw_tbl) (k : WW X P z h kc ns x.handlerPc lv [.ref q]) : WX X P z h kc ns pc lv E q := by
  intro a1 a2 H ls locs rest ce hI hl hcell hv hcl
  exact vx_catch C.2.2.2.1 [] x [] (by rw [C.2.2.2.2.2.2.2.2.2.2.2.1, ht]; rfl) (fun _ h => nomatch h) hx h0 (C.2.2.2.2.1 _ hlink) (Cx.dc C hcast rfl) hcell hv hcl (k a1 a2 H ls locs hI hl)
end EXC3
