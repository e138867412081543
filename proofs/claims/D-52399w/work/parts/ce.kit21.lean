section KIT21
set_option maxRecDepth 100000
variable {X : XT} {P : Oc → ZR → AH → Prop} {z : ZR} {h : AH} {kc ns pc nL d : Nat} {lv : List (Nat × Value)} {st : List Value} {cc : ByteArray} {own mn : String} {ret : Option FieldType} {hh : List (Nat × Nat × Nat × Nat)}
theorem ww_instS (C : Cx X cc nL own mn ret hh d) {nm : String} {T : u_T} {index a ci N : Nat} (hlink : Cond.classLink own index nm ∈ lw_all) (hc : clX[ci]? = some (nm, T, N)) (hd : decode cc pc = .ok (.instanceof index, 3)) (hr : rcv (xG X) z h a nm) (k : WW X P z h kc ns (pc + 3) lv (.int (nI 1) :: st)) : WW X P z h kc ns pc lv (.ref a :: st) := by
  intro a1 a2 H ls locs hI hl
  exact va_instS C.1 C.2.1 C.2.2.2.1 (C.2.2.2.2.1 _ hlink) ((Cx.K C).1 ci _ hc).2 (hr _ H C.2.2.2.2.2.2.2.1 hI.1) hd (k a1 a2 H ls locs hI hl)
end KIT21
