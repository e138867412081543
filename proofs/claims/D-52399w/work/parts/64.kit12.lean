section W13
set_option maxRecDepth 100000
variable {X : XT} {P : Oc → ZR → AH → Prop} {z : ZR} {h : AH} {kc ns pc nL d : Nat} {lv : List (Nat × Value)} {st : List Value} {cc : ByteArray} {own mn : String} {ret : Option FieldType} {hh : List (Nat × Nat × Nat × Nat)}
theorem ww_tin (C : Cx X cc nL own mn ret hh d) {dflt lo hi : Int} {offs : Array Int} {len : Nat} {x : Int32} {off : Int} {tgt : Nat} (hd : decode cc pc = .ok (.tableswitch dflt lo hi offs, len)) (h1 : ¬ x.toInt < lo) (h2 : ¬ hi < x.toInt) (ho : offs[(x.toInt - lo).toNat]? = some off) (ht : (pc : Int) + off = (tgt : Int)) (k : WW X P z h kc ns tgt lv st) : WW X P z h kc ns pc lv (.int x :: st) :=
  fun a1 a2 H ls locs hI hl => lv_tableIn C.1 C.2.1 hd h1 h2 ho ht (k a1 a2 H ls locs hI hl)
theorem ww_tout (C : Cx X cc nL own mn ret hh d) {dflt lo hi : Int} {offs : Array Int} {len : Nat} {x : Int32} {tgt : Nat} (hd : decode cc pc = .ok (.tableswitch dflt lo hi offs, len)) (h0 : x.toInt < lo ∨ hi < x.toInt) (ht : (pc : Int) + dflt = (tgt : Int)) (k : WW X P z h kc ns tgt lv st) : WW X P z h kc ns pc lv (.int x :: st) :=
  fun a1 a2 H ls locs hI hl => lv_tableOut C.1 C.2.1 hd h0 ht (k a1 a2 H ls locs hI hl)
theorem ww_look (C : Cx X cc nL own mn ret hh d) {dflt : Int} {ps : Array (Int × Int)} {len : Nat} {x : Int32} {off : Int} {tgt : Nat} (hd : decode cc pc = .ok (.lookupswitch dflt ps, len)) (hp : (ps.toList.zip (ps.toList.drop 1)).all (fun (a, next) => a.1 < next.1) = true) (ho : Op.lookupswitch.offset ps.toList dflt x.toInt = off) (ht : (pc : Int) + off = (tgt : Int)) (k : WW X P z h kc ns tgt lv st) : WW X P z h kc ns pc lv (.int x :: st) :=
  fun a1 a2 H ls locs hI hl => lv_lookup C.1 C.2.1 hd hp ho ht (k a1 a2 H ls locs hI hl)
end W13
