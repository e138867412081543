section WR
set_option maxRecDepth 100000
variable {X : XT} {P : Oc → ZR → AH → Prop} {z : ZR} {h : AH} {kc ns pc nL d : Nat} {lv : List (Nat × Value)} {st : List Value} {cc : ByteArray} {own mn : String} {ret : Option FieldType} {hh : List (Nat × Nat × Nat × Nat)}
theorem ww_iconst (C : Cx X cc nL own mn ret hh d) {n : Int} {v : Int32} (hd : decode cc pc = .ok (.iconst n, 1)) (hv : Int32.ofInt n = v) (k : WW X P z h kc ns (pc + 1) lv (.int v :: st)) : WW X P z h kc ns pc lv (st) := by
  intro a1 a2 H ls locs hI hl
  exact lv_iconst C.1 C.2.1 hd hv (k a1 a2 H ls locs hI hl)
theorem ww_bipush (C : Cx X cc nL own mn ret hh d) {n : Int} {v : Int32} (hd : decode cc pc = .ok (.bipush n, 2)) (hv : (Int8.ofInt n).toInt32 = v) (k : WW X P z h kc ns (pc + 2) lv (.int v :: st)) : WW X P z h kc ns pc lv (st) := by
  intro a1 a2 H ls locs hI hl
  exact lv_bipush C.1 C.2.1 hd hv (k a1 a2 H ls locs hI hl)
theorem ww_sipush (C : Cx X cc nL own mn ret hh d) {n : Int} {v : Int32} (hd : decode cc pc = .ok (.sipush n, 3)) (hv : (Int16.ofInt n).toInt32 = v) (k : WW X P z h kc ns (pc + 3) lv (.int v :: st)) : WW X P z h kc ns pc lv (st) := by
  intro a1 a2 H ls locs hI hl
  exact lv_sipush C.1 C.2.1 hd hv (k a1 a2 H ls locs hI hl)
theorem ww_lconst (C : Cx X cc nL own mn ret hh d) {n : Fin 2} {v : Int64} (hd : decode cc pc = .ok (.lconst n, 1)) (hv : Int64.ofNat (n : Nat) = v) (k : WW X P z h kc ns (pc + 1) lv (.long v :: st)) : WW X P z h kc ns pc lv (st) := by
  intro a1 a2 H ls locs hI hl
  exact lv_lconst C.1 C.2.1 hd hv (k a1 a2 H ls locs hI hl)
theorem ww_null (C : Cx X cc nL own mn ret hh d)  (hd : decode cc pc = .ok (.aconst_null, 1))  (k : WW X P z h kc ns (pc + 1) lv (.null :: st)) : WW X P z h kc ns pc lv (st) := by
  intro a1 a2 H ls locs hI hl
  exact lv_null C.1 C.2.1 hd  (k a1 a2 H ls locs hI hl)
theorem ww_dconst0 (C : Cx X cc nL own mn ret hh d)  (hd : decode cc pc = .ok (.dconst 0, 1))  (k : WW X P z h kc ns (pc + 1) lv (.double FP.dconst0 :: st)) : WW X P z h kc ns pc lv (st) := by
  intro a1 a2 H ls locs hI hl
  exact lv_dconst0 C.1 C.2.1 hd  (k a1 a2 H ls locs hI hl)
theorem ww_iload_n (C : Cx X cc nL own mn ret hh d) {i0 : Fin 4} {i : Nat} {x : Int32} (hd : decode cc pc = .ok (.iload_n i0, 1)) (hi : (i0 : Nat) = i) (j : Nat) (hv : lv[j]? = some (i, .int x)) (k : WW X P z h kc ns (pc + 1) lv (.int x :: st)) : WW X P z h kc ns pc lv st := by
  intro a1 a2 H ls locs hI hl
  exact lv_iload_n C.1 C.2.1 hd hi (lv_at hl j hv) (k a1 a2 H ls locs hI hl)
theorem ww_iload (C : Cx X cc nL own mn ret hh d) {i : Nat} {x : Int32} (hd : decode cc pc = .ok (.iload i, 2)) (j : Nat) (hv : lv[j]? = some (i, .int x)) (k : WW X P z h kc ns (pc + 2) lv (.int x :: st)) : WW X P z h kc ns pc lv st := by
  intro a1 a2 H ls locs hI hl
  exact lv_iload C.1 C.2.1 hd (lv_at hl j hv) (k a1 a2 H ls locs hI hl)
theorem ww_lload_n (C : Cx X cc nL own mn ret hh d) {i0 : Fin 4} {i : Nat} {x : Int64} (hd : decode cc pc = .ok (.lload_n i0, 1)) (hi : (i0 : Nat) = i) (j : Nat) (hv : lv[j]? = some (i, .long x)) (k : WW X P z h kc ns (pc + 1) lv (.long x :: st)) : WW X P z h kc ns pc lv st := by
  intro a1 a2 H ls locs hI hl
  exact lv_lload_n C.1 C.2.1 hd hi (lv_at hl j hv) (k a1 a2 H ls locs hI hl)
theorem ww_lload (C : Cx X cc nL own mn ret hh d) {i : Nat} {x : Int64} (hd : decode cc pc = .ok (.lload i, 2)) (j : Nat) (hv : lv[j]? = some (i, .long x)) (k : WW X P z h kc ns (pc + 2) lv (.long x :: st)) : WW X P z h kc ns pc lv st := by
  intro a1 a2 H ls locs hI hl
  exact lv_lload C.1 C.2.1 hd (lv_at hl j hv) (k a1 a2 H ls locs hI hl)
theorem ww_dload_n (C : Cx X cc nL own mn ret hh d) {i0 : Fin 4} {i : Nat} {x : UInt64} (hd : decode cc pc = .ok (.dload_n i0, 1)) (hi : (i0 : Nat) = i) (j : Nat) (hv : lv[j]? = some (i, .double x)) (k : WW X P z h kc ns (pc + 1) lv (.double x :: st)) : WW X P z h kc ns pc lv st := by
  intro a1 a2 H ls locs hI hl
  exact lv_dload_n C.1 C.2.1 hd hi (lv_at hl j hv) (k a1 a2 H ls locs hI hl)
theorem ww_dload (C : Cx X cc nL own mn ret hh d) {i : Nat} {x : UInt64} (hd : decode cc pc = .ok (.dload i, 2)) (j : Nat) (hv : lv[j]? = some (i, .double x)) (k : WW X P z h kc ns (pc + 2) lv (.double x :: st)) : WW X P z h kc ns pc lv st := by
  intro a1 a2 H ls locs hI hl
  exact lv_dload C.1 C.2.1 hd (lv_at hl j hv) (k a1 a2 H ls locs hI hl)
theorem ww_aload_n (C : Cx X cc nL own mn ret hh d) {i0 : Fin 4} {i : Nat} {v : Value} (hd : decode cc pc = .ok (.aload_n i0, 1)) (hi : (i0 : Nat) = i) (j : Nat) (hv : lv[j]? = some (i, v)) (hr : v.isRef = true) (k : WW X P z h kc ns (pc + 1) lv (v :: st)) : WW X P z h kc ns pc lv st := by
  intro a1 a2 H ls locs hI hl
  cases v with
  | null => exact lv_aload_nN C.1 C.2.1 hd hi (lv_at hl j hv) (k a1 a2 H ls locs hI hl)
  | ref a => exact lv_aload_n C.1 C.2.1 hd hi (lv_at hl j hv) (k a1 a2 H ls locs hI hl)
  | _ => cases hr
theorem ww_aload (C : Cx X cc nL own mn ret hh d) {i : Nat} {v : Value} (hd : decode cc pc = .ok (.aload i, 2)) (j : Nat) (hv : lv[j]? = some (i, v)) (hr : v.isRef = true) (k : WW X P z h kc ns (pc + 2) lv (v :: st)) : WW X P z h kc ns pc lv st := by
  intro a1 a2 H ls locs hI hl
  cases v with
  | null => exact lv_aloadN C.1 C.2.1 hd (lv_at hl j hv) (k a1 a2 H ls locs hI hl)
  | ref a => exact lv_aload C.1 C.2.1 hd (lv_at hl j hv) (k a1 a2 H ls locs hI hl)
  | _ => cases hr
theorem ww_istore_n (C : Cx X cc nL own mn ret hh d) {i0 : Fin 4} {i : Nat} {x : Int32} {lv' : List (Nat × Value)} (hd : decode cc pc = .ok (.istore_n i0, 1)) (hi : (i0 : Nat) = i) (hn : i < nL) (hl' : (i, Value.int x) :: lv.filter (fun q => !(q.1 == i) && !(q.1 + 1 == i && q.2.category == 2)) = lv') (k : WW X P z h kc ns (pc + 1) lv' st) : WW X P z h kc ns pc lv (.int x :: st) := by
  intro a1 a2 H ls locs hI hl
  exact lv_istore_n C.1 C.2.1 hd hi hl (by rw [C.2.2.1]; exact hn) hl' (fun ls' hl9 => k a1 a2 H ls' locs hI hl9)
theorem ww_lstore_n (C : Cx X cc nL own mn ret hh d) {i0 : Fin 4} {i : Nat} {x : Int64} {lv' : List (Nat × Value)} (hd : decode cc pc = .ok (.lstore_n i0, 1)) (hi : (i0 : Nat) = i) (hn : i + 1 < nL) (hl' : (i, Value.long x) :: lv.filter (fun q => !(q.1 == i) && (!(q.1 == i + 1) && !(q.1 + 1 == i && q.2.category == 2))) = lv') (k : WW X P z h kc ns (pc + 1) lv' st) : WW X P z h kc ns pc lv (.long x :: st) := by
  intro a1 a2 H ls locs hI hl
  exact lv_lstore_n C.1 C.2.1 hd hi hl (by rw [C.2.2.1]; exact hn) hl' (fun ls' hl9 => k a1 a2 H ls' locs hI hl9)
theorem ww_dstore_n (C : Cx X cc nL own mn ret hh d) {i0 : Fin 4} {i : Nat} {x : UInt64} {lv' : List (Nat × Value)} (hd : decode cc pc = .ok (.dstore_n i0, 1)) (hi : (i0 : Nat) = i) (hn : i + 1 < nL) (hl' : (i, Value.double x) :: lv.filter (fun q => !(q.1 == i) && (!(q.1 == i + 1) && !(q.1 + 1 == i && q.2.category == 2))) = lv') (k : WW X P z h kc ns (pc + 1) lv' st) : WW X P z h kc ns pc lv (.double x :: st) := by
  intro a1 a2 H ls locs hI hl
  exact lv_dstore_n C.1 C.2.1 hd hi hl (by rw [C.2.2.1]; exact hn) hl' (fun ls' hl9 => k a1 a2 H ls' locs hI hl9)
theorem ww_istore (C : Cx X cc nL own mn ret hh d) {i : Nat} {x : Int32} {lv' : List (Nat × Value)} (hd : decode cc pc = .ok (.istore i, 2)) (hn : i < nL) (hl' : (i, Value.int x) :: lv.filter (fun q => !(q.1 == i) && !(q.1 + 1 == i && q.2.category == 2)) = lv') (k : WW X P z h kc ns (pc + 2) lv' st) : WW X P z h kc ns pc lv (.int x :: st) := by
  intro a1 a2 H ls locs hI hl
  exact lv_istore C.1 C.2.1 hd  hl (by rw [C.2.2.1]; exact hn) hl' (fun ls' hl9 => k a1 a2 H ls' locs hI hl9)
theorem ww_lstore (C : Cx X cc nL own mn ret hh d) {i : Nat} {x : Int64} {lv' : List (Nat × Value)} (hd : decode cc pc = .ok (.lstore i, 2)) (hn : i + 1 < nL) (hl' : (i, Value.long x) :: lv.filter (fun q => !(q.1 == i) && (!(q.1 == i + 1) && !(q.1 + 1 == i && q.2.category == 2))) = lv') (k : WW X P z h kc ns (pc + 2) lv' st) : WW X P z h kc ns pc lv (.long x :: st) := by
  intro a1 a2 H ls locs hI hl
  exact lv_lstore C.1 C.2.1 hd  hl (by rw [C.2.2.1]; exact hn) hl' (fun ls' hl9 => k a1 a2 H ls' locs hI hl9)
theorem ww_dstore (C : Cx X cc nL own mn ret hh d) {i : Nat} {x : UInt64} {lv' : List (Nat × Value)} (hd : decode cc pc = .ok (.dstore i, 2)) (hn : i + 1 < nL) (hl' : (i, Value.double x) :: lv.filter (fun q => !(q.1 == i) && (!(q.1 == i + 1) && !(q.1 + 1 == i && q.2.category == 2))) = lv') (k : WW X P z h kc ns (pc + 2) lv' st) : WW X P z h kc ns pc lv (.double x :: st) := by
  intro a1 a2 H ls locs hI hl
  exact lv_dstore C.1 C.2.1 hd  hl (by rw [C.2.2.1]; exact hn) hl' (fun ls' hl9 => k a1 a2 H ls' locs hI hl9)
theorem ww_astore_n (C : Cx X cc nL own mn ret hh d) {i0 : Fin 4} {i : Nat} {v : Value} {lv' : List (Nat × Value)} (hd : decode cc pc = .ok (.astore_n i0, 1)) (hi : (i0 : Nat) = i) (hn : i < nL) (hr : v.isRef = true) (hl' : (i, v) :: lv.filter (fun q => !(q.1 == i) && !(q.1 + 1 == i && q.2.category == 2)) = lv') (k : WW X P z h kc ns (pc + 1) lv' st) : WW X P z h kc ns pc lv (v :: st) := by
  intro a1 a2 H ls locs hI hl
  cases v with
  | null => exact lv_astore_nN C.1 C.2.1 hd hi hl (by rw [C.2.2.1]; exact hn) hl' (fun ls' hl9 => k a1 a2 H ls' locs hI hl9)
  | ref a => exact lv_astore_n C.1 C.2.1 hd hi hl (by rw [C.2.2.1]; exact hn) hl' (fun ls' hl9 => k a1 a2 H ls' locs hI hl9)
  | _ => cases hr
theorem ww_astore (C : Cx X cc nL own mn ret hh d) {i : Nat} {v : Value} {lv' : List (Nat × Value)} (hd : decode cc pc = .ok (.astore i, 2)) (hn : i < nL) (hr : v.isRef = true) (hl' : (i, v) :: lv.filter (fun q => !(q.1 == i) && !(q.1 + 1 == i && q.2.category == 2)) = lv') (k : WW X P z h kc ns (pc + 2) lv' st) : WW X P z h kc ns pc lv (v :: st) := by
  intro a1 a2 H ls locs hI hl
  cases v with
  | null => exact lv_astoreN C.1 C.2.1 hd  hl (by rw [C.2.2.1]; exact hn) hl' (fun ls' hl9 => k a1 a2 H ls' locs hI hl9)
  | ref a => exact lv_astore C.1 C.2.1 hd  hl (by rw [C.2.2.1]; exact hn) hl' (fun ls' hl9 => k a1 a2 H ls' locs hI hl9)
  | _ => cases hr
theorem ww_iinc (C : Cx X cc nL own mn ret hh d) {i : Nat} {n : Int} {x v : Int32} {lv' : List (Nat × Value)} (hd : decode cc pc = .ok (.iinc i n, 3)) (j : Nat) (hk : lv[j]? = some (i, .int x)) (hv : x + Int32.ofInt n = v) (hn : i < nL) (hl' : (i, Value.int v) :: lv.filter (fun q => !(q.1 == i) && !(q.1 + 1 == i && q.2.category == 2)) = lv') (k : WW X P z h kc ns (pc + 3) lv' st) : WW X P z h kc ns pc lv st := by
  intro a1 a2 H ls locs hI hl
  exact lv_iinc C.1 C.2.1 hd hl hk hv (by rw [C.2.2.1]; exact hn) hl' (fun ls' hl9 => k a1 a2 H ls' locs hI hl9)
/-- fewer locals, in another order -/
theorem ww_sub (ks : List Nat) {lv' : List (Nat × Value)} (hk : lv_pick lv ks = lv') (k : WW X P z h kc ns pc lv' st) : WW X P z h kc ns pc lv st := by
  intro a1 a2 H ls locs hI hl
  exact k a1 a2 H ls locs hI (lv_sub hl ks hk)
theorem ww_iadd (C : Cx X cc nL own mn ret hh d) {x y : Int32} (hd : decode cc pc = .ok (.iadd, 1))  (k : WW X P z h kc ns (pc + 1) lv (.int (x + y) :: st)) : WW X P z h kc ns pc lv (.int y :: .int x :: st) := by
  intro a1 a2 H ls locs hI hl
  exact lv_iadd C.1 C.2.1 hd  (k a1 a2 H ls locs hI hl)
theorem ww_isub (C : Cx X cc nL own mn ret hh d) {x y : Int32} (hd : decode cc pc = .ok (.isub, 1))  (k : WW X P z h kc ns (pc + 1) lv (.int (x - y) :: st)) : WW X P z h kc ns pc lv (.int y :: .int x :: st) := by
  intro a1 a2 H ls locs hI hl
  exact lv_isub C.1 C.2.1 hd  (k a1 a2 H ls locs hI hl)
theorem ww_imul (C : Cx X cc nL own mn ret hh d) {x y : Int32} (hd : decode cc pc = .ok (.imul, 1))  (k : WW X P z h kc ns (pc + 1) lv (.int (x * y) :: st)) : WW X P z h kc ns pc lv (.int y :: .int x :: st) := by
  intro a1 a2 H ls locs hI hl
  exact lv_imul C.1 C.2.1 hd  (k a1 a2 H ls locs hI hl)
theorem ww_iand (C : Cx X cc nL own mn ret hh d) {x y : Int32} (hd : decode cc pc = .ok (.iand, 1))  (k : WW X P z h kc ns (pc + 1) lv (.int (x &&& y) :: st)) : WW X P z h kc ns pc lv (.int y :: .int x :: st) := by
  intro a1 a2 H ls locs hI hl
  exact lv_iand C.1 C.2.1 hd  (k a1 a2 H ls locs hI hl)
theorem ww_ior (C : Cx X cc nL own mn ret hh d) {x y : Int32} (hd : decode cc pc = .ok (.ior, 1))  (k : WW X P z h kc ns (pc + 1) lv (.int (x ||| y) :: st)) : WW X P z h kc ns pc lv (.int y :: .int x :: st) := by
  intro a1 a2 H ls locs hI hl
  exact lv_ior C.1 C.2.1 hd  (k a1 a2 H ls locs hI hl)
theorem ww_ixor (C : Cx X cc nL own mn ret hh d) {x y : Int32} (hd : decode cc pc = .ok (.ixor, 1))  (k : WW X P z h kc ns (pc + 1) lv (.int (x ^^^ y) :: st)) : WW X P z h kc ns pc lv (.int y :: .int x :: st) := by
  intro a1 a2 H ls locs hI hl
  exact lv_ixor C.1 C.2.1 hd  (k a1 a2 H ls locs hI hl)
theorem ww_ladd (C : Cx X cc nL own mn ret hh d) {x y : Int64} (hd : decode cc pc = .ok (.ladd, 1))  (k : WW X P z h kc ns (pc + 1) lv (.long (x + y) :: st)) : WW X P z h kc ns pc lv (.long y :: .long x :: st) := by
  intro a1 a2 H ls locs hI hl
  exact lv_ladd C.1 C.2.1 hd  (k a1 a2 H ls locs hI hl)
theorem ww_lsub (C : Cx X cc nL own mn ret hh d) {x y : Int64} (hd : decode cc pc = .ok (.lsub, 1))  (k : WW X P z h kc ns (pc + 1) lv (.long (x - y) :: st)) : WW X P z h kc ns pc lv (.long y :: .long x :: st) := by
  intro a1 a2 H ls locs hI hl
  exact lv_lsub C.1 C.2.1 hd  (k a1 a2 H ls locs hI hl)
theorem ww_lmul (C : Cx X cc nL own mn ret hh d) {x y : Int64} (hd : decode cc pc = .ok (.lmul, 1))  (k : WW X P z h kc ns (pc + 1) lv (.long (x * y) :: st)) : WW X P z h kc ns pc lv (.long y :: .long x :: st) := by
  intro a1 a2 H ls locs hI hl
  exact lv_lmul C.1 C.2.1 hd  (k a1 a2 H ls locs hI hl)
theorem ww_land (C : Cx X cc nL own mn ret hh d) {x y : Int64} (hd : decode cc pc = .ok (.land, 1))  (k : WW X P z h kc ns (pc + 1) lv (.long (x &&& y) :: st)) : WW X P z h kc ns pc lv (.long y :: .long x :: st) := by
  intro a1 a2 H ls locs hI hl
  exact lv_land C.1 C.2.1 hd  (k a1 a2 H ls locs hI hl)
theorem ww_lor (C : Cx X cc nL own mn ret hh d) {x y : Int64} (hd : decode cc pc = .ok (.lor, 1))  (k : WW X P z h kc ns (pc + 1) lv (.long (x ||| y) :: st)) : WW X P z h kc ns pc lv (.long y :: .long x :: st) := by
  intro a1 a2 H ls locs hI hl
  exact lv_lor C.1 C.2.1 hd  (k a1 a2 H ls locs hI hl)
theorem ww_lxor (C : Cx X cc nL own mn ret hh d) {x y : Int64} (hd : decode cc pc = .ok (.lxor, 1))  (k : WW X P z h kc ns (pc + 1) lv (.long (x ^^^ y) :: st)) : WW X P z h kc ns pc lv (.long y :: .long x :: st) := by
  intro a1 a2 H ls locs hI hl
  exact lv_lxor C.1 C.2.1 hd  (k a1 a2 H ls locs hI hl)
theorem ww_idiv (C : Cx X cc nL own mn ret hh d) {x y : Int32} (hd : decode cc pc = .ok (.idiv, 1)) (hne : ¬ y = 0) (k : WW X P z h kc ns (pc + 1) lv (.int (x / y) :: st)) : WW X P z h kc ns pc lv (.int y :: .int x :: st) := by
  intro a1 a2 H ls locs hI hl
  exact lv_idiv C.1 C.2.1 hd hne (k a1 a2 H ls locs hI hl)
theorem ww_irem (C : Cx X cc nL own mn ret hh d) {x y : Int32} (hd : decode cc pc = .ok (.irem, 1)) (hne : ¬ y = 0) (k : WW X P z h kc ns (pc + 1) lv (.int (x - x / y * y) :: st)) : WW X P z h kc ns pc lv (.int y :: .int x :: st) := by
  intro a1 a2 H ls locs hI hl
  exact lv_irem C.1 C.2.1 hd hne (k a1 a2 H ls locs hI hl)
theorem ww_ineg (C : Cx X cc nL own mn ret hh d) {x : Int32} (hd : decode cc pc = .ok (.ineg, 1))  (k : WW X P z h kc ns (pc + 1) lv (.int (-x) :: st)) : WW X P z h kc ns pc lv (.int x :: st) := by
  intro a1 a2 H ls locs hI hl
  exact lv_ineg C.1 C.2.1 hd  (k a1 a2 H ls locs hI hl)
theorem ww_ishl (C : Cx X cc nL own mn ret hh d) {x y : Int32} (hd : decode cc pc = .ok (.ishl, 1))  (k : WW X P z h kc ns (pc + 1) lv (.int (x <<< (y &&& 31)) :: st)) : WW X P z h kc ns pc lv (.int y :: .int x :: st) := by
  intro a1 a2 H ls locs hI hl
  exact lv_ishl C.1 C.2.1 hd  (k a1 a2 H ls locs hI hl)
theorem ww_ishr (C : Cx X cc nL own mn ret hh d) {x y : Int32} (hd : decode cc pc = .ok (.ishr, 1))  (k : WW X P z h kc ns (pc + 1) lv (.int (x >>> (y &&& 31)) :: st)) : WW X P z h kc ns pc lv (.int y :: .int x :: st) := by
  intro a1 a2 H ls locs hI hl
  exact lv_ishr C.1 C.2.1 hd  (k a1 a2 H ls locs hI hl)
theorem ww_iushr (C : Cx X cc nL own mn ret hh d) {x y v : Int32} (hd : decode cc pc = .ok (.iushr, 1)) (hv : (x.toUInt32 >>> (y.toUInt32 &&& Int32.toUInt32 31)).toInt32 = v) (k : WW X P z h kc ns (pc + 1) lv (.int v :: st)) : WW X P z h kc ns pc lv (.int y :: .int x :: st) := by
  intro a1 a2 H ls locs hI hl
  exact lv_iushr C.1 C.2.1 hd hv (k a1 a2 H ls locs hI hl)
theorem ww_lushr (C : Cx X cc nL own mn ret hh d) {x v : Int64} {y : Int32} (hd : decode cc pc = .ok (.lushr, 1)) (hv : (x.toUInt64 >>> (y.toInt64.toUInt64 &&& Int64.toUInt64 63)).toInt64 = v) (k : WW X P z h kc ns (pc + 1) lv (.long v :: st)) : WW X P z h kc ns pc lv (.int y :: .long x :: st) := by
  intro a1 a2 H ls locs hI hl
  exact lv_lushr C.1 C.2.1 hd hv (k a1 a2 H ls locs hI hl)
theorem ww_lshl (C : Cx X cc nL own mn ret hh d) {x v : Int64} {y : Int32} (hd : decode cc pc = .ok (.lshl, 1)) (hv : x <<< (y.toInt64 &&& 63) = v) (k : WW X P z h kc ns (pc + 1) lv (.long v :: st)) : WW X P z h kc ns pc lv (.int y :: .long x :: st) := by
  intro a1 a2 H ls locs hI hl
  exact lv_lshl C.1 C.2.1 hd hv (k a1 a2 H ls locs hI hl)
theorem ww_i2l (C : Cx X cc nL own mn ret hh d) {x : Int32} {v : Int64} (hd : decode cc pc = .ok (.i2l, 1)) (hv : x.toInt64 = v) (k : WW X P z h kc ns (pc + 1) lv (.long v :: st)) : WW X P z h kc ns pc lv (.int x :: st) := by
  intro a1 a2 H ls locs hI hl
  exact lv_i2l C.1 C.2.1 hd hv (k a1 a2 H ls locs hI hl)
theorem ww_l2i (C : Cx X cc nL own mn ret hh d) {x : Int64} {v : Int32} (hd : decode cc pc = .ok (.l2i, 1)) (hv : x.toInt32 = v) (k : WW X P z h kc ns (pc + 1) lv (.int v :: st)) : WW X P z h kc ns pc lv (.long x :: st) := by
  intro a1 a2 H ls locs hI hl
  exact lv_l2i C.1 C.2.1 hd hv (k a1 a2 H ls locs hI hl)
theorem ww_i2b (C : Cx X cc nL own mn ret hh d) {x v : Int32} (hd : decode cc pc = .ok (.i2b, 1)) (hv : x.toInt8.toInt32 = v) (k : WW X P z h kc ns (pc + 1) lv (.int v :: st)) : WW X P z h kc ns pc lv (.int x :: st) := by
  intro a1 a2 H ls locs hI hl
  exact lv_i2b C.1 C.2.1 hd hv (k a1 a2 H ls locs hI hl)
theorem ww_i2c (C : Cx X cc nL own mn ret hh d) {x v : Int32} (hd : decode cc pc = .ok (.i2c, 1)) (hv : (x.toUInt32 % 65536).toInt32 = v) (k : WW X P z h kc ns (pc + 1) lv (.int v :: st)) : WW X P z h kc ns pc lv (.int x :: st) := by
  intro a1 a2 H ls locs hI hl
  exact lv_i2c C.1 C.2.1 hd hv (k a1 a2 H ls locs hI hl)
theorem ww_lcmp (C : Cx X cc nL own mn ret hh d) {x y : Int64} (hd : decode cc pc = .ok (.lcmp, 1))  (k : WW X P z h kc ns (pc + 1) lv (.int (lg_cmp x y) :: st)) : WW X P z h kc ns pc lv (.long y :: .long x :: st) := by
  intro a1 a2 H ls locs hI hl
  exact W.lcmp C.1 C.2.1 hd  (k a1 a2 H ls locs hI hl)
theorem ww_ddiv (C : Cx X cc nL own mn ret hh d) {x y : UInt64} (hd : decode cc pc = .ok (.ddiv, 1)) (hne : vf_n64 (FP.ddiv x y)) (k : WW X P z h kc ns (pc + 1) lv (.double (FP.ddiv x y) :: st)) : WW X P z h kc ns pc lv (.double y :: .double x :: st) := by
  intro a1 a2 H ls locs hI hl
  exact lv_ddiv C.1 C.2.1 hd hne (k a1 a2 H ls locs hI hl)
theorem ww_dcmp (C : Cx X cc nL own mn ret hh d) {x y : UInt64} {op : CmpOp} (hd : decode cc pc = .ok (.dcmp op, 1))  (k : WW X P z h kc ns (pc + 1) lv (.int (Op.cmpValue (FP.dcmp x y) op) :: st)) : WW X P z h kc ns pc lv (.double y :: .double x :: st) := by
  intro a1 a2 H ls locs hI hl
  exact lv_dcmp C.1 C.2.1 hd  (k a1 a2 H ls locs hI hl)
theorem ww_i2d (C : Cx X cc nL own mn ret hh d) {x : Int32} (hd : decode cc pc = .ok (.i2d, 1))  (k : WW X P z h kc ns (pc + 1) lv (.double (FP.i2d x) :: st)) : WW X P z h kc ns pc lv (.int x :: st) := by
  intro a1 a2 H ls locs hI hl
  exact lv_i2d C.1 C.2.1 hd  (k a1 a2 H ls locs hI hl)
theorem ww_dup (C : Cx X cc nL own mn ret hh d) {va : Value} (hd : decode cc pc = .ok (.dup, 1)) (hva : va.category = 1) (k : WW X P z h kc ns (pc + 1) lv (va :: va :: st)) : WW X P z h kc ns pc lv (va :: st) := by
  intro a1 a2 H ls locs hI hl
  exact lv_dup C.1 C.2.1 hd hva (k a1 a2 H ls locs hI hl)
theorem ww_pop (C : Cx X cc nL own mn ret hh d) {va : Value} (hd : decode cc pc = .ok (.pop, 1)) (hva : va.category = 1) (k : WW X P z h kc ns (pc + 1) lv (st)) : WW X P z h kc ns pc lv (va :: st) := by
  intro a1 a2 H ls locs hI hl
  exact lv_pop C.1 C.2.1 hd hva (k a1 a2 H ls locs hI hl)
theorem ww_dup_x1 (C : Cx X cc nL own mn ret hh d) {va vb : Value} (hd : decode cc pc = .ok (.dup_x1, 1)) (hva : va.category = 1) (hvb : vb.category = 1) (k : WW X P z h kc ns (pc + 1) lv (va :: vb :: va :: st)) : WW X P z h kc ns pc lv (va :: vb :: st) := by
  intro a1 a2 H ls locs hI hl
  exact lv_dup_x1 C.1 C.2.1 hd hva hvb (k a1 a2 H ls locs hI hl)
theorem ww_dup_x2 (C : Cx X cc nL own mn ret hh d) {va vb vd : Value} (hd : decode cc pc = .ok (.dup_x2, 1)) (hva : va.category = 1) (hvb : vb.category = 1) (hvd : vd.category = 1) (k : WW X P z h kc ns (pc + 1) lv (va :: vb :: vd :: va :: st)) : WW X P z h kc ns pc lv (va :: vb :: vd :: st) := by
  intro a1 a2 H ls locs hI hl
  exact lv_dup_x2 C.1 C.2.1 hd hva hvb hvd (k a1 a2 H ls locs hI hl)
theorem ww_dup2 (C : Cx X cc nL own mn ret hh d) {va vb : Value} (hd : decode cc pc = .ok (.dup2, 1)) (hva : va.category = 1) (hvb : vb.category = 1) (k : WW X P z h kc ns (pc + 1) lv (va :: vb :: va :: vb :: st)) : WW X P z h kc ns pc lv (va :: vb :: st) := by
  intro a1 a2 H ls locs hI hl
  exact lv_dup2_11 C.1 C.2.1 hd hva hvb (k a1 a2 H ls locs hI hl)
theorem ww_if_eq (C : Cx X cc nL own mn ret hh d) {x : Int32} {off : Int} {tgt : Nat} (hd : decode cc pc = .ok (.ifCond .eq off, 3)) (ht : (pc : Int) + off = (tgt : Int)) (kt : x = 0 → WW X P z h kc ns tgt lv st) (kf : ¬ (x = 0) → WW X P z h kc ns (pc + 3) lv st) : WW X P z h kc ns pc lv (.int x :: st) := by
  intro a1 a2 H ls locs hI hl
  exact lv_if_eq C.1 C.2.1 hd ht (fun c9 => kt c9 a1 a2 H ls locs hI hl) (fun c9 => kf c9 a1 a2 H ls locs hI hl)
theorem ww_if_eq_t (C : Cx X cc nL own mn ret hh d) {x : Int32} {off : Int} {tgt : Nat} (hd : decode cc pc = .ok (.ifCond .eq off, 3)) (ht : (pc : Int) + off = (tgt : Int)) (hc : x = 0) (k : WW X P z h kc ns tgt lv st) : WW X P z h kc ns pc lv (.int x :: st) := ww_if_eq C hd ht (fun _ => k) (fun c9 => absurd hc c9)
theorem ww_if_eq_f (C : Cx X cc nL own mn ret hh d) {x : Int32} {off : Int} {tgt : Nat} (hd : decode cc pc = .ok (.ifCond .eq off, 3)) (ht : (pc : Int) + off = (tgt : Int)) (hc : ¬ (x = 0)) (k : WW X P z h kc ns (pc + 3) lv st) : WW X P z h kc ns pc lv (.int x :: st) := ww_if_eq C hd ht (fun c9 => absurd c9 hc) (fun _ => k)
theorem ww_icmp_eq (C : Cx X cc nL own mn ret hh d) {x y : Int32} {off : Int} {tgt : Nat} (hd : decode cc pc = .ok (.if_icmp .eq off, 3)) (ht : (pc : Int) + off = (tgt : Int)) (kt : x = y → WW X P z h kc ns tgt lv st) (kf : ¬ (x = y) → WW X P z h kc ns (pc + 3) lv st) : WW X P z h kc ns pc lv (.int y :: .int x :: st) := by
  intro a1 a2 H ls locs hI hl
  exact lv_icmp_eq C.1 C.2.1 hd ht (fun c9 => kt c9 a1 a2 H ls locs hI hl) (fun c9 => kf c9 a1 a2 H ls locs hI hl)
theorem ww_icmp_eq_t (C : Cx X cc nL own mn ret hh d) {x y : Int32} {off : Int} {tgt : Nat} (hd : decode cc pc = .ok (.if_icmp .eq off, 3)) (ht : (pc : Int) + off = (tgt : Int)) (hc : x = y) (k : WW X P z h kc ns tgt lv st) : WW X P z h kc ns pc lv (.int y :: .int x :: st) := ww_icmp_eq C hd ht (fun _ => k) (fun c9 => absurd hc c9)
theorem ww_icmp_eq_f (C : Cx X cc nL own mn ret hh d) {x y : Int32} {off : Int} {tgt : Nat} (hd : decode cc pc = .ok (.if_icmp .eq off, 3)) (ht : (pc : Int) + off = (tgt : Int)) (hc : ¬ (x = y)) (k : WW X P z h kc ns (pc + 3) lv st) : WW X P z h kc ns pc lv (.int y :: .int x :: st) := ww_icmp_eq C hd ht (fun c9 => absurd c9 hc) (fun _ => k)
theorem ww_if_ne (C : Cx X cc nL own mn ret hh d) {x : Int32} {off : Int} {tgt : Nat} (hd : decode cc pc = .ok (.ifCond .ne off, 3)) (ht : (pc : Int) + off = (tgt : Int)) (kt : ¬ x = 0 → WW X P z h kc ns tgt lv st) (kf : x = 0 → WW X P z h kc ns (pc + 3) lv st) : WW X P z h kc ns pc lv (.int x :: st) := by
  intro a1 a2 H ls locs hI hl
  exact lv_if_ne C.1 C.2.1 hd ht (fun c9 => kt c9 a1 a2 H ls locs hI hl) (fun c9 => kf c9 a1 a2 H ls locs hI hl)
theorem ww_if_ne_t (C : Cx X cc nL own mn ret hh d) {x : Int32} {off : Int} {tgt : Nat} (hd : decode cc pc = .ok (.ifCond .ne off, 3)) (ht : (pc : Int) + off = (tgt : Int)) (hc : ¬ x = 0) (k : WW X P z h kc ns tgt lv st) : WW X P z h kc ns pc lv (.int x :: st) := ww_if_ne C hd ht (fun _ => k) (fun c9 => absurd c9 hc)
theorem ww_if_ne_f (C : Cx X cc nL own mn ret hh d) {x : Int32} {off : Int} {tgt : Nat} (hd : decode cc pc = .ok (.ifCond .ne off, 3)) (ht : (pc : Int) + off = (tgt : Int)) (hc : x = 0) (k : WW X P z h kc ns (pc + 3) lv st) : WW X P z h kc ns pc lv (.int x :: st) := ww_if_ne C hd ht (fun c9 => absurd hc c9) (fun _ => k)
theorem ww_icmp_ne (C : Cx X cc nL own mn ret hh d) {x y : Int32} {off : Int} {tgt : Nat} (hd : decode cc pc = .ok (.if_icmp .ne off, 3)) (ht : (pc : Int) + off = (tgt : Int)) (kt : ¬ x = y → WW X P z h kc ns tgt lv st) (kf : x = y → WW X P z h kc ns (pc + 3) lv st) : WW X P z h kc ns pc lv (.int y :: .int x :: st) := by
  intro a1 a2 H ls locs hI hl
  exact lv_icmp_ne C.1 C.2.1 hd ht (fun c9 => kt c9 a1 a2 H ls locs hI hl) (fun c9 => kf c9 a1 a2 H ls locs hI hl)
theorem ww_icmp_ne_t (C : Cx X cc nL own mn ret hh d) {x y : Int32} {off : Int} {tgt : Nat} (hd : decode cc pc = .ok (.if_icmp .ne off, 3)) (ht : (pc : Int) + off = (tgt : Int)) (hc : ¬ x = y) (k : WW X P z h kc ns tgt lv st) : WW X P z h kc ns pc lv (.int y :: .int x :: st) := ww_icmp_ne C hd ht (fun _ => k) (fun c9 => absurd c9 hc)
theorem ww_icmp_ne_f (C : Cx X cc nL own mn ret hh d) {x y : Int32} {off : Int} {tgt : Nat} (hd : decode cc pc = .ok (.if_icmp .ne off, 3)) (ht : (pc : Int) + off = (tgt : Int)) (hc : x = y) (k : WW X P z h kc ns (pc + 3) lv st) : WW X P z h kc ns pc lv (.int y :: .int x :: st) := ww_icmp_ne C hd ht (fun c9 => absurd hc c9) (fun _ => k)
theorem ww_if_lt (C : Cx X cc nL own mn ret hh d) {x : Int32} {off : Int} {tgt : Nat} (hd : decode cc pc = .ok (.ifCond .lt off, 3)) (ht : (pc : Int) + off = (tgt : Int)) (kt : x < 0 → WW X P z h kc ns tgt lv st) (kf : ¬ (x < 0) → WW X P z h kc ns (pc + 3) lv st) : WW X P z h kc ns pc lv (.int x :: st) := by
  intro a1 a2 H ls locs hI hl
  exact lv_if_lt C.1 C.2.1 hd ht (fun c9 => kt c9 a1 a2 H ls locs hI hl) (fun c9 => kf c9 a1 a2 H ls locs hI hl)
theorem ww_if_lt_t (C : Cx X cc nL own mn ret hh d) {x : Int32} {off : Int} {tgt : Nat} (hd : decode cc pc = .ok (.ifCond .lt off, 3)) (ht : (pc : Int) + off = (tgt : Int)) (hc : x < 0) (k : WW X P z h kc ns tgt lv st) : WW X P z h kc ns pc lv (.int x :: st) := ww_if_lt C hd ht (fun _ => k) (fun c9 => absurd hc c9)
theorem ww_if_lt_f (C : Cx X cc nL own mn ret hh d) {x : Int32} {off : Int} {tgt : Nat} (hd : decode cc pc = .ok (.ifCond .lt off, 3)) (ht : (pc : Int) + off = (tgt : Int)) (hc : ¬ (x < 0)) (k : WW X P z h kc ns (pc + 3) lv st) : WW X P z h kc ns pc lv (.int x :: st) := ww_if_lt C hd ht (fun c9 => absurd c9 hc) (fun _ => k)
theorem ww_icmp_lt (C : Cx X cc nL own mn ret hh d) {x y : Int32} {off : Int} {tgt : Nat} (hd : decode cc pc = .ok (.if_icmp .lt off, 3)) (ht : (pc : Int) + off = (tgt : Int)) (kt : x < y → WW X P z h kc ns tgt lv st) (kf : ¬ (x < y) → WW X P z h kc ns (pc + 3) lv st) : WW X P z h kc ns pc lv (.int y :: .int x :: st) := by
  intro a1 a2 H ls locs hI hl
  exact lv_icmp_lt C.1 C.2.1 hd ht (fun c9 => kt c9 a1 a2 H ls locs hI hl) (fun c9 => kf c9 a1 a2 H ls locs hI hl)
theorem ww_icmp_lt_t (C : Cx X cc nL own mn ret hh d) {x y : Int32} {off : Int} {tgt : Nat} (hd : decode cc pc = .ok (.if_icmp .lt off, 3)) (ht : (pc : Int) + off = (tgt : Int)) (hc : x < y) (k : WW X P z h kc ns tgt lv st) : WW X P z h kc ns pc lv (.int y :: .int x :: st) := ww_icmp_lt C hd ht (fun _ => k) (fun c9 => absurd hc c9)
theorem ww_icmp_lt_f (C : Cx X cc nL own mn ret hh d) {x y : Int32} {off : Int} {tgt : Nat} (hd : decode cc pc = .ok (.if_icmp .lt off, 3)) (ht : (pc : Int) + off = (tgt : Int)) (hc : ¬ (x < y)) (k : WW X P z h kc ns (pc + 3) lv st) : WW X P z h kc ns pc lv (.int y :: .int x :: st) := ww_icmp_lt C hd ht (fun c9 => absurd c9 hc) (fun _ => k)
theorem ww_if_ge (C : Cx X cc nL own mn ret hh d) {x : Int32} {off : Int} {tgt : Nat} (hd : decode cc pc = .ok (.ifCond .ge off, 3)) (ht : (pc : Int) + off = (tgt : Int)) (kt : 0 ≤ x → WW X P z h kc ns tgt lv st) (kf : ¬ (0 ≤ x) → WW X P z h kc ns (pc + 3) lv st) : WW X P z h kc ns pc lv (.int x :: st) := by
  intro a1 a2 H ls locs hI hl
  exact lv_if_ge C.1 C.2.1 hd ht (fun c9 => kt c9 a1 a2 H ls locs hI hl) (fun c9 => kf c9 a1 a2 H ls locs hI hl)
theorem ww_if_ge_t (C : Cx X cc nL own mn ret hh d) {x : Int32} {off : Int} {tgt : Nat} (hd : decode cc pc = .ok (.ifCond .ge off, 3)) (ht : (pc : Int) + off = (tgt : Int)) (hc : 0 ≤ x) (k : WW X P z h kc ns tgt lv st) : WW X P z h kc ns pc lv (.int x :: st) := ww_if_ge C hd ht (fun _ => k) (fun c9 => absurd hc c9)
theorem ww_if_ge_f (C : Cx X cc nL own mn ret hh d) {x : Int32} {off : Int} {tgt : Nat} (hd : decode cc pc = .ok (.ifCond .ge off, 3)) (ht : (pc : Int) + off = (tgt : Int)) (hc : ¬ (0 ≤ x)) (k : WW X P z h kc ns (pc + 3) lv st) : WW X P z h kc ns pc lv (.int x :: st) := ww_if_ge C hd ht (fun c9 => absurd c9 hc) (fun _ => k)
theorem ww_icmp_ge (C : Cx X cc nL own mn ret hh d) {x y : Int32} {off : Int} {tgt : Nat} (hd : decode cc pc = .ok (.if_icmp .ge off, 3)) (ht : (pc : Int) + off = (tgt : Int)) (kt : y ≤ x → WW X P z h kc ns tgt lv st) (kf : ¬ (y ≤ x) → WW X P z h kc ns (pc + 3) lv st) : WW X P z h kc ns pc lv (.int y :: .int x :: st) := by
  intro a1 a2 H ls locs hI hl
  exact lv_icmp_ge C.1 C.2.1 hd ht (fun c9 => kt c9 a1 a2 H ls locs hI hl) (fun c9 => kf c9 a1 a2 H ls locs hI hl)
theorem ww_icmp_ge_t (C : Cx X cc nL own mn ret hh d) {x y : Int32} {off : Int} {tgt : Nat} (hd : decode cc pc = .ok (.if_icmp .ge off, 3)) (ht : (pc : Int) + off = (tgt : Int)) (hc : y ≤ x) (k : WW X P z h kc ns tgt lv st) : WW X P z h kc ns pc lv (.int y :: .int x :: st) := ww_icmp_ge C hd ht (fun _ => k) (fun c9 => absurd hc c9)
theorem ww_icmp_ge_f (C : Cx X cc nL own mn ret hh d) {x y : Int32} {off : Int} {tgt : Nat} (hd : decode cc pc = .ok (.if_icmp .ge off, 3)) (ht : (pc : Int) + off = (tgt : Int)) (hc : ¬ (y ≤ x)) (k : WW X P z h kc ns (pc + 3) lv st) : WW X P z h kc ns pc lv (.int y :: .int x :: st) := ww_icmp_ge C hd ht (fun c9 => absurd c9 hc) (fun _ => k)
theorem ww_if_gt (C : Cx X cc nL own mn ret hh d) {x : Int32} {off : Int} {tgt : Nat} (hd : decode cc pc = .ok (.ifCond .gt off, 3)) (ht : (pc : Int) + off = (tgt : Int)) (kt : 0 < x → WW X P z h kc ns tgt lv st) (kf : ¬ (0 < x) → WW X P z h kc ns (pc + 3) lv st) : WW X P z h kc ns pc lv (.int x :: st) := by
  intro a1 a2 H ls locs hI hl
  exact lv_if_gt C.1 C.2.1 hd ht (fun c9 => kt c9 a1 a2 H ls locs hI hl) (fun c9 => kf c9 a1 a2 H ls locs hI hl)
theorem ww_if_gt_t (C : Cx X cc nL own mn ret hh d) {x : Int32} {off : Int} {tgt : Nat} (hd : decode cc pc = .ok (.ifCond .gt off, 3)) (ht : (pc : Int) + off = (tgt : Int)) (hc : 0 < x) (k : WW X P z h kc ns tgt lv st) : WW X P z h kc ns pc lv (.int x :: st) := ww_if_gt C hd ht (fun _ => k) (fun c9 => absurd hc c9)
theorem ww_if_gt_f (C : Cx X cc nL own mn ret hh d) {x : Int32} {off : Int} {tgt : Nat} (hd : decode cc pc = .ok (.ifCond .gt off, 3)) (ht : (pc : Int) + off = (tgt : Int)) (hc : ¬ (0 < x)) (k : WW X P z h kc ns (pc + 3) lv st) : WW X P z h kc ns pc lv (.int x :: st) := ww_if_gt C hd ht (fun c9 => absurd c9 hc) (fun _ => k)
theorem ww_icmp_gt (C : Cx X cc nL own mn ret hh d) {x y : Int32} {off : Int} {tgt : Nat} (hd : decode cc pc = .ok (.if_icmp .gt off, 3)) (ht : (pc : Int) + off = (tgt : Int)) (kt : y < x → WW X P z h kc ns tgt lv st) (kf : ¬ (y < x) → WW X P z h kc ns (pc + 3) lv st) : WW X P z h kc ns pc lv (.int y :: .int x :: st) := by
  intro a1 a2 H ls locs hI hl
  exact lv_icmp_gt C.1 C.2.1 hd ht (fun c9 => kt c9 a1 a2 H ls locs hI hl) (fun c9 => kf c9 a1 a2 H ls locs hI hl)
theorem ww_icmp_gt_t (C : Cx X cc nL own mn ret hh d) {x y : Int32} {off : Int} {tgt : Nat} (hd : decode cc pc = .ok (.if_icmp .gt off, 3)) (ht : (pc : Int) + off = (tgt : Int)) (hc : y < x) (k : WW X P z h kc ns tgt lv st) : WW X P z h kc ns pc lv (.int y :: .int x :: st) := ww_icmp_gt C hd ht (fun _ => k) (fun c9 => absurd hc c9)
theorem ww_icmp_gt_f (C : Cx X cc nL own mn ret hh d) {x y : Int32} {off : Int} {tgt : Nat} (hd : decode cc pc = .ok (.if_icmp .gt off, 3)) (ht : (pc : Int) + off = (tgt : Int)) (hc : ¬ (y < x)) (k : WW X P z h kc ns (pc + 3) lv st) : WW X P z h kc ns pc lv (.int y :: .int x :: st) := ww_icmp_gt C hd ht (fun c9 => absurd c9 hc) (fun _ => k)
theorem ww_if_le (C : Cx X cc nL own mn ret hh d) {x : Int32} {off : Int} {tgt : Nat} (hd : decode cc pc = .ok (.ifCond .le off, 3)) (ht : (pc : Int) + off = (tgt : Int)) (kt : x ≤ 0 → WW X P z h kc ns tgt lv st) (kf : ¬ (x ≤ 0) → WW X P z h kc ns (pc + 3) lv st) : WW X P z h kc ns pc lv (.int x :: st) := by
  intro a1 a2 H ls locs hI hl
  exact lv_if_le C.1 C.2.1 hd ht (fun c9 => kt c9 a1 a2 H ls locs hI hl) (fun c9 => kf c9 a1 a2 H ls locs hI hl)
theorem ww_if_le_t (C : Cx X cc nL own mn ret hh d) {x : Int32} {off : Int} {tgt : Nat} (hd : decode cc pc = .ok (.ifCond .le off, 3)) (ht : (pc : Int) + off = (tgt : Int)) (hc : x ≤ 0) (k : WW X P z h kc ns tgt lv st) : WW X P z h kc ns pc lv (.int x :: st) := ww_if_le C hd ht (fun _ => k) (fun c9 => absurd hc c9)
theorem ww_if_le_f (C : Cx X cc nL own mn ret hh d) {x : Int32} {off : Int} {tgt : Nat} (hd : decode cc pc = .ok (.ifCond .le off, 3)) (ht : (pc : Int) + off = (tgt : Int)) (hc : ¬ (x ≤ 0)) (k : WW X P z h kc ns (pc + 3) lv st) : WW X P z h kc ns pc lv (.int x :: st) := ww_if_le C hd ht (fun c9 => absurd c9 hc) (fun _ => k)
theorem ww_icmp_le (C : Cx X cc nL own mn ret hh d) {x y : Int32} {off : Int} {tgt : Nat} (hd : decode cc pc = .ok (.if_icmp .le off, 3)) (ht : (pc : Int) + off = (tgt : Int)) (kt : x ≤ y → WW X P z h kc ns tgt lv st) (kf : ¬ (x ≤ y) → WW X P z h kc ns (pc + 3) lv st) : WW X P z h kc ns pc lv (.int y :: .int x :: st) := by
  intro a1 a2 H ls locs hI hl
  exact lv_icmp_le C.1 C.2.1 hd ht (fun c9 => kt c9 a1 a2 H ls locs hI hl) (fun c9 => kf c9 a1 a2 H ls locs hI hl)
theorem ww_icmp_le_t (C : Cx X cc nL own mn ret hh d) {x y : Int32} {off : Int} {tgt : Nat} (hd : decode cc pc = .ok (.if_icmp .le off, 3)) (ht : (pc : Int) + off = (tgt : Int)) (hc : x ≤ y) (k : WW X P z h kc ns tgt lv st) : WW X P z h kc ns pc lv (.int y :: .int x :: st) := ww_icmp_le C hd ht (fun _ => k) (fun c9 => absurd hc c9)
theorem ww_icmp_le_f (C : Cx X cc nL own mn ret hh d) {x y : Int32} {off : Int} {tgt : Nat} (hd : decode cc pc = .ok (.if_icmp .le off, 3)) (ht : (pc : Int) + off = (tgt : Int)) (hc : ¬ (x ≤ y)) (k : WW X P z h kc ns (pc + 3) lv st) : WW X P z h kc ns pc lv (.int y :: .int x :: st) := ww_icmp_le C hd ht (fun c9 => absurd c9 hc) (fun _ => k)
theorem ww_acmp_eq (C : Cx X cc nL own mn ret hh d) {rx ry : Option Nat} {off : Int} {tgt : Nat} (hd : decode cc pc = .ok (.if_acmp .eq off, 3)) (ht : (pc : Int) + off = (tgt : Int)) (kt : rx = ry → WW X P z h kc ns tgt lv st) (kf : ¬ (rx = ry) → WW X P z h kc ns (pc + 3) lv st) : WW X P z h kc ns pc lv (va_rf ry :: va_rf rx :: st) := by
  intro a1 a2 H ls locs hI hl
  exact lv_acmp_eq C.1 C.2.1 hd ht (fun c9 => kt c9 a1 a2 H ls locs hI hl) (fun c9 => kf c9 a1 a2 H ls locs hI hl)
theorem ww_acmp_eq_t (C : Cx X cc nL own mn ret hh d) {rx ry : Option Nat} {off : Int} {tgt : Nat} (hd : decode cc pc = .ok (.if_acmp .eq off, 3)) (ht : (pc : Int) + off = (tgt : Int)) (hc : rx = ry) (k : WW X P z h kc ns tgt lv st) : WW X P z h kc ns pc lv (va_rf ry :: va_rf rx :: st) := ww_acmp_eq C hd ht (fun _ => k) (fun c9 => absurd hc c9)
theorem ww_acmp_eq_f (C : Cx X cc nL own mn ret hh d) {rx ry : Option Nat} {off : Int} {tgt : Nat} (hd : decode cc pc = .ok (.if_acmp .eq off, 3)) (ht : (pc : Int) + off = (tgt : Int)) (hc : ¬ (rx = ry)) (k : WW X P z h kc ns (pc + 3) lv st) : WW X P z h kc ns pc lv (va_rf ry :: va_rf rx :: st) := ww_acmp_eq C hd ht (fun c9 => absurd c9 hc) (fun _ => k)
theorem ww_acmp_ne (C : Cx X cc nL own mn ret hh d) {rx ry : Option Nat} {off : Int} {tgt : Nat} (hd : decode cc pc = .ok (.if_acmp .ne off, 3)) (ht : (pc : Int) + off = (tgt : Int)) (kt : ¬ rx = ry → WW X P z h kc ns tgt lv st) (kf : rx = ry → WW X P z h kc ns (pc + 3) lv st) : WW X P z h kc ns pc lv (va_rf ry :: va_rf rx :: st) := by
  intro a1 a2 H ls locs hI hl
  exact lv_acmp_ne C.1 C.2.1 hd ht (fun c9 => kt c9 a1 a2 H ls locs hI hl) (fun c9 => kf c9 a1 a2 H ls locs hI hl)
theorem ww_acmp_ne_t (C : Cx X cc nL own mn ret hh d) {rx ry : Option Nat} {off : Int} {tgt : Nat} (hd : decode cc pc = .ok (.if_acmp .ne off, 3)) (ht : (pc : Int) + off = (tgt : Int)) (hc : ¬ rx = ry) (k : WW X P z h kc ns tgt lv st) : WW X P z h kc ns pc lv (va_rf ry :: va_rf rx :: st) := ww_acmp_ne C hd ht (fun _ => k) (fun c9 => absurd c9 hc)
theorem ww_acmp_ne_f (C : Cx X cc nL own mn ret hh d) {rx ry : Option Nat} {off : Int} {tgt : Nat} (hd : decode cc pc = .ok (.if_acmp .ne off, 3)) (ht : (pc : Int) + off = (tgt : Int)) (hc : rx = ry) (k : WW X P z h kc ns (pc + 3) lv st) : WW X P z h kc ns pc lv (va_rf ry :: va_rf rx :: st) := ww_acmp_ne C hd ht (fun c9 => absurd hc c9) (fun _ => k)
theorem ww_goto (C : Cx X cc nL own mn ret hh d) {off : Int} {tgt : Nat} (hd : decode cc pc = .ok (.goto off, 3)) (ht : (pc : Int) + off = (tgt : Int)) (k : WW X P z h kc ns tgt lv st) : WW X P z h kc ns pc lv st := by
  intro a1 a2 H ls locs hI hl
  exact lv_goto C.1 C.2.1 hd ht (k a1 a2 H ls locs hI hl)
theorem ww_ifnull_f (C : Cx X cc nL own mn ret hh d) {x : Nat} {off : Int} (hd : decode cc pc = .ok (.ifnull off, 3)) (k : WW X P z h kc ns (pc + 3) lv st) : WW X P z h kc ns pc lv (.ref x :: st) := by
  intro a1 a2 H ls locs hI hl
  exact lv_ifnull C.1 C.2.1 hd (k a1 a2 H ls locs hI hl)
theorem ww_ifnull_t (C : Cx X cc nL own mn ret hh d) {off : Int} {tgt : Nat} (hd : decode cc pc = .ok (.ifnull off, 3)) (ht : (pc : Int) + off = (tgt : Int)) (k : WW X P z h kc ns tgt lv st) : WW X P z h kc ns pc lv (.null :: st) := by
  intro a1 a2 H ls locs hI hl
  exact lv_ifnullN C.1 C.2.1 hd ht (k a1 a2 H ls locs hI hl)
theorem ww_ifnonnull_t (C : Cx X cc nL own mn ret hh d) {x : Nat} {off : Int} {tgt : Nat} (hd : decode cc pc = .ok (.ifnonnull off, 3)) (ht : (pc : Int) + off = (tgt : Int)) (k : WW X P z h kc ns tgt lv st) : WW X P z h kc ns pc lv (.ref x :: st) := by
  intro a1 a2 H ls locs hI hl
  exact lv_ifnonnull C.1 C.2.1 hd ht (k a1 a2 H ls locs hI hl)
theorem ww_ifnonnull_f (C : Cx X cc nL own mn ret hh d) {off : Int} (hd : decode cc pc = .ok (.ifnonnull off, 3)) (k : WW X P z h kc ns (pc + 3) lv st) : WW X P z h kc ns pc lv (.null :: st) := by
  intro a1 a2 H ls locs hI hl
  exact lv_ifnonnullN C.1 C.2.1 hd (k a1 a2 H ls locs hI hl)
theorem ww_lookup (C : Cx X cc nL own mn ret hh d) {dflt : Int} {ps : Array (Int × Int)} {len : Nat} {x : Int32} {off : Int} {tgt : Nat} (hd : decode cc pc = .ok (.lookupswitch dflt ps, len)) (hp : (ps.toList.zip (ps.toList.drop 1)).all (fun (a, next) => a.1 < next.1) = true) (ho : Op.lookupswitch.offset ps.toList dflt x.toInt = off) (ht : (pc : Int) + off = (tgt : Int)) (k : WW X P z h kc ns tgt lv st) : WW X P z h kc ns pc lv (.int x :: st) := by
  intro a1 a2 H ls locs hI hl
  exact lv_lookup C.1 C.2.1 hd hp ho ht (k a1 a2 H ls locs hI hl)
theorem ww_tableIn (C : Cx X cc nL own mn ret hh d) {dflt lo hi : Int} {offs : Array Int} {len : Nat} {x : Int32} {off : Int} {tgt : Nat} (hd : decode cc pc = .ok (.tableswitch dflt lo hi offs, len)) (h1 : ¬ x.toInt < lo) (h2 : ¬ hi < x.toInt) (ho : offs[(x.toInt - lo).toNat]? = some off) (ht : (pc : Int) + off = (tgt : Int)) (k : WW X P z h kc ns tgt lv st) : WW X P z h kc ns pc lv (.int x :: st) := by
  intro a1 a2 H ls locs hI hl
  exact lv_tableIn C.1 C.2.1 hd h1 h2 ho ht (k a1 a2 H ls locs hI hl)
theorem ww_tableOut (C : Cx X cc nL own mn ret hh d) {dflt lo hi : Int} {offs : Array Int} {len : Nat} {x : Int32} {tgt : Nat} (hd : decode cc pc = .ok (.tableswitch dflt lo hi offs, len)) (h1 : x.toInt < lo ∨ hi < x.toInt) (ht : (pc : Int) + dflt = (tgt : Int)) (k : WW X P z h kc ns tgt lv st) : WW X P z h kc ns pc lv (.int x :: st) := by
  intro a1 a2 H ls locs hI hl
  exact lv_tableOut C.1 C.2.1 hd h1 ht (k a1 a2 H ls locs hI hl)
theorem ww_ldc (C : Cx X cc nL own mn ret hh d) {index : Nat} {v : Int32} (hw : Cond.constant own index v ∈ lw_all) (hd : decode cc pc = .ok (.ldc index, 2)) (k : WW X P z h kc ns (pc + 2) lv (.int v :: st)) : WW X P z h kc ns pc lv st := by
  intro a1 a2 H ls locs hI hl
  exact lv_ldc C.1 C.2.1 C.2.2.2.1 (C.2.2.2.2.1 _ hw) hd (k a1 a2 H ls locs hI hl)
theorem ww_ldcw (C : Cx X cc nL own mn ret hh d) {index : Nat} {v : Int32} (hw : Cond.constant own index v ∈ lw_all) (hd : decode cc pc = .ok (.ldc_w index, 3)) (k : WW X P z h kc ns (pc + 3) lv (.int v :: st)) : WW X P z h kc ns pc lv st := by
  intro a1 a2 H ls locs hI hl
  exact lv_ldcw C.1 C.2.1 C.2.2.2.1 (C.2.2.2.2.1 _ hw) hd (k a1 a2 H ls locs hI hl)
theorem ww_ldc2 (C : Cx X cc nL own mn ret hh d) {index : Nat} {v : Int64} (hw : Cond.constantLong own index v ∈ lw_all) (hd : decode cc pc = .ok (.ldc2_w index, 3)) (k : WW X P z h kc ns (pc + 3) lv (.long v :: st)) : WW X P z h kc ns pc lv st := by
  intro a1 a2 H ls locs hI hl
  exact lv_ldc2 C.1 C.2.1 C.2.2.2.1 (C.2.2.2.2.1 _ hw) hd (k a1 a2 H ls locs hI hl)
theorem ww_iret (C : Cx X cc nL own mn (some .int) hh d) {v : Int32} (hd : decode cc pc = .ok (.ireturn, 1)) (hp : P (.inl (some (.int v))) z h) : WW X P z h kc ns pc lv [.int v] := by
  intro a1 a2 H ls locs hI hl
  refine W.widen (k := (xR X).cells) (n := (xR X).slots) (Nat.sub_le _ _) (Nat.sub_le _ _) (vx_ret ?_)
  exact W.iret C.1 C.2.1 C.2.2.2.2.2.1 (fun t ht hW => ⟨_, z, h, rfl, hp, by rw [ht]; exact hI.1, by rw [ht]; exact hI.2.1⟩) hI.2.2 hd (hlocks := C.2.2.2.2.2.2.1)
theorem ww_lret (C : Cx X cc nL own mn (some .long) hh d) {v : Int64} (hd : decode cc pc = .ok (.lreturn, 1)) (hp : P (.inl (some (.long v))) z h) : WW X P z h kc ns pc lv [.long v] := by
  intro a1 a2 H ls locs hI hl
  refine W.widen (k := (xR X).cells) (n := (xR X).slots) (Nat.sub_le _ _) (Nat.sub_le _ _) (vx_ret ?_)
  exact W.lret C.1 C.2.1 C.2.2.2.2.2.1 (fun t ht hW => ⟨_, z, h, rfl, hp, by rw [ht]; exact hI.1, by rw [ht]; exact hI.2.1⟩) hI.2.2 hd (hlocks := C.2.2.2.2.2.2.1)
theorem ww_dret (C : Cx X cc nL own mn (some .double) hh d) {v : UInt64} (hd : decode cc pc = .ok (.dreturn, 1)) (hp : P (.inl (some (.double v))) z h) : WW X P z h kc ns pc lv [.double v] := by
  intro a1 a2 H ls locs hI hl
  refine W.widen (k := (xR X).cells) (n := (xR X).slots) (Nat.sub_le _ _) (Nat.sub_le _ _) (vx_ret ?_)
  exact W.dret C.1 C.2.1 C.2.2.2.2.2.1 (fun t ht hW => ⟨_, z, h, rfl, hp, by rw [ht]; exact hI.1, by rw [ht]; exact hI.2.1⟩) hI.2.2 hd (hlocks := C.2.2.2.2.2.2.1)
theorem ww_zret {ty : FieldType} (C : Cx X cc nL own mn (some ty) hh d) {v : Int32} (hd : decode cc pc = .ok (.ireturn, 1)) (hn : narrow ty (.int v) = .int v) (hp : P (.inl (some (.int v))) z h) : WW X P z h kc ns pc lv [.int v] := by
  intro a1 a2 H ls locs hI hl
  refine W.widen (k := (xR X).cells) (n := (xR X).slots) (Nat.sub_le _ _) (Nat.sub_le _ _) (vx_ret ?_)
  exact W.zret C.1 C.2.1 C.2.2.2.2.2.1 hn (fun t ht hW => ⟨_, z, h, rfl, hp, by rw [ht]; exact hI.1, by rw [ht]; exact hI.2.1⟩) hI.2.2 hd (hlocks := C.2.2.2.2.2.2.1)
theorem ww_vret (C : Cx X cc nL own mn none hh d) (hd : decode cc pc = .ok (.return_, 1)) (hp : P (.inl none) z h) : WW X P z h kc ns pc lv [] := by
  intro a1 a2 H ls locs hI hl
  refine W.widen (k := (xR X).cells) (n := (xR X).slots) (Nat.sub_le _ _) (Nat.sub_le _ _) (vx_ret ?_)
  exact W.vret C.1 C.2.1 C.2.2.2.2.2.1 (fun t ht hW => ⟨_, z, h, rfl, hp, by rw [ht]; exact hI.1, by rw [ht]; exact hI.2.1⟩) hI.2.2 hd (hlocks := C.2.2.2.2.2.2.1)
theorem va_rf_of {v : Value} (hr : v.isRef = true) : v = .null ∨ ∃ a, v = .ref a := by
  cases v with
  | null => exact Or.inl rfl
  | ref a => exact Or.inr ⟨a, rfl⟩
  | _ => cases hr
theorem ww_aret {rt : FieldType} (C : Cx X cc nL own mn (some rt) hh d) {v : Value} (hrt : (∃ n, rt = .object n) ∨ ∃ t, rt = .array t) (hd : decode cc pc = .ok (.areturn, 1)) (hr : v.isRef = true) (hp : P (.inl (some v)) z h) : WW X P z h kc ns pc lv [v] := by
  intro a1 a2 H ls locs hI hl
  refine W.widen (k := (xR X).cells) (n := (xR X).slots) (Nat.sub_le _ _) (Nat.sub_le _ _) (vx_ret ?_)
  exact W.aret C.1 C.2.1 C.2.2.2.2.2.1 hrt (va_rf_of hr) (fun t ht hW => ⟨_, z, h, rfl, hp, by rw [ht]; exact hI.1, by rw [ht]; exact hI.2.1⟩) hI.2.2 hd (hlocks := C.2.2.2.2.2.2.1)
end WR
/-! ===== rows over the abstract heap ===== -/
section WH
set_option maxRecDepth 100000
def up (h : AH) (a : Nat) (e : va_E) : AH := fun q => if q = a then some e else h q
def del (h : AH) (a : Nat) : AH := fun q => if q = a then none else h q
def zad (z : ZR) (a : Nat) (e : va_E) : ZR := fun b e' => z b e' ∨ (b = a ∧ e' = e)
/-- what can be read -/
abbrev rd (z : ZR) (h : AH) (a : Nat) (e : va_E) : Prop := h a = some e ∨ z a e
theorem up_s {h : AH} {a : Nat} {e : va_E} : up h a e a = some e := by simp [up]
theorem up_n {h : AH} {a b : Nat} {e : va_E} (hb : b ≠ a) : up h a e b = h b := by simp [up, hb]
theorem up_up {h : AH} {a : Nat} {e e' : va_E} : up (up h a e) a e' = up h a e' := by
  funext q
  by_cases hq : q = a <;> simp [up, hq]
theorem up_id {h : AH} {a : Nat} {e : va_E} (ha : h a = some e) : up h a e = h := by
  funext q
  by_cases hq : q = a
  · subst hq; simp [up, ha]
  · simp [up, hq]
theorem up_cm {h : AH} {a b : Nat} {e e' : va_E} (hab : a ≠ b) : up (up h a e) b e' = up (up h b e') a e := by
  funext q
  by_cases h1 : q = a
  · subst h1; simp [up, hab]
  · by_cases h2 : q = b
    · subst h2; simp [up, h1]
    · simp [up, h1, h2]
theorem RelH.w {Γ : Gm} {z : ZR} {h : AH} {H : Heap} (hR : RelH Γ z h H) {a : Nat} {e : va_E} (hr : rd z h a e) : wat Γ (a, e) H := by
  rcases hr with q | q
  · exact wat.of (hR.2.2.2 a e q).1
  · exact hR.2.2.1 a e q
theorem Inv.sto {X : XT} {z : ZR} {h : AH} {H H1 : Heap} {locs : List Loc} {a i : Nat} {e0 e : va_E} (hI : Inv X z h H locs) (ha : h a = some e0) (he : va_at (gD (xG X)) clX (a, e) H1) (z1 : H1.size = H.size) (oq : ∀ q : Nat, q ≠ a → H1[q]? = H[q]?) : Inv X z (up h a e) H1 (locs ++ [⟨a, i⟩]) := by
  obtain ⟨⟨r1, r2, r3, r4⟩, hF, hL⟩ := hI
  obtain ⟨-, ga, nz⟩ := r4 a e0 ha
  refine ⟨⟨by rw [z1]; exact r1, fun q hq => ?_, fun b e' hb => ?_, fun b e' hb => ?_⟩, hF.trans ⟨Nat.le_of_eq z1.symm, fun q _ hn => oq q ?_, fun b hb => ?_, fun _ _ q => q⟩, fun q hq => ?_⟩
  · rw [oq q (by omega)]; exact r2 q hq
  · exact (r3 b e' hb).kept (oq b (fun q => by subst q; exact nz e' hb))
  · by_cases hba : b = a
    · subst hba
      rw [up_s] at hb
      cases hb
      exact ⟨he, ga, nz⟩
    · rw [up_n hba] at hb
      obtain ⟨q1, q2⟩ := r4 b e' hb
      exact ⟨q1.kept (oq b hba), q2⟩
  · intro q9
    subst q9
    rw [ha] at hn
    cases hn
  · by_cases hba : b = a
    · subst hba
      exact Or.inl (by rw [ha]; simp)
    · rw [up_n hba] at hb
      exact Or.inl hb
  · rcases List.mem_append.mp hq with q9 | q9
    · exact hL q q9
    · cases List.mem_singleton.mp q9
      exact ga
theorem Inv.new {X : XT} {z : ZR} {h : AH} {H H1 : Heap} {locs : List Loc} {e : va_E} (hI : Inv X z h H locs) (he : va_at (gD (xG X)) clX (H.size, e) H1) (z1 : H1.size = H.size + 1) (oq : ∀ q : Nat, q < H.size → H1[q]? = H[q]?) : Inv X z (up h H.size e) H1 locs ∧ h H.size = none ∧ ∀ e', ¬ z H.size e' := by
  obtain ⟨⟨r1, r2, r3, r4⟩, hF, hL⟩ := hI
  have hn : h H.size = none := by
    cases hc : h H.size with
    | none => rfl
    | some e' => exact absurd (r4 _ _ hc).1.lt (Nat.lt_irrefl _)
  have nz : ∀ e', ¬ z H.size e' := fun e' q => absurd (r3 _ _ q).lt (Nat.lt_irrefl _)
  refine ⟨⟨⟨by omega, fun q hq => ?_, fun b e' hb => ?_, fun b e' hb => ?_⟩, hF.trans ⟨by omega, fun q hq _ => oq q hq, fun b hb => ?_, fun _ _ q => q⟩, hL⟩, hn, nz⟩
  · rw [oq q (by omega)]; exact r2 q hq
  · exact (r3 b e' hb).kept (oq b (r3 b e' hb).lt)
  · by_cases hba : b = H.size
    · subst hba
      rw [up_s] at hb
      cases hb
      exact ⟨he, r1, nz⟩
    · rw [up_n hba] at hb
      obtain ⟨q1, q2⟩ := r4 b e' hb
      exact ⟨q1.kept (oq b q1.lt), q2⟩
  · by_cases hba : b = H.size
    · subst hba
      exact Or.inr (Nat.le_refl _)
    · rw [up_n hba] at hb
      exact Or.inl hb
theorem Inv.frz {X : XT} {z : ZR} {h : AH} {H : Heap} {locs : List Loc} {a : Nat} {e : va_E} (hI : Inv X z h H locs) (ha : h a = some e) : Inv X (zad z a e) (del h a) H locs := by
  obtain ⟨⟨r1, r2, r3, r4⟩, hF, hL⟩ := hI
  refine ⟨⟨r1, r2, fun b e' hb => ?_, fun b e' hb => ?_⟩, hF.trans ⟨Nat.le_refl _, fun _ _ _ => rfl, fun b hb => ?_, fun _ _ q => Or.inl q⟩, hL⟩
  · rcases hb with hb | ⟨rfl, rfl⟩
    · exact r3 b e' hb
    · exact wat.of (r4 b e' ha).1
  · by_cases hba : b = a
    · subst hba
      simp [del] at hb
    · simp only [del, hba, if_false] at hb
      obtain ⟨q1, q2, q3⟩ := r4 b e' hb
      exact ⟨q1, q2, fun e9 q => by
        rcases q with q | ⟨q, -⟩
        · exact q3 e9 q
        · exact hba q⟩
  · by_cases hba : b = a
    · subst hba
      simp [del] at hb
    · simp only [del, hba, if_false] at hb
      exact Or.inl hb
variable {X : XT} {P : Oc → ZR → AH → Prop} {z : ZR} {h : AH} {kc ns pc nL d : Nat} {lv : List (Nat × Value)} {st : List Value} {cc : ByteArray} {own mn : String} {ret : Option FieldType} {hh : List (Nat × Nat × Nat × Nat)}
theorem ww_frz {a : Nat} {e : va_E} (ha : h a = some e) (k : WW X P (zad z a e) (del h a) kc ns pc lv st) : WW X P z h kc ns pc lv st := by
  intro a1 a2 H ls locs hI hl
  exact k a1 a2 H ls locs (hI.frz ha) hl
theorem Cx.K (C : Cx X cc nL own mn ret hh d) : va_K (gD (xG X)) clX [] (xs X) := by
  obtain ⟨a0, -, hK, -⟩ := C.2.2.2.2.2.2.2.2.1
  exact va_K.moved C.2.2.2.2.2.2.2.1.alike hK
theorem Cx.N (C : Cx X cc nL own mn ret hh d) {w : Cond} (hw : w ∈ lw_tbl) (ho : w.onTables = true) : va_Nw w (gS (xG X)) := by
  obtain ⟨a0, hT, -⟩ := C.2.2.2.2.2.2.2.2.1
  exact va_Nw.of ho (hT w hw)
theorem Cx.arr (C : Cx X cc nL own mn ret hh d) {cell : Cell} {t : Nat} (ht : t < 10) (hs : cell.vm.isStatics = false) (hc : cell.cls = gA (xG X) t) : (xs X).isArrayOf cell (aty t) := by
  obtain ⟨a0, -, -, hA, -⟩ := C.2.2.2.2.2.2.2.2.1
  have h1 := arrOfT_moved C.2.2.2.2.2.2.2.1.alike (hA t ht)
  refine ⟨(fun k q => by rw [q] at hs; cases hs), ?_⟩
  have h2 := (h1 0 (fun _ => .null)).2
  rw [hc]
  exact h2
theorem ww_get (C : Cx X cc nL own mn ret hh d) {C1 ref : String} {T : u_T} {N ci index : Nat} (hin : ∀ w ∈ u_ws C1 T N, w ∈ lw_all) (hc : clX[ci]? = some (C1, T, N)) (kf : Nat) (hk : kf < N) (hlink : Cond.fieldLink own index ref (T kf).2.1 (T kf).2.2.1 ∈ lw_all)
    (hsame : ∀ x, (xs X).fieldFound? (T kf).1 (T kf).2.1 (T kf).2.2.1 = some x → (xs X).fieldFound? ref (T kf).2.1 (T kf).2.2.1 = some x) (hd : decode cc pc = .ok (.getfield index, 3)) {a : Nat} {fs : List Value} (hr : rd z h a (.inr (ci, fs))) {v : Value} (hv : fs[kf]? = some v)
    (k : WW X P z h kc ns (pc + 3) lv (v :: st)) : WW X P z h kc ns pc lv (.ref a :: st) := by
  intro a1 a2 H ls locs hI hl
  obtain ⟨r, cell, h1, q1, q2, q3, q4, q5⟩ := hI.1.w hr
  have hr9 : r = (C1, T, N) := Option.some.inj (h1.symm.trans hc)
  subst hr9
  obtain ⟨hS, hfc, kC, hkC, hkind⟩ := (Cx.K C).1 ci _ hc
  obtain ⟨cf, kf', fi, f, hi, hsl⟩ := hS kf hk
  refine W.getf C.1 C.2.1 C.2.2.2.1 (C.2.2.2.2.1 _ hlink) (hsame _ hi) (u_facts hfc hkC (u_lays C.2.2.2.2.1 hin hk) hi).1 q1 q3 (v := v) ?_ rfl rfl hd (k a1 a2 H ls locs hI hl)
  rw [hsl, q5 kf hk]
  simp [vp_V, hv]
theorem ww_getN (C : Cx X cc nL own mn ret hh d) {C1 ref host : String} {T : u_T} {N ci index : Nat} (hin : ∀ w ∈ u_ws C1 T N, w ∈ lw_all) (hc : clX[ci]? = some (C1, T, N)) (kf : Nat) (hk : kf < N) (hlink : Cond.fieldLinkNest own index ref (T kf).2.1 (T kf).2.2.1 host ∈ lw_tbl)
    (hsame : ∀ x, (xs X).fieldFound? (T kf).1 (T kf).2.1 (T kf).2.2.1 = some x → (xs X).fieldFound? ref (T kf).2.1 (T kf).2.2.1 = some x) (hd : decode cc pc = .ok (.getfield index, 3)) {a : Nat} {fs : List Value} (hr : rd z h a (.inr (ci, fs))) {v : Value} (hv : fs[kf]? = some v)
    (k : WW X P z h kc ns (pc + 3) lv (v :: st)) : WW X P z h kc ns pc lv (.ref a :: st) := by
  intro a1 a2 H ls locs hI hl
  obtain ⟨r, cell, h1, q1, q2, q3, q4, q5⟩ := hI.1.w hr
  have hr9 : r = (C1, T, N) := Option.some.inj (h1.symm.trans hc)
  subst hr9
  obtain ⟨hS, hfc, kC, hkC, hkind⟩ := (Cx.K C).1 ci _ hc
  obtain ⟨cf, kf', fi, f, hi, hsl⟩ := hS kf hk
  refine va_Wgetf C.1 C.2.1 C.2.2.2.1 (va_Nw.use rfl (va_Nw.warmF C.2.2.2.2.2.2.2.1 (Cx.N C hlink rfl))) (hsame _ hi) (u_facts hfc hkC (u_lays C.2.2.2.2.1 hin hk) hi).1 q1 q3 (v := v) ?_ rfl rfl hd (k a1 a2 H ls locs hI hl)
  rw [hsl, q5 kf hk]
  simp [vp_V, hv]
theorem ww_put (C : Cx X cc nL own mn ret hh d) {C1 ref : String} {T : u_T} {N ci index : Nat} (hin : ∀ w ∈ u_ws C1 T N, w ∈ lw_all) (hc : clX[ci]? = some (C1, T, N)) (ty0 : Nat → FieldType) (hty : ∀ k, k < N → parseFieldDescriptor (T k).2.2.1 = some (ty0 k)) (hnm : ∀ a, a < N → ∀ b, b < N → a ≠ b → (T a).2.1 ≠ (T b).2.1) (kf : Nat) (hk : kf < N) (hlink : Cond.fieldLink own index ref (T kf).2.1 (T kf).2.2.1 ∈ lw_all)
    (hsame : ∀ x, (xs X).fieldFound? (T kf).1 (T kf).2.1 (T kf).2.2.1 = some x → (xs X).fieldFound? ref (T kf).2.1 (T kf).2.2.1 = some x) (hfin : (T kf).2.2.2 = false) (hd : decode cc pc = .ok (.putfield index, 3)) {a : Nat} {fs : List Value} (ha : h a = some (.inr (ci, fs))) {v : Value} (hn : narrow (ty0 kf) v = v) (hfit : fits (ty0 kf) v = true) (hlen : kf < fs.length) {fs' : List Value} (hfs : fs.set kf v = fs')
    (k : WW X P z (up h a (.inr (ci, fs'))) kc ns (pc + 3) lv st) : WW X P z h kc ns pc lv (v :: .ref a :: st) := by
  subst hfs
  intro a1 a2 H ls locs hI hl
  have hap := va_apart (own := own) C.2.2.2.2.1 hin ty0 hty hnm (Cx.K C) hc
  obtain ⟨r, h1, cell, q1, q2, q3, q4⟩ := (hI.1.2.2.2 a _ ha).1
  have hr : r = (C1, T, N) := Option.some.inj (h1.symm.trans hc)
  subst hr
  obtain ⟨hS, hfc, kC, hkC, hkind⟩ := (Cx.K C).1 ci _ hc
  obtain ⟨cf, kf', fi, f, hi, hsl⟩ := hS kf hk
  have hlay := C.2.2.2.2.1 _ (hin _ (u_in_lay hk))
  unfold u_lay at hlay
  rw [if_neg (by rw [hfin]; decide)] at hlay
  have hst := (u_facts hfc hkC (u_lays C.2.2.2.2.1 hin hk) hi).1
  have h6 := u_store hfc hkC hkind hlay hi (hty kf hk) hn hfit
  refine W.putK C.1 C.2.1 (f := f) ⟨C.2.2.2.1, C.2.2.2.2.1 _ hlink, ⟨_, _, _, hsame _ hi⟩, hst⟩ (by rw [q2]; exact h6) q1 q3 (by rw [hsl]; exact k2_hasslot (q4 kf hk)) rfl rfl hd fun H' e1 e2 e3 => ?_
  rw [hsl] at e1 ⊢
  exact k a1 a2 H' ls _ (hI.sto ha ⟨_, hc, t_OB.to (V := updV (vp_V fs) kf v) ⟨_, e1, q2, q3, t_set q4 hap hk v⟩ (fun j _ => vp_updV_set hlen v j)⟩ e2 e3) hl
theorem ww_putN (C : Cx X cc nL own mn ret hh d) {C1 ref host : String} {T : u_T} {N ci index : Nat} (hin : ∀ w ∈ u_ws C1 T N, w ∈ lw_all) (hc : clX[ci]? = some (C1, T, N)) (ty0 : Nat → FieldType) (hty : ∀ k, k < N → parseFieldDescriptor (T k).2.2.1 = some (ty0 k)) (hnm : ∀ a, a < N → ∀ b, b < N → a ≠ b → (T a).2.1 ≠ (T b).2.1) (kf : Nat) (hk : kf < N) (hlink : Cond.fieldLinkNest own index ref (T kf).2.1 (T kf).2.2.1 host ∈ lw_tbl)
    (hsame : ∀ x, (xs X).fieldFound? (T kf).1 (T kf).2.1 (T kf).2.2.1 = some x → (xs X).fieldFound? ref (T kf).2.1 (T kf).2.2.1 = some x) (hfin : (T kf).2.2.2 = false) (hd : decode cc pc = .ok (.putfield index, 3)) {a : Nat} {fs : List Value} (ha : h a = some (.inr (ci, fs))) {v : Value} (hn : narrow (ty0 kf) v = v) (hfit : fits (ty0 kf) v = true) (hlen : kf < fs.length) {fs' : List Value} (hfs : fs.set kf v = fs')
    (k : WW X P z (up h a (.inr (ci, fs'))) kc ns (pc + 3) lv st) : WW X P z h kc ns pc lv (v :: .ref a :: st) := by
  subst hfs
  intro a1 a2 H ls locs hI hl
  have hap := va_apart (own := own) C.2.2.2.2.1 hin ty0 hty hnm (Cx.K C) hc
  obtain ⟨r, h1, cell, q1, q2, q3, q4⟩ := (hI.1.2.2.2 a _ ha).1
  have hr : r = (C1, T, N) := Option.some.inj (h1.symm.trans hc)
  subst hr
  obtain ⟨hS, hfc, kC, hkC, hkind⟩ := (Cx.K C).1 ci _ hc
  obtain ⟨cf, kf', fi, f, hi, hsl⟩ := hS kf hk
  have hlay := C.2.2.2.2.1 _ (hin _ (u_in_lay hk))
  unfold u_lay at hlay
  rw [if_neg (by rw [hfin]; decide)] at hlay
  have hst := (u_facts hfc hkC (u_lays C.2.2.2.2.1 hin hk) hi).1
  have h6 := u_store hfc hkC hkind hlay hi (hty kf hk) hn hfit
  refine va_WputK C.1 C.2.1 (f := f) C.2.2.2.1 (va_Nw.use rfl (va_Nw.warmF C.2.2.2.2.2.2.2.1 (Cx.N C hlink rfl))) (hsame _ hi) hst (by rw [q2]; exact h6) q1 q3 (by rw [hsl]; exact k2_hasslot (q4 kf hk)) rfl rfl hd fun H' e1 e2 e3 => ?_
  rw [hsl] at e1 ⊢
  exact k a1 a2 H' ls _ (hI.sto ha ⟨_, hc, t_OB.to (V := updV (vp_V fs) kf v) ⟨_, e1, q2, q3, t_set q4 hap hk v⟩ (fun j _ => vp_updV_set hlen v j)⟩ e2 e3) hl
theorem ww_putF (C : Cx X cc nL own "<init>" ret hh d) {C1 ref : String} {T : u_T} {N ci index : Nat} (hin : ∀ w ∈ u_ws C1 T N, w ∈ lw_all) (hc : clX[ci]? = some (C1, T, N)) (ty0 : Nat → FieldType) (hty : ∀ k, k < N → parseFieldDescriptor (T k).2.2.1 = some (ty0 k)) (hnm : ∀ a, a < N → ∀ b, b < N → a ≠ b → (T a).2.1 ≠ (T b).2.1) (kf : Nat) (hk : kf < N) (hlink : Cond.fieldLink own index ref (T kf).2.1 (T kf).2.2.1 ∈ lw_all)
    (hsame : ∀ x, (xs X).fieldFound? (T kf).1 (T kf).2.1 (T kf).2.2.1 = some x → (xs X).fieldFound? ref (T kf).2.1 (T kf).2.2.1 = some x) (hfin : (T kf).2.2.2 = true) (hdecl : (T kf).1 = own) (hd : decode cc pc = .ok (.putfield index, 3)) {a : Nat} {fs : List Value} (ha : h a = some (.inr (ci, fs))) {v : Value} (hn : narrow (ty0 kf) v = v) (hfit : fits (ty0 kf) v = true) (hlen : kf < fs.length) {fs' : List Value} (hfs : fs.set kf v = fs')
    (k : WW X P z (up h a (.inr (ci, fs'))) kc ns (pc + 3) lv st) : WW X P z h kc ns pc lv (v :: .ref a :: st) := by
  subst hfs
  intro a1 a2 H ls locs hI hl
  have hap := va_apart (own := own) C.2.2.2.2.1 hin ty0 hty hnm (Cx.K C) hc
  obtain ⟨r, h1, cell, q1, q2, q3, q4⟩ := (hI.1.2.2.2 a _ ha).1
  have hr : r = (C1, T, N) := Option.some.inj (h1.symm.trans hc)
  subst hr
  obtain ⟨hS, hfc, kC, hkC, hkind⟩ := (Cx.K C).1 ci _ hc
  obtain ⟨cf, kf', fi, f, hi, hsl⟩ := hS kf hk
  have hlay := C.2.2.2.2.1 _ (hin _ (u_in_lay hk))
  unfold u_lay at hlay
  rw [if_pos hfin] at hlay
  have hst := (u_facts hfc hkC (u_lays C.2.2.2.2.1 hin hk) hi).1
  have hcf : (xm X).cls = cf := by
    obtain ⟨_, _, c', _, _, _, -, -, hf', -, -, -, hown2, -⟩ := Cond.laysFinal_spec hlay
    have e1 : c' = cf := by have := hi.symm.trans hf'; simp at this; exact this.1.symm
    rw [hdecl] at hown2
    rw [← e1]; exact Option.some.inj (C.2.2.2.1.symm.trans hown2)
  have h6 := u_fits hfc hkC hkind (Or.inr hlay) hi (hty kf hk) hn hfit
  refine W.putFinK C.1 C.2.1 C.2.2.2.1 (C.2.2.2.2.1 _ hlink) (hsame _ hi) hst hcf C.2.2.2.2.2.2.2.2.2.2.1 (by rw [q2]; exact h6) q1 q3 (by rw [hsl]; exact k2_hasslot (q4 kf hk)) rfl rfl hd fun H' e1 e2 e3 => ?_
  rw [hsl] at e1 ⊢
  exact k a1 a2 H' ls _ (hI.sto ha ⟨_, hc, t_OB.to (V := updV (vp_V fs) kf v) ⟨_, e1, q2, q3, t_set q4 hap hk v⟩ (fun j _ => vp_updV_set hlen v j)⟩ e2 e3) hl
theorem ww_new (C : Cx X cc nL own mn ret hh d) {C1 : String} {T : u_T} {N ci index : Nat} (hin : ∀ w ∈ u_ws C1 T N, w ∈ lw_all) (hc : clX[ci]? = some (C1, T, N)) (ty0 : Nat → FieldType) (hty : ∀ k, k < N → parseFieldDescriptor (T k).2.2.1 = some (ty0 k)) (hlink : Cond.classLink own index C1 ∈ lw_all) (hinst : Cond.instantiable C1 N ∈ lw_all) (hini : Cond.initialized C1 ∈ lw_all) {fs : List Value} (hfs : ∀ j, j < N → defaultValue (ty0 j) = vp_V fs j)
    (hd : decode cc pc = .ok (.new index, 3)) (hk : 1 ≤ kc) (hn : N ≤ ns) (k : ∀ a : Nat, h a = none → (∀ e, ¬ z a e) → gN (xG X) ≤ a → WW X P z (up h a (.inr (ci, fs))) (kc - 1) (ns - N) (pc + 3) lv (.ref a :: st)) : WW X P z h kc ns pc lv st := by
  intro a1 a2 H ls locs hI hl
  have hKn := (Cx.K C).1 ci _ hc
  refine W.newcK C.1 C.2.1 C.2.2.2.1 (C.2.2.2.2.1 _ hlink) (C.2.2.2.2.1 _ hinst) (C.2.2.2.2.1 _ hini) rfl hd (by omega) (by omega) hKn.2.1 rfl fun H1 kC hkC e1 z1 o1 => ?_
  obtain ⟨hI1, hno, hnz⟩ := hI.new (e := .inr (ci, fs)) ⟨_, hc, (u_born ty0 C.2.2.2.2.1 hin hKn hkC e1 hty).to hfs⟩ z1 o1
  have key := k H.size hno hnz hI.1.1 (by omega) (by omega) H1 ls locs hI1 hl
  rw [show (xR X).cells - (kc - 1) = (xR X).cells - kc + 1 by omega, show (xR X).slots - (ns - N) = (xR X).slots - ns + N by omega] at key
  exact key
theorem ww_alen (C : Cx X cc nL own mn ret hh d) {t a n : Nat} {x : ((Nat → Int32) ⊕ (Nat → Int64) ⊕ (Nat → UInt32) ⊕ (Nat → UInt64) ⊕ (Nat → Option Nat))} (hd : decode cc pc = .ok (.arraylength, 1)) (ht : t < 10) (hr : rd z h a (.inl (gA (xG X) t, (n, x)))) (k : WW X P z h kc ns (pc + 1) lv (.int (nI n) :: st)) : WW X P z h kc ns pc lv (.ref a :: st) := by
  intro a1 a2 H ls locs hI hl
  obtain ⟨cell, q1, q2, q3, q4, q5, q6, q7⟩ := hI.1.w hr
  exact W.alen (n := nI n) C.1 C.2.1 q1 (Cx.arr C ht q2 q4) q6 rfl rfl hd (k a1 a2 H ls locs hI hl)
theorem nI_ix {j n : Nat} (hj : j < n) (hn : n < 2 ^ 31) {m : Nat} (hm : n ≤ m) : ¬ (nI j < 0 ∨ m ≤ (nI j).toNatClampNeg) := by
  rw [nI_clamp (by omega)]
  rintro (q | q)
  · exact nI_pos (by omega) q
  · omega
theorem ww_iald (C : Cx X cc nL own mn ret hh d) {a n j : Nat} {f : Nat → Int32} (hd : decode cc pc = .ok (.iaload, 1)) (hr : rd z h a (.inl (gA (xG X) 0, (n, .inl f)))) (hj : j < n) (hn : n < 2 ^ 31) (k : WW X P z h kc ns (pc + 1) lv (.int (f j) :: st)) : WW X P z h kc ns pc lv (.int (nI j) :: .ref a :: st) := by
  intro a1 a2 H ls locs hI hl
  obtain ⟨cell, q1, q2, q3, q4, q5, q6, q7⟩ := hI.1.w hr
  exact W.iald (v := .int (f j)) C.1 C.2.1 q1 (Cx.arr C (t := 0) (by omega) q2 q4) q3 (nI_ix hj hn q5) (by rw [nI_clamp (by omega)]; exact q7 j hj) rfl rfl hd (k a1 a2 H ls locs hI hl)
theorem ww_bald (C : Cx X cc nL own mn ret hh d) {a n j : Nat} {f : Nat → Int32} (hd : decode cc pc = .ok (.baload, 1)) (hr : rd z h a (.inl (gA (xG X) 1, (n, .inl f)))) (hj : j < n) (hn : n < 2 ^ 31) (k : WW X P z h kc ns (pc + 1) lv (.int (f j) :: st)) : WW X P z h kc ns pc lv (.int (nI j) :: .ref a :: st) := by
  intro a1 a2 H ls locs hI hl
  obtain ⟨cell, q1, q2, q3, q4, q5, q6, q7⟩ := hI.1.w hr
  exact W.bald (v := .int (f j)) C.1 C.2.1 q1 (Cx.arr C (t := 1) (by omega) q2 q4) q3 (nI_ix hj hn q5) (by rw [nI_clamp (by omega)]; exact q7 j hj) rfl rfl hd (k a1 a2 H ls locs hI hl)
theorem ww_zald (C : Cx X cc nL own mn ret hh d) {a n j : Nat} {f : Nat → Int32} (hd : decode cc pc = .ok (.baload, 1)) (hr : rd z h a (.inl (gA (xG X) 3, (n, .inl f)))) (hj : j < n) (hn : n < 2 ^ 31) (k : WW X P z h kc ns (pc + 1) lv (.int (f j) :: st)) : WW X P z h kc ns pc lv (.int (nI j) :: .ref a :: st) := by
  intro a1 a2 H ls locs hI hl
  obtain ⟨cell, q1, q2, q3, q4, q5, q6, q7⟩ := hI.1.w hr
  exact W.zald (v := .int (f j)) C.1 C.2.1 q1 (Cx.arr C (t := 3) (by omega) q2 q4) q3 (nI_ix hj hn q5) (by rw [nI_clamp (by omega)]; exact q7 j hj) rfl rfl hd (k a1 a2 H ls locs hI hl)
theorem ww_lald (C : Cx X cc nL own mn ret hh d) {a n j : Nat} {f : Nat → Int64} (hd : decode cc pc = .ok (.laload, 1)) (hr : rd z h a (.inl (gA (xG X) 2, (n, .inr (.inl f))))) (hj : j < n) (hn : n < 2 ^ 31) (k : WW X P z h kc ns (pc + 1) lv (.long (f j) :: st)) : WW X P z h kc ns pc lv (.int (nI j) :: .ref a :: st) := by
  intro a1 a2 H ls locs hI hl
  obtain ⟨cell, q1, q2, q3, q4, q5, q6, q7⟩ := hI.1.w hr
  exact W.lald (v := .long (f j)) C.1 C.2.1 q1 (Cx.arr C (t := 2) (by omega) q2 q4) q3 (nI_ix hj hn q5) (by rw [nI_clamp (by omega)]; exact q7 j hj) rfl rfl hd (k a1 a2 H ls locs hI hl)
theorem ww_aald (C : Cx X cc nL own mn ret hh d) {t a n j : Nat} {f : Nat → Option Nat} (hd : decode cc pc = .ok (.aaload, 1)) (ht : t < 10) (hty : (aty t).isReference = true) (hr : rd z h a (.inl (gA (xG X) t, (n, .inr (.inr (.inr (.inr f))))))) (hj : j < n) (hn : n < 2 ^ 31) (k : WW X P z h kc ns (pc + 1) lv (va_rf (f j) :: st)) : WW X P z h kc ns pc lv (.int (nI j) :: .ref a :: st) := by
  intro a1 a2 H ls locs hI hl
  obtain ⟨cell, q1, q2, q3, q4, q5, q6, q7⟩ := hI.1.w hr
  exact W.aald (v := va_rf (f j)) C.1 C.2.1 q1 (Cx.arr C ht q2 q4) hty q3 (nI_ix hj hn q5) (by rw [nI_clamp (by omega)]; exact q7 j hj) rfl rfl hd (k a1 a2 H ls locs hI hl)
theorem arr_st {f g : Nat → Int32} {j : Nat} {x : Int32} {n : Nat} {cA : ClassId} {H1 : Heap} {a : Nat} {i : Int32} (hi : i.toNatClampNeg = j) (e : H1[a]? = some ((vp_cell cA (n, .inl f)).setSlot i.toNatClampNeg (.int x))) : H1[a]? = some (vp_cell cA (n, .inl (upd f j x))) := by
  rw [e, hi, vp_cell_i, vp_cell_i, arrV_store]
  congr 2
  funext q
  by_cases hq : q = j
  · subst hq
    simp [updV, upd]
  · simp [updV, upd, hq]
theorem ww_iast (C : Cx X cc nL own mn ret hh d) {a n j : Nat} {f : Nat → Int32} {x : Int32} (hd : decode cc pc = .ok (.iastore, 1)) (ha : h a = some (.inl (gA (xG X) 0, (n, .inl f)))) (hj : j < n) (hn : n < 2 ^ 31) (k : WW X P z (up h a (.inl (gA (xG X) 0, (n, .inl (upd f j x))))) kc ns (pc + 1) lv st) : WW X P z h kc ns pc lv (.int x :: .int (nI j) :: .ref a :: st) := by
  intro a1 a2 H ls locs hI hl
  have hc := (hI.1.2.2.2 a _ ha).1
  refine W.iast C.1 C.2.1 hc (Cx.arr C (t := 0) (by omega) rfl rfl) (fun q => by cases q) (nI_ix hj hn (by rw [vp_cell_i, arrV_size]; exact Nat.le_refl _)) rfl rfl hd fun H1 e z1 oq => ?_
  exact k a1 a2 H1 ls _ (hI.sto ha (arr_st (g := f) (nI_clamp (by omega)) e) z1 oq) hl
theorem ww_bast (C : Cx X cc nL own mn ret hh d) {a n j : Nat} {f : Nat → Int32} {x x' : Int32} (hd : decode cc pc = .ok (.bastore, 1)) (ha : h a = some (.inl (gA (xG X) 1, (n, .inl f)))) (hj : j < n) (hn : n < 2 ^ 31) (hx : narrow .byte (.int x) = .int x') (k : WW X P z (up h a (.inl (gA (xG X) 1, (n, .inl (upd f j x'))))) kc ns (pc + 1) lv st) : WW X P z h kc ns pc lv (.int x :: .int (nI j) :: .ref a :: st) := by
  intro a1 a2 H ls locs hI hl
  have hc := (hI.1.2.2.2 a _ ha).1
  refine W.bast C.1 C.2.1 hc (Cx.arr C (t := 1) (by omega) rfl rfl) (fun q => by cases q) (nI_ix hj hn (by rw [vp_cell_i, arrV_size]; exact Nat.le_refl _)) rfl rfl hd fun H1 e z1 oq => ?_
  rw [hx] at e
  exact k a1 a2 H1 ls _ (hI.sto ha (arr_st (g := f) (nI_clamp (by omega)) e) z1 oq) hl
theorem ww_zast (C : Cx X cc nL own mn ret hh d) {a n j : Nat} {f : Nat → Int32} {x x' : Int32} (hd : decode cc pc = .ok (.bastore, 1)) (ha : h a = some (.inl (gA (xG X) 3, (n, .inl f)))) (hj : j < n) (hn : n < 2 ^ 31) (hx : narrow .boolean (.int x) = .int x') (k : WW X P z (up h a (.inl (gA (xG X) 3, (n, .inl (upd f j x'))))) kc ns (pc + 1) lv st) : WW X P z h kc ns pc lv (.int x :: .int (nI j) :: .ref a :: st) := by
  intro a1 a2 H ls locs hI hl
  have hc := (hI.1.2.2.2 a _ ha).1
  refine W.zast C.1 C.2.1 hc (Cx.arr C (t := 3) (by omega) rfl rfl) (fun q => by cases q) (nI_ix hj hn (by rw [vp_cell_i, arrV_size]; exact Nat.le_refl _)) rfl rfl hd fun H1 e z1 oq => ?_
  rw [hx] at e
  exact k a1 a2 H1 ls _ (hI.sto ha (arr_st (g := f) (nI_clamp (by omega)) e) z1 oq) hl
theorem ww_last (C : Cx X cc nL own mn ret hh d) {a n j : Nat} {f : Nat → Int64} {x : Int64} (hd : decode cc pc = .ok (.lastore, 1)) (ha : h a = some (.inl (gA (xG X) 2, (n, .inr (.inl f))))) (hj : j < n) (hn : n < 2 ^ 31) (k : WW X P z (up h a (.inl (gA (xG X) 2, (n, .inr (.inl (vp_updL f j x)))))) kc ns (pc + 1) lv st) : WW X P z h kc ns pc lv (.long x :: .int (nI j) :: .ref a :: st) := by
  intro a1 a2 H ls locs hI hl
  have hc := (hI.1.2.2.2 a _ ha).1
  refine W.last C.1 C.2.1 hc (Cx.arr C (t := 2) (by omega) rfl rfl) (fun q => by cases q) (nI_ix hj hn (by rw [vp_cell_l, arrV_size]; exact Nat.le_refl _)) rfl rfl hd fun H1 e z1 oq => ?_
  refine k a1 a2 H1 ls _ (hI.sto ha ?_ z1 oq) hl
  show H1[a]? = some (vp_cell _ _)
  rw [e, nI_clamp (by omega), vp_cell_l, vp_cell_l, arrV_store]
  congr 2
  funext q
  by_cases hq : q = j
  · subst hq
    simp [updV, vp_updL]
  · simp [updV, vp_updL, hq]
/-- the class of a cell, by its name -/
def rcv (Γ : Gm) (z : ZR) (h : AH) (b : Nat) (C1 : String) : Prop := ∀ (U : State) (H : Heap), (gS Γ).WarmedH U.vm → RelH Γ z h H → ∃ cell : Cell, H[b]? = some cell ∧ cell.vm.isStatics = false ∧ U.vm.findClass C1 = some cell.cls
theorem rcv.of {Γ : Gm} (hΓ : GOK Γ) {b ci N : Nat} {C1 : String} {T : u_T} {fs : List Value} (hc : clX[ci]? = some (C1, T, N)) (hr : rd z h b (.inr (ci, fs))) : rcv Γ z h b C1 := by
  intro U H hW hR
  obtain ⟨r, cell, h1, q1, q2, q3, q4, q5⟩ := hR.w hr
  obtain ⟨a0, -, hK, -⟩ := hΓ
  have hK := va_K.moved hW.alike hK
  exact ⟨cell, q1, q2, by rw [q4]; exact (hK.1 ci _ hc).2.1⟩
theorem ww_cast (C : Cx X cc nL own mn ret hh d) {C1 nm : String} {index a : Nat} (hlink : Cond.classLink own index nm ∈ lw_all) (hca : Cond.castable C1 nm ∈ lw_tbl) (hd : decode cc pc = .ok (.checkcast index, 3)) (hr : rcv (xG X) z h a C1) (k : WW X P z h kc ns (pc + 3) lv (.ref a :: st)) : WW X P z h kc ns pc lv (.ref a :: st) := by
  intro a1 a2 H ls locs hI hl
  exact va_castY C.1 C.2.1 C.2.2.2.1 (C.2.2.2.2.1 _ hlink) (va_Nw.warmC C.2.2.2.2.2.2.2.1 (Cx.N C hca rfl)) (hr _ H C.2.2.2.2.2.2.2.1 hI.1) hd (k a1 a2 H ls locs hI hl)
theorem ww_castS (C : Cx X cc nL own mn ret hh d) {nm : String} {T : u_T} {index a ci N : Nat} (hlink : Cond.classLink own index nm ∈ lw_all) (hc : clX[ci]? = some (nm, T, N)) (hd : decode cc pc = .ok (.checkcast index, 3)) (hr : rcv (xG X) z h a nm) (k : WW X P z h kc ns (pc + 3) lv (.ref a :: st)) : WW X P z h kc ns pc lv (.ref a :: st) := by
  intro a1 a2 H ls locs hI hl
  exact va_castS C.1 C.2.1 C.2.2.2.1 (C.2.2.2.2.1 _ hlink) ((Cx.K C).1 ci _ hc).2 (hr _ H C.2.2.2.2.2.2.2.1 hI.1) hd (k a1 a2 H ls locs hI hl)
theorem ww_castN (C : Cx X cc nL own mn ret hh d) {index : Nat} (hd : decode cc pc = .ok (.checkcast index, 3)) (k : WW X P z h kc ns (pc + 3) lv (.null :: st)) : WW X P z h kc ns pc lv (.null :: st) := by
  intro a1 a2 H ls locs hI hl
  exact lv_castN C.1 C.2.1 hd (k a1 a2 H ls locs hI hl)
/-- Object's own constructor -/
theorem ww_objInit (C : Cx X cc nL own mn ret hh d) {index a : Nat} (hlink : Cond.methodLink own index objectInit ∈ lw_all) (hi : Cond.instanceMethod objectInit ∈ lw_all) (hcd : Cond.code objectInit ⟨#[0xb1]⟩ 1 none ∈ lw_all) (hd : decode cc pc = .ok (.invokespecial index, 3)) (hd1 : 1 ≤ d) (hst : (st.map fun v => v.category).sum ≤ 8) (k : WW X P z h kc ns (pc + 3) lv st) : WW X P z h kc ns pc lv (.ref a :: st) := by
  intro a1 a2 H ls locs hI hl
  have hf : (xR X).frames = d := C.2.2.2.2.2.2.2.2.2.2.2.2.1
  have hlo : (xR X).locals = 48 * d := C.2.2.2.2.2.2.2.2.2.2.2.2.2
  refine W.objInit C.1 C.2.1 C.2.2.2.1 (C.2.2.2.2.1 _ hlink) (C.2.2.2.2.1 _ hi) (C.2.2.2.2.1 _ hcd) rfl hl.1 rfl hd (by rw [hf]; exact hd1) ?_ (k a1 a2 H ls locs hI hl)
  rw [hlo]
  show 2 * 0 + (st.map fun v => v.category).sum + 12 ≤ 48 * d
  omega
end WH
