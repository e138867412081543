section WCP
set_option maxRecDepth 100000
variable {X : XT} {P : Oc → ZR → AH → Prop} {z : ZR} {h : AH} {kc ns pc nL d dy mc ms b : Nat} {lv : List (Nat × Value)} {st st0 As rest : List Value} {cc : ByteArray} {mn : String} {ret : Option FieldType} {hh : List (Nat × Nat × Nat × Nat)}
theorem cp_J9_100 (C : Cx X cc nL "java/lang/AbstractStringBuilder" mn ret hh d) {Q : ZR → AH → Prop} {QX : String → Nat → ZR → AH → Prop} (hd : decode cc pc = .ok (.invokevirtual 100, 3)) (hM : Ct (xl X) (xG X) yJ9_ensureCapacityInternal cJ9_ensureCapacityInternal 3 none dy mc ms (.ref b :: As) z h (Rnx Q QX)) (hr : rcv (xG X) z h b "java/lang/StringBuilder") (hn : As.length = 1) (hs : st0 = As.reverse ++ .ref b :: rest) (hst : (rest.map fun v => v.category).sum ≤ 8) (hdy : dy + 1 ≤ d) (hmc : mc ≤ kc) (hms : ms ≤ ns) (kk : ∀ z' h', Q z' h' → WW X P z' h' (kc - mc) (ns - ms) (pc + 3) lv rest) (kx : ∀ E q z' h', QX E q z' h' → WX X P z' h' (kc - mc) (ns - ms) pc lv E q) : WW X P z h kc ns pc lv st0 := ww_callP C (Cx.selP C ⟨dsc_J9_ensureCapacityInternal.1, dsc_J9_ensureCapacityInternal.2.1⟩ (lw_all_tbl q433) rfl q396 (lw_all_tbl q397)) q395 q3367 q397 q119 q398 dsc_J9_ensureCapacityInternal hd hM hr hn hs hst hdy (by decide) hmc hms (fun v z' h' q => by
  cases v with
  | none => exact kk z' h' q
  | some v => exact False.elim q) kx
theorem cp_J9_100_q (C : Cx X cc nL "java/lang/AbstractStringBuilder" mn ret hh d) {Q : ZR → AH → Prop} (hd : decode cc pc = .ok (.invokevirtual 100, 3)) (hM : Ct (xl X) (xG X) yJ9_ensureCapacityInternal cJ9_ensureCapacityInternal 3 none dy mc ms (.ref b :: As) z h (Rn Q)) (hr : rcv (xG X) z h b "java/lang/StringBuilder") (hn : As.length = 1) (hs : st0 = As.reverse ++ .ref b :: rest) (hst : (rest.map fun v => v.category).sum ≤ 8) (hdy : dy + 1 ≤ d) (hmc : mc ≤ kc) (hms : ms ≤ ns) (kk : ∀ z' h', Q z' h' → WW X P z' h' (kc - mc) (ns - ms) (pc + 3) lv rest) : WW X P z h kc ns pc lv st0 := cp_J9_100 C hd hM hr hn hs hst hdy hmc hms kk (fun _ _ _ _ q => False.elim q)
theorem cp_J9_104_r (C : Cx X cc nL "java/lang/AbstractStringBuilder" mn ret hh d) {v : Value} (hd : decode cc pc = .ok (.invokevirtual 104, 3)) (hM : Ct (xl X) (xG X) yJ9_newCapacity cJ9_newCapacity 6 (some .int) dy mc ms (.ref b :: As) z h (RdP z h (some v))) (hr : rcv (xG X) z h b "java/lang/StringBuilder") (hn : As.length = 1) (hs : st0 = As.reverse ++ .ref b :: rest) (hst : (rest.map fun v => v.category).sum ≤ 8) (hdy : dy + 1 ≤ d) (hmc : mc ≤ kc) (hms : ms ≤ ns) (k : WW X P z h (kc - mc) (ns - ms) (pc + 3) lv (v :: rest)) : WW X P z h kc ns pc lv st0 := ww_callP C (Cx.selP C ⟨dsc_J9_newCapacity.1, dsc_J9_newCapacity.2.1⟩ (lw_all_tbl q433) rfl q400 (lw_all_tbl q401)) q399 q3368 q401 q119 q402 dsc_J9_newCapacity hd hM hr hn hs hst hdy (by decide) hmc hms (fun v' z' h' q => by
  obtain ⟨q1, q2, q3⟩ := q
  cases q1
  subst q2
  subst q3
  exact k) (fun E q z' h' q9 => by cases q9.1)
theorem cu_J10_50_q (C : Cx X cc nL "java/lang/StringBuilder" mn ret hh d) {Q : Value → ZR → AH → Prop} (hd : decode cc pc = .ok (.invokespecial 50, 3)) (hM : Ct (xl X) (xG X) yJ9_append cJ9_append 2 (some (.object "java/lang/AbstractStringBuilder")) dy mc ms (.ref b :: As) z h (Rv Q)) (hr : rcv (xG X) z h b "java/lang/StringBuilder") (hn : As.length = 1) (hs : st0 = As.reverse ++ .ref b :: rest) (hst : (rest.map fun v => v.category).sum ≤ 8) (hdy : dy + 1 ≤ d) (hmc : mc ≤ kc) (hms : ms ≤ ns) (kk : ∀ v z' h', Q v z' h' → WW X P z' h' (kc - mc) (ns - ms) (pc + 3) lv (v :: rest)) : WW X P z h kc ns pc lv st0 := ww_callSU (ci := 24) C rfl (lw_SUs q392 q3366 q386 q393 q119 q394) (by decide +kernel) hd hM hr hn hs hst hdy (by decide) hmc hms (fun v z' h' q => by
  cases v with
  | none => exact False.elim q
  | some v => exact kk v z' h' q) (fun _ _ _ _ q => False.elim q)
theorem cu_J10_343_r (C : Cx X cc nL "java/lang/StringBuilder" mn ret hh d) {v : Value} (hd : decode cc pc = .ok (.invokespecial 343, 3)) (hM : Ct (xl X) (xG X) yJ9_length cJ9_length 1 (some .int) dy mc ms (.ref b :: As) z h (RdP z h (some v))) (hr : rcv (xG X) z h b "java/lang/StringBuilder") (hn : As.length = 0) (hs : st0 = As.reverse ++ .ref b :: rest) (hst : (rest.map fun v => v.category).sum ≤ 8) (hdy : dy + 1 ≤ d) (hmc : mc ≤ kc) (hms : ms ≤ ns) (k : WW X P z h (kc - mc) (ns - ms) (pc + 3) lv (v :: rest)) : WW X P z h kc ns pc lv st0 := ww_callSU (ci := 24) C rfl (lw_SUs q507 q503 q386 q502 q119 q508) (by decide +kernel) hd hM hr hn hs hst hdy (by decide) hmc hms (fun v' z' h' q => by
  obtain ⟨q1, q2, q3⟩ := q
  cases q1
  subst q2
  subst q3
  exact k) (fun E q z' h' q9 => by cases q9.1)
end WCP
