section WCQ
set_option maxRecDepth 100000
theorem dsc_J24_getLongUnaligned : yJ24_getLongUnaligned.cls ≠ "java/lang/invoke/MethodHandle" ∧ yJ24_getLongUnaligned.cls ≠ "java/lang/invoke/VarHandle" ∧ (parseMethodDescriptor yJ24_getLongUnaligned.desc).map (fun d => d.parameters.length) = some 2 := by decide +kernel
theorem dsc_J25_numberOfTrailingZeros : yJ25_numberOfTrailingZeros.cls ≠ "java/lang/invoke/MethodHandle" ∧ yJ25_numberOfTrailingZeros.cls ≠ "java/lang/invoke/VarHandle" ∧ (parseMethodDescriptor yJ25_numberOfTrailingZeros.desc).map (fun d => d.parameters.length) = some 1 := by decide +kernel
variable {X : XT} {P : Oc → ZR → AH → Prop} {z : ZR} {h : AH} {kc ns pc nL d dy mc ms b : Nat} {lv : List (Nat × Value)} {st st0 As rest : List Value} {cc : ByteArray} {mn : String} {ret : Option FieldType} {hh : List (Nat × Nat × Nat × Nat)}
theorem cs_J25_311 (C : Cx X cc nL "java/lang/Long" mn ret hh d) {Q : Value → ZR → AH → Prop} {QX : String → Nat → ZR → AH → Prop} (hd : decode cc pc = .ok (.invokestatic 311, 3)) (hM : Ct (xl X) (xG X) yJ19_numberOfTrailingZeros cJ19_numberOfTrailingZeros 2 (some .int) dy mc ms As z h (Rvx Q QX)) (hn : As.length = 1) (hs : st0 = As.reverse ++ rest) (hst : (rest.map fun v => v.category).sum ≤ 8) (hdy : dy + 1 ≤ d) (hmc : mc ≤ kc) (hms : ms ≤ ns) (kk : ∀ v z' h', Q v z' h' → WW X P z' h' (kc - mc) (ns - ms) (pc + 3) lv (v :: rest)) (kx : ∀ E q z' h', QX E q z' h' → WX X P z' h' (kc - mc) (ns - ms) pc lv E q) : WW X P z h kc ns pc lv st0 := ww_callS C (lw_S q1462 q1463 q130 q1464) dsc_J19_numberOfTrailingZeros hd hM hn hs hst hdy (by decide) hmc hms (fun v z' h' q => by
  cases v with
  | none => exact False.elim q
  | some v => exact kk v z' h' q) kx
theorem cs_J25_311_q (C : Cx X cc nL "java/lang/Long" mn ret hh d) {Q : Value → ZR → AH → Prop} (hd : decode cc pc = .ok (.invokestatic 311, 3)) (hM : Ct (xl X) (xG X) yJ19_numberOfTrailingZeros cJ19_numberOfTrailingZeros 2 (some .int) dy mc ms As z h (Rv Q)) (hn : As.length = 1) (hs : st0 = As.reverse ++ rest) (hst : (rest.map fun v => v.category).sum ≤ 8) (hdy : dy + 1 ≤ d) (hmc : mc ≤ kc) (hms : ms ≤ ns) (kk : ∀ v z' h', Q v z' h' → WW X P z' h' (kc - mc) (ns - ms) (pc + 3) lv (v :: rest)) : WW X P z h kc ns pc lv st0 := cs_J25_311 C hd hM hn hs hst hdy hmc hms kk (fun _ _ _ _ q => False.elim q)
theorem cs_J25_311_r (C : Cx X cc nL "java/lang/Long" mn ret hh d) {v : Value} (hd : decode cc pc = .ok (.invokestatic 311, 3)) (hM : Ct (xl X) (xG X) yJ19_numberOfTrailingZeros cJ19_numberOfTrailingZeros 2 (some .int) dy mc ms As z h (RdP z h (some v))) (hn : As.length = 1) (hs : st0 = As.reverse ++ rest) (hst : (rest.map fun v => v.category).sum ≤ 8) (hdy : dy + 1 ≤ d) (hmc : mc ≤ kc) (hms : ms ≤ ns) (k : WW X P z h (kc - mc) (ns - ms) (pc + 3) lv (v :: rest)) : WW X P z h kc ns pc lv st0 := ww_callS C (lw_S q1462 q1463 q130 q1464) dsc_J19_numberOfTrailingZeros hd hM hn hs hst hdy (by decide) hmc hms (fun v' z' h' q => by
  obtain ⟨q1, q2, q3⟩ := q
  cases q1
  subst q2
  subst q3
  exact k) (fun E q z' h' q9 => by cases q9.1)
theorem cv_J13_30 (C : Cx X cc nL "jdk/internal/util/ArraysSupport" mn ret hh d) {Q : Value → ZR → AH → Prop} {QX : String → Nat → ZR → AH → Prop} (hd : decode cc pc = .ok (.invokevirtual 30, 3)) (hM : Ct (xl X) (xG X) yJ24_getLongUnaligned cJ24_getLongUnaligned 4 (some .long) dy mc ms (.ref b :: As) z h (Rvx Q QX)) (hr : rcv (xG X) z h b "jdk/internal/misc/Unsafe") (hn : As.length = 2) (hs : st0 = As.reverse ++ .ref b :: rest) (hst : (rest.map fun v => v.category).sum ≤ 8) (hdy : dy + 1 ≤ d) (hmc : mc ≤ kc) (hms : ms ≤ ns) (kk : ∀ v z' h', Q v z' h' → WW X P z' h' (kc - mc) (ns - ms) (pc + 3) lv (v :: rest)) (kx : ∀ E q z' h', QX E q z' h' → WX X P z' h' (kc - mc) (ns - ms) pc lv E q) : WW X P z h kc ns pc lv st0 := ww_callV C (lw_V q1396 q1397 q1398 q136 q1399) ⟨rfl, dsc_J24_getLongUnaligned⟩ hd hM hr hn hs hst hdy (by decide) hmc hms (fun v z' h' q => by
  cases v with
  | none => exact False.elim q
  | some v => exact kk v z' h' q) kx
theorem cv_J13_30_q (C : Cx X cc nL "jdk/internal/util/ArraysSupport" mn ret hh d) {Q : Value → ZR → AH → Prop} (hd : decode cc pc = .ok (.invokevirtual 30, 3)) (hM : Ct (xl X) (xG X) yJ24_getLongUnaligned cJ24_getLongUnaligned 4 (some .long) dy mc ms (.ref b :: As) z h (Rv Q)) (hr : rcv (xG X) z h b "jdk/internal/misc/Unsafe") (hn : As.length = 2) (hs : st0 = As.reverse ++ .ref b :: rest) (hst : (rest.map fun v => v.category).sum ≤ 8) (hdy : dy + 1 ≤ d) (hmc : mc ≤ kc) (hms : ms ≤ ns) (kk : ∀ v z' h', Q v z' h' → WW X P z' h' (kc - mc) (ns - ms) (pc + 3) lv (v :: rest)) : WW X P z h kc ns pc lv st0 := cv_J13_30 C hd hM hr hn hs hst hdy hmc hms kk (fun _ _ _ _ q => False.elim q)
theorem cv_J13_30_r (C : Cx X cc nL "jdk/internal/util/ArraysSupport" mn ret hh d) {v : Value} (hd : decode cc pc = .ok (.invokevirtual 30, 3)) (hM : Ct (xl X) (xG X) yJ24_getLongUnaligned cJ24_getLongUnaligned 4 (some .long) dy mc ms (.ref b :: As) z h (RdP z h (some v))) (hr : rcv (xG X) z h b "jdk/internal/misc/Unsafe") (hn : As.length = 2) (hs : st0 = As.reverse ++ .ref b :: rest) (hst : (rest.map fun v => v.category).sum ≤ 8) (hdy : dy + 1 ≤ d) (hmc : mc ≤ kc) (hms : ms ≤ ns) (k : WW X P z h (kc - mc) (ns - ms) (pc + 3) lv (v :: rest)) : WW X P z h kc ns pc lv st0 := ww_callV C (lw_V q1396 q1397 q1398 q136 q1399) ⟨rfl, dsc_J24_getLongUnaligned⟩ hd hM hr hn hs hst hdy (by decide) hmc hms (fun v' z' h' q => by
  obtain ⟨q1, q2, q3⟩ := q
  cases q1
  subst q2
  subst q3
  exact k) (fun E q z' h' q9 => by cases q9.1)
theorem cs_J13_49 (C : Cx X cc nL "jdk/internal/util/ArraysSupport" mn ret hh d) {Q : Value → ZR → AH → Prop} {QX : String → Nat → ZR → AH → Prop} (hd : decode cc pc = .ok (.invokestatic 49, 3)) (hM : Ct (xl X) (xG X) yJ25_numberOfTrailingZeros cJ25_numberOfTrailingZeros 3 (some .int) dy mc ms As z h (Rvx Q QX)) (hn : As.length = 1) (hs : st0 = As.reverse ++ rest) (hst : (rest.map fun v => v.category).sum ≤ 8) (hdy : dy + 1 ≤ d) (hmc : mc ≤ kc) (hms : ms ≤ ns) (kk : ∀ v z' h', Q v z' h' → WW X P z' h' (kc - mc) (ns - ms) (pc + 3) lv (v :: rest)) (kx : ∀ E q z' h', QX E q z' h' → WX X P z' h' (kc - mc) (ns - ms) pc lv E q) : WW X P z h kc ns pc lv st0 := ww_callS C (lw_S q1459 q1460 q138 q1461) dsc_J25_numberOfTrailingZeros hd hM hn hs hst hdy (by decide) hmc hms (fun v z' h' q => by
  cases v with
  | none => exact False.elim q
  | some v => exact kk v z' h' q) kx
theorem cs_J13_49_q (C : Cx X cc nL "jdk/internal/util/ArraysSupport" mn ret hh d) {Q : Value → ZR → AH → Prop} (hd : decode cc pc = .ok (.invokestatic 49, 3)) (hM : Ct (xl X) (xG X) yJ25_numberOfTrailingZeros cJ25_numberOfTrailingZeros 3 (some .int) dy mc ms As z h (Rv Q)) (hn : As.length = 1) (hs : st0 = As.reverse ++ rest) (hst : (rest.map fun v => v.category).sum ≤ 8) (hdy : dy + 1 ≤ d) (hmc : mc ≤ kc) (hms : ms ≤ ns) (kk : ∀ v z' h', Q v z' h' → WW X P z' h' (kc - mc) (ns - ms) (pc + 3) lv (v :: rest)) : WW X P z h kc ns pc lv st0 := cs_J13_49 C hd hM hn hs hst hdy hmc hms kk (fun _ _ _ _ q => False.elim q)
theorem cs_J13_49_r (C : Cx X cc nL "jdk/internal/util/ArraysSupport" mn ret hh d) {v : Value} (hd : decode cc pc = .ok (.invokestatic 49, 3)) (hM : Ct (xl X) (xG X) yJ25_numberOfTrailingZeros cJ25_numberOfTrailingZeros 3 (some .int) dy mc ms As z h (RdP z h (some v))) (hn : As.length = 1) (hs : st0 = As.reverse ++ rest) (hst : (rest.map fun v => v.category).sum ≤ 8) (hdy : dy + 1 ≤ d) (hmc : mc ≤ kc) (hms : ms ≤ ns) (k : WW X P z h (kc - mc) (ns - ms) (pc + 3) lv (v :: rest)) : WW X P z h kc ns pc lv st0 := ww_callS C (lw_S q1459 q1460 q138 q1461) dsc_J25_numberOfTrailingZeros hd hM hn hs hst hdy (by decide) hmc hms (fun v' z' h' q => by
  obtain ⟨q1, q2, q3⟩ := q
  cases q1
  subst q2
  subst q3
  exact k) (fun E q z' h' q9 => by cases q9.1)
end WCQ
