section WCY
set_option maxRecDepth 100000
variable {X : XT} {P : Oc → ZR → AH → Prop} {z : ZR} {h : AH} {kc ns pc nL d dy mc ms b : Nat} {lv : List (Nat × Value)} {st st0 As rest : List Value} {cc : ByteArray} {mn : String} {ret : Option FieldType} {hh : List (Nat × Nat × Nat × Nat)}
theorem cy_X14_17_X27_q (C : Cx X cc nL "RingDomino$Asked" mn ret hh d) {Q : Value → ZR → AH → Prop} (hd : decode cc pc = .ok (.invokevirtual 17, 3)) (hM : CtY (xl X) (xG X) yX27_of cX27_of 3 (some .int) dy mc ms (.ref b :: As) z h (Rv Q)) (hr : rcv (xG X) z h b "RingDomino$What$1") (hn : As.length = 2) (hs : st0 = As.reverse ++ .ref b :: rest) (hst : (rest.map fun v => v.category).sum ≤ 8) (hdy : dy + 1 ≤ d) (hmc : mc ≤ kc) (hms : ms ≤ ns) (kk : ∀ v z' h', Q v z' h' → WW X P z' h' (kc - mc) (ns - ms) (pc + 3) lv (v :: rest)) : WW X P z h kc ns pc lv st0 := ww_callY C (C1 := "RingDomino$What$1") (owner := "RingDomino$What") (lw_Y q2178 q2180 q2181 q2182 q2183) q2179 (by decide +kernel) hd hM hr hn hs hst hdy (by decide) hmc hms (fun v z' h' q => by
  cases v with
  | none => exact False.elim q
  | some v => exact kk v z' h' q) (fun _ _ _ _ q => False.elim q)
theorem cy_X14_17_X27_r (C : Cx X cc nL "RingDomino$Asked" mn ret hh d) {v : Value} (hd : decode cc pc = .ok (.invokevirtual 17, 3)) (hM : CtY (xl X) (xG X) yX27_of cX27_of 3 (some .int) dy mc ms (.ref b :: As) z h (RdP z h (some v))) (hr : rcv (xG X) z h b "RingDomino$What$1") (hn : As.length = 2) (hs : st0 = As.reverse ++ .ref b :: rest) (hst : (rest.map fun v => v.category).sum ≤ 8) (hdy : dy + 1 ≤ d) (hmc : mc ≤ kc) (hms : ms ≤ ns) (k : WW X P z h (kc - mc) (ns - ms) (pc + 3) lv (v :: rest)) : WW X P z h kc ns pc lv st0 := ww_callY C (C1 := "RingDomino$What$1") (owner := "RingDomino$What") (lw_Y q2178 q2180 q2181 q2182 q2183) q2179 (by decide +kernel) hd hM hr hn hs hst hdy (by decide) hmc hms (fun v' z' h' q => by
  obtain ⟨q1, q2, q3⟩ := q
  cases q1
  subst q2
  subst q3
  exact k) (fun E q z' h' q9 => by cases q9.1)
theorem cy_X14_17_X36_q (C : Cx X cc nL "RingDomino$Asked" mn ret hh d) {Q : Value → ZR → AH → Prop} (hd : decode cc pc = .ok (.invokevirtual 17, 3)) (hM : CtY (xl X) (xG X) yX36_of cX36_of 3 (some .int) dy mc ms (.ref b :: As) z h (Rv Q)) (hr : rcv (xG X) z h b "RingDomino$What$2") (hn : As.length = 2) (hs : st0 = As.reverse ++ .ref b :: rest) (hst : (rest.map fun v => v.category).sum ≤ 8) (hdy : dy + 1 ≤ d) (hmc : mc ≤ kc) (hms : ms ≤ ns) (kk : ∀ v z' h', Q v z' h' → WW X P z' h' (kc - mc) (ns - ms) (pc + 3) lv (v :: rest)) : WW X P z h kc ns pc lv st0 := ww_callY C (C1 := "RingDomino$What$2") (owner := "RingDomino$What") (lw_Y q2178 q2180 q2184 q2185 q2186) q2179 (by decide +kernel) hd hM hr hn hs hst hdy (by decide) hmc hms (fun v z' h' q => by
  cases v with
  | none => exact False.elim q
  | some v => exact kk v z' h' q) (fun _ _ _ _ q => False.elim q)
theorem cy_X14_17_X36_r (C : Cx X cc nL "RingDomino$Asked" mn ret hh d) {v : Value} (hd : decode cc pc = .ok (.invokevirtual 17, 3)) (hM : CtY (xl X) (xG X) yX36_of cX36_of 3 (some .int) dy mc ms (.ref b :: As) z h (RdP z h (some v))) (hr : rcv (xG X) z h b "RingDomino$What$2") (hn : As.length = 2) (hs : st0 = As.reverse ++ .ref b :: rest) (hst : (rest.map fun v => v.category).sum ≤ 8) (hdy : dy + 1 ≤ d) (hmc : mc ≤ kc) (hms : ms ≤ ns) (k : WW X P z h (kc - mc) (ns - ms) (pc + 3) lv (v :: rest)) : WW X P z h kc ns pc lv st0 := ww_callY C (C1 := "RingDomino$What$2") (owner := "RingDomino$What") (lw_Y q2178 q2180 q2184 q2185 q2186) q2179 (by decide +kernel) hd hM hr hn hs hst hdy (by decide) hmc hms (fun v' z' h' q => by
  obtain ⟨q1, q2, q3⟩ := q
  cases q1
  subst q2
  subst q3
  exact k) (fun E q z' h' q9 => by cases q9.1)
theorem cy_X14_17_X37_q (C : Cx X cc nL "RingDomino$Asked" mn ret hh d) {Q : Value → ZR → AH → Prop} (hd : decode cc pc = .ok (.invokevirtual 17, 3)) (hM : CtY (xl X) (xG X) yX37_of cX37_of 3 (some .int) dy mc ms (.ref b :: As) z h (Rv Q)) (hr : rcv (xG X) z h b "RingDomino$What$3") (hn : As.length = 2) (hs : st0 = As.reverse ++ .ref b :: rest) (hst : (rest.map fun v => v.category).sum ≤ 8) (hdy : dy + 1 ≤ d) (hmc : mc ≤ kc) (hms : ms ≤ ns) (kk : ∀ v z' h', Q v z' h' → WW X P z' h' (kc - mc) (ns - ms) (pc + 3) lv (v :: rest)) : WW X P z h kc ns pc lv st0 := ww_callY C (C1 := "RingDomino$What$3") (owner := "RingDomino$What") (lw_Y q2178 q2180 q2188 q2189 q2190) q2179 (by decide +kernel) hd hM hr hn hs hst hdy (by decide) hmc hms (fun v z' h' q => by
  cases v with
  | none => exact False.elim q
  | some v => exact kk v z' h' q) (fun _ _ _ _ q => False.elim q)
theorem cy_X14_17_X37_r (C : Cx X cc nL "RingDomino$Asked" mn ret hh d) {v : Value} (hd : decode cc pc = .ok (.invokevirtual 17, 3)) (hM : CtY (xl X) (xG X) yX37_of cX37_of 3 (some .int) dy mc ms (.ref b :: As) z h (RdP z h (some v))) (hr : rcv (xG X) z h b "RingDomino$What$3") (hn : As.length = 2) (hs : st0 = As.reverse ++ .ref b :: rest) (hst : (rest.map fun v => v.category).sum ≤ 8) (hdy : dy + 1 ≤ d) (hmc : mc ≤ kc) (hms : ms ≤ ns) (k : WW X P z h (kc - mc) (ns - ms) (pc + 3) lv (v :: rest)) : WW X P z h kc ns pc lv st0 := ww_callY C (C1 := "RingDomino$What$3") (owner := "RingDomino$What") (lw_Y q2178 q2180 q2188 q2189 q2190) q2179 (by decide +kernel) hd hM hr hn hs hst hdy (by decide) hmc hms (fun v' z' h' q => by
  obtain ⟨q1, q2, q3⟩ := q
  cases q1
  subst q2
  subst q3
  exact k) (fun E q z' h' q9 => by cases q9.1)
theorem cy_X14_17_X38_q (C : Cx X cc nL "RingDomino$Asked" mn ret hh d) {Q : Value → ZR → AH → Prop} (hd : decode cc pc = .ok (.invokevirtual 17, 3)) (hM : CtY (xl X) (xG X) yX38_of cX38_of 3 (some .int) dy mc ms (.ref b :: As) z h (Rv Q)) (hr : rcv (xG X) z h b "RingDomino$What$4") (hn : As.length = 2) (hs : st0 = As.reverse ++ .ref b :: rest) (hst : (rest.map fun v => v.category).sum ≤ 8) (hdy : dy + 1 ≤ d) (hmc : mc ≤ kc) (hms : ms ≤ ns) (kk : ∀ v z' h', Q v z' h' → WW X P z' h' (kc - mc) (ns - ms) (pc + 3) lv (v :: rest)) : WW X P z h kc ns pc lv st0 := ww_callY C (C1 := "RingDomino$What$4") (owner := "RingDomino$What") (lw_Y q2178 q2180 q2192 q2193 q2194) q2179 (by decide +kernel) hd hM hr hn hs hst hdy (by decide) hmc hms (fun v z' h' q => by
  cases v with
  | none => exact False.elim q
  | some v => exact kk v z' h' q) (fun _ _ _ _ q => False.elim q)
theorem cy_X14_17_X38_r (C : Cx X cc nL "RingDomino$Asked" mn ret hh d) {v : Value} (hd : decode cc pc = .ok (.invokevirtual 17, 3)) (hM : CtY (xl X) (xG X) yX38_of cX38_of 3 (some .int) dy mc ms (.ref b :: As) z h (RdP z h (some v))) (hr : rcv (xG X) z h b "RingDomino$What$4") (hn : As.length = 2) (hs : st0 = As.reverse ++ .ref b :: rest) (hst : (rest.map fun v => v.category).sum ≤ 8) (hdy : dy + 1 ≤ d) (hmc : mc ≤ kc) (hms : ms ≤ ns) (k : WW X P z h (kc - mc) (ns - ms) (pc + 3) lv (v :: rest)) : WW X P z h kc ns pc lv st0 := ww_callY C (C1 := "RingDomino$What$4") (owner := "RingDomino$What") (lw_Y q2178 q2180 q2192 q2193 q2194) q2179 (by decide +kernel) hd hM hr hn hs hst hdy (by decide) hmc hms (fun v' z' h' q => by
  obtain ⟨q1, q2, q3⟩ := q
  cases q1
  subst q2
  subst q3
  exact k) (fun E q z' h' q9 => by cases q9.1)
theorem cy_X14_17_X39_q (C : Cx X cc nL "RingDomino$Asked" mn ret hh d) {Q : Value → ZR → AH → Prop} (hd : decode cc pc = .ok (.invokevirtual 17, 3)) (hM : CtY (xl X) (xG X) yX39_of cX39_of 3 (some .int) dy mc ms (.ref b :: As) z h (Rv Q)) (hr : rcv (xG X) z h b "RingDomino$What$5") (hn : As.length = 2) (hs : st0 = As.reverse ++ .ref b :: rest) (hst : (rest.map fun v => v.category).sum ≤ 8) (hdy : dy + 1 ≤ d) (hmc : mc ≤ kc) (hms : ms ≤ ns) (kk : ∀ v z' h', Q v z' h' → WW X P z' h' (kc - mc) (ns - ms) (pc + 3) lv (v :: rest)) : WW X P z h kc ns pc lv st0 := ww_callY C (C1 := "RingDomino$What$5") (owner := "RingDomino$What") (lw_Y q2178 q2180 q2196 q2197 q2198) q2179 (by decide +kernel) hd hM hr hn hs hst hdy (by decide) hmc hms (fun v z' h' q => by
  cases v with
  | none => exact False.elim q
  | some v => exact kk v z' h' q) (fun _ _ _ _ q => False.elim q)
theorem cy_X14_17_X39_r (C : Cx X cc nL "RingDomino$Asked" mn ret hh d) {v : Value} (hd : decode cc pc = .ok (.invokevirtual 17, 3)) (hM : CtY (xl X) (xG X) yX39_of cX39_of 3 (some .int) dy mc ms (.ref b :: As) z h (RdP z h (some v))) (hr : rcv (xG X) z h b "RingDomino$What$5") (hn : As.length = 2) (hs : st0 = As.reverse ++ .ref b :: rest) (hst : (rest.map fun v => v.category).sum ≤ 8) (hdy : dy + 1 ≤ d) (hmc : mc ≤ kc) (hms : ms ≤ ns) (k : WW X P z h (kc - mc) (ns - ms) (pc + 3) lv (v :: rest)) : WW X P z h kc ns pc lv st0 := ww_callY C (C1 := "RingDomino$What$5") (owner := "RingDomino$What") (lw_Y q2178 q2180 q2196 q2197 q2198) q2179 (by decide +kernel) hd hM hr hn hs hst hdy (by decide) hmc hms (fun v' z' h' q => by
  obtain ⟨q1, q2, q3⟩ := q
  cases q1
  subst q2
  subst q3
  exact k) (fun E q z' h' q9 => by cases q9.1)
theorem cy_X14_17_X40_q (C : Cx X cc nL "RingDomino$Asked" mn ret hh d) {Q : Value → ZR → AH → Prop} (hd : decode cc pc = .ok (.invokevirtual 17, 3)) (hM : CtY (xl X) (xG X) yX40_of cX40_of 3 (some .int) dy mc ms (.ref b :: As) z h (Rv Q)) (hr : rcv (xG X) z h b "RingDomino$What$6") (hn : As.length = 2) (hs : st0 = As.reverse ++ .ref b :: rest) (hst : (rest.map fun v => v.category).sum ≤ 8) (hdy : dy + 1 ≤ d) (hmc : mc ≤ kc) (hms : ms ≤ ns) (kk : ∀ v z' h', Q v z' h' → WW X P z' h' (kc - mc) (ns - ms) (pc + 3) lv (v :: rest)) : WW X P z h kc ns pc lv st0 := ww_callY C (C1 := "RingDomino$What$6") (owner := "RingDomino$What") (lw_Y q2178 q2180 q2200 q2201 q2202) q2179 (by decide +kernel) hd hM hr hn hs hst hdy (by decide) hmc hms (fun v z' h' q => by
  cases v with
  | none => exact False.elim q
  | some v => exact kk v z' h' q) (fun _ _ _ _ q => False.elim q)
theorem cy_X14_17_X40_r (C : Cx X cc nL "RingDomino$Asked" mn ret hh d) {v : Value} (hd : decode cc pc = .ok (.invokevirtual 17, 3)) (hM : CtY (xl X) (xG X) yX40_of cX40_of 3 (some .int) dy mc ms (.ref b :: As) z h (RdP z h (some v))) (hr : rcv (xG X) z h b "RingDomino$What$6") (hn : As.length = 2) (hs : st0 = As.reverse ++ .ref b :: rest) (hst : (rest.map fun v => v.category).sum ≤ 8) (hdy : dy + 1 ≤ d) (hmc : mc ≤ kc) (hms : ms ≤ ns) (k : WW X P z h (kc - mc) (ns - ms) (pc + 3) lv (v :: rest)) : WW X P z h kc ns pc lv st0 := ww_callY C (C1 := "RingDomino$What$6") (owner := "RingDomino$What") (lw_Y q2178 q2180 q2200 q2201 q2202) q2179 (by decide +kernel) hd hM hr hn hs hst hdy (by decide) hmc hms (fun v' z' h' q => by
  obtain ⟨q1, q2, q3⟩ := q
  cases q1
  subst q2
  subst q3
  exact k) (fun E q z' h' q9 => by cases q9.1)
theorem cy_X14_17_X41_q (C : Cx X cc nL "RingDomino$Asked" mn ret hh d) {Q : Value → ZR → AH → Prop} (hd : decode cc pc = .ok (.invokevirtual 17, 3)) (hM : CtY (xl X) (xG X) yX41_of cX41_of 3 (some .int) dy mc ms (.ref b :: As) z h (Rv Q)) (hr : rcv (xG X) z h b "RingDomino$What$7") (hn : As.length = 2) (hs : st0 = As.reverse ++ .ref b :: rest) (hst : (rest.map fun v => v.category).sum ≤ 8) (hdy : dy + 1 ≤ d) (hmc : mc ≤ kc) (hms : ms ≤ ns) (kk : ∀ v z' h', Q v z' h' → WW X P z' h' (kc - mc) (ns - ms) (pc + 3) lv (v :: rest)) : WW X P z h kc ns pc lv st0 := ww_callY C (C1 := "RingDomino$What$7") (owner := "RingDomino$What") (lw_Y q2178 q2180 q2205 q2206 q2207) q2179 (by decide +kernel) hd hM hr hn hs hst hdy (by decide) hmc hms (fun v z' h' q => by
  cases v with
  | none => exact False.elim q
  | some v => exact kk v z' h' q) (fun _ _ _ _ q => False.elim q)
theorem cy_X14_17_X41_r (C : Cx X cc nL "RingDomino$Asked" mn ret hh d) {v : Value} (hd : decode cc pc = .ok (.invokevirtual 17, 3)) (hM : CtY (xl X) (xG X) yX41_of cX41_of 3 (some .int) dy mc ms (.ref b :: As) z h (RdP z h (some v))) (hr : rcv (xG X) z h b "RingDomino$What$7") (hn : As.length = 2) (hs : st0 = As.reverse ++ .ref b :: rest) (hst : (rest.map fun v => v.category).sum ≤ 8) (hdy : dy + 1 ≤ d) (hmc : mc ≤ kc) (hms : ms ≤ ns) (k : WW X P z h (kc - mc) (ns - ms) (pc + 3) lv (v :: rest)) : WW X P z h kc ns pc lv st0 := ww_callY C (C1 := "RingDomino$What$7") (owner := "RingDomino$What") (lw_Y q2178 q2180 q2205 q2206 q2207) q2179 (by decide +kernel) hd hM hr hn hs hst hdy (by decide) hmc hms (fun v' z' h' q => by
  obtain ⟨q1, q2, q3⟩ := q
  cases q1
  subst q2
  subst q3
  exact k) (fun E q z' h' q9 => by cases q9.1)
theorem cy_X3_168_X26_q (C : Cx X cc nL "RingDomino$Game" mn ret hh d) {Q : Value → ZR → AH → Prop} (hd : decode cc pc = .ok (.invokevirtual 168, 3)) (hM : CtY (xl X) (xG X) yX26_carry cX26_carry 5 (some .boolean) dy mc ms (.ref b :: As) z h (Rv Q)) (hr : rcv (xG X) z h b "RingDomino$Craft$1") (hn : As.length = 2) (hs : st0 = As.reverse ++ .ref b :: rest) (hst : (rest.map fun v => v.category).sum ≤ 8) (hdy : dy + 1 ≤ d) (hmc : mc ≤ kc) (hms : ms ≤ ns) (kk : ∀ v z' h', Q v z' h' → WW X P z' h' (kc - mc) (ns - ms) (pc + 3) lv (v :: rest)) : WW X P z h kc ns pc lv st0 := ww_callY C (C1 := "RingDomino$Craft$1") (owner := "RingDomino$Craft") (lw_Y q2301 q2303 q2304 q2305 q2306) q2302 (by decide +kernel) hd hM hr hn hs hst hdy (by decide) hmc hms (fun v z' h' q => by
  cases v with
  | none => exact False.elim q
  | some v => exact kk v z' h' q) (fun _ _ _ _ q => False.elim q)
theorem cy_X3_168_X26_r (C : Cx X cc nL "RingDomino$Game" mn ret hh d) {v : Value} (hd : decode cc pc = .ok (.invokevirtual 168, 3)) (hM : CtY (xl X) (xG X) yX26_carry cX26_carry 5 (some .boolean) dy mc ms (.ref b :: As) z h (RdP z h (some v))) (hr : rcv (xG X) z h b "RingDomino$Craft$1") (hn : As.length = 2) (hs : st0 = As.reverse ++ .ref b :: rest) (hst : (rest.map fun v => v.category).sum ≤ 8) (hdy : dy + 1 ≤ d) (hmc : mc ≤ kc) (hms : ms ≤ ns) (k : WW X P z h (kc - mc) (ns - ms) (pc + 3) lv (v :: rest)) : WW X P z h kc ns pc lv st0 := ww_callY C (C1 := "RingDomino$Craft$1") (owner := "RingDomino$Craft") (lw_Y q2301 q2303 q2304 q2305 q2306) q2302 (by decide +kernel) hd hM hr hn hs hst hdy (by decide) hmc hms (fun v' z' h' q => by
  obtain ⟨q1, q2, q3⟩ := q
  cases q1
  subst q2
  subst q3
  exact k) (fun E q z' h' q9 => by cases q9.1)
theorem cy_X3_168_X28_q (C : Cx X cc nL "RingDomino$Game" mn ret hh d) {Q : Value → ZR → AH → Prop} (hd : decode cc pc = .ok (.invokevirtual 168, 3)) (hM : CtY (xl X) (xG X) yX28_carry cX28_carry 3 (some .boolean) dy mc ms (.ref b :: As) z h (Rv Q)) (hr : rcv (xG X) z h b "RingDomino$Craft$2") (hn : As.length = 2) (hs : st0 = As.reverse ++ .ref b :: rest) (hst : (rest.map fun v => v.category).sum ≤ 8) (hdy : dy + 1 ≤ d) (hmc : mc ≤ kc) (hms : ms ≤ ns) (kk : ∀ v z' h', Q v z' h' → WW X P z' h' (kc - mc) (ns - ms) (pc + 3) lv (v :: rest)) : WW X P z h kc ns pc lv st0 := ww_callY C (C1 := "RingDomino$Craft$2") (owner := "RingDomino$Craft") (lw_Y q2301 q2303 q2320 q2321 q2322) q2302 (by decide +kernel) hd hM hr hn hs hst hdy (by decide) hmc hms (fun v z' h' q => by
  cases v with
  | none => exact False.elim q
  | some v => exact kk v z' h' q) (fun _ _ _ _ q => False.elim q)
theorem cy_X3_168_X28_r (C : Cx X cc nL "RingDomino$Game" mn ret hh d) {v : Value} (hd : decode cc pc = .ok (.invokevirtual 168, 3)) (hM : CtY (xl X) (xG X) yX28_carry cX28_carry 3 (some .boolean) dy mc ms (.ref b :: As) z h (RdP z h (some v))) (hr : rcv (xG X) z h b "RingDomino$Craft$2") (hn : As.length = 2) (hs : st0 = As.reverse ++ .ref b :: rest) (hst : (rest.map fun v => v.category).sum ≤ 8) (hdy : dy + 1 ≤ d) (hmc : mc ≤ kc) (hms : ms ≤ ns) (k : WW X P z h (kc - mc) (ns - ms) (pc + 3) lv (v :: rest)) : WW X P z h kc ns pc lv st0 := ww_callY C (C1 := "RingDomino$Craft$2") (owner := "RingDomino$Craft") (lw_Y q2301 q2303 q2320 q2321 q2322) q2302 (by decide +kernel) hd hM hr hn hs hst hdy (by decide) hmc hms (fun v' z' h' q => by
  obtain ⟨q1, q2, q3⟩ := q
  cases q1
  subst q2
  subst q3
  exact k) (fun E q z' h' q9 => by cases q9.1)
theorem cy_X3_168_X29_q (C : Cx X cc nL "RingDomino$Game" mn ret hh d) {Q : Value → ZR → AH → Prop} (hd : decode cc pc = .ok (.invokevirtual 168, 3)) (hM : CtY (xl X) (xG X) yX29_carry cX29_carry 4 (some .boolean) dy mc ms (.ref b :: As) z h (Rv Q)) (hr : rcv (xG X) z h b "RingDomino$Craft$3") (hn : As.length = 2) (hs : st0 = As.reverse ++ .ref b :: rest) (hst : (rest.map fun v => v.category).sum ≤ 8) (hdy : dy + 1 ≤ d) (hmc : mc ≤ kc) (hms : ms ≤ ns) (kk : ∀ v z' h', Q v z' h' → WW X P z' h' (kc - mc) (ns - ms) (pc + 3) lv (v :: rest)) : WW X P z h kc ns pc lv st0 := ww_callY C (C1 := "RingDomino$Craft$3") (owner := "RingDomino$Craft") (lw_Y q2301 q2303 q2328 q2329 q2330) q2302 (by decide +kernel) hd hM hr hn hs hst hdy (by decide) hmc hms (fun v z' h' q => by
  cases v with
  | none => exact False.elim q
  | some v => exact kk v z' h' q) (fun _ _ _ _ q => False.elim q)
theorem cy_X3_168_X29_r (C : Cx X cc nL "RingDomino$Game" mn ret hh d) {v : Value} (hd : decode cc pc = .ok (.invokevirtual 168, 3)) (hM : CtY (xl X) (xG X) yX29_carry cX29_carry 4 (some .boolean) dy mc ms (.ref b :: As) z h (RdP z h (some v))) (hr : rcv (xG X) z h b "RingDomino$Craft$3") (hn : As.length = 2) (hs : st0 = As.reverse ++ .ref b :: rest) (hst : (rest.map fun v => v.category).sum ≤ 8) (hdy : dy + 1 ≤ d) (hmc : mc ≤ kc) (hms : ms ≤ ns) (k : WW X P z h (kc - mc) (ns - ms) (pc + 3) lv (v :: rest)) : WW X P z h kc ns pc lv st0 := ww_callY C (C1 := "RingDomino$Craft$3") (owner := "RingDomino$Craft") (lw_Y q2301 q2303 q2328 q2329 q2330) q2302 (by decide +kernel) hd hM hr hn hs hst hdy (by decide) hmc hms (fun v' z' h' q => by
  obtain ⟨q1, q2, q3⟩ := q
  cases q1
  subst q2
  subst q3
  exact k) (fun E q z' h' q9 => by cases q9.1)
theorem cy_X16_24_X30_q (C : Cx X cc nL "RingDomino$Joined" mn ret hh d) {Q : Value → ZR → AH → Prop} (hd : decode cc pc = .ok (.invokevirtual 24, 3)) (hM : CtY (xl X) (xG X) yX30_join cX30_join 3 (some .int) dy mc ms (.ref b :: As) z h (Rv Q)) (hr : rcv (xG X) z h b "RingDomino$Sign$1") (hn : As.length = 2) (hs : st0 = As.reverse ++ .ref b :: rest) (hst : (rest.map fun v => v.category).sum ≤ 8) (hdy : dy + 1 ≤ d) (hmc : mc ≤ kc) (hms : ms ≤ ns) (kk : ∀ v z' h', Q v z' h' → WW X P z' h' (kc - mc) (ns - ms) (pc + 3) lv (v :: rest)) : WW X P z h kc ns pc lv st0 := ww_callY C (C1 := "RingDomino$Sign$1") (owner := "RingDomino$Sign") (lw_Y q2234 q2236 q2237 q2238 q2239) q2235 (by decide +kernel) hd hM hr hn hs hst hdy (by decide) hmc hms (fun v z' h' q => by
  cases v with
  | none => exact False.elim q
  | some v => exact kk v z' h' q) (fun _ _ _ _ q => False.elim q)
theorem cy_X16_24_X30_r (C : Cx X cc nL "RingDomino$Joined" mn ret hh d) {v : Value} (hd : decode cc pc = .ok (.invokevirtual 24, 3)) (hM : CtY (xl X) (xG X) yX30_join cX30_join 3 (some .int) dy mc ms (.ref b :: As) z h (RdP z h (some v))) (hr : rcv (xG X) z h b "RingDomino$Sign$1") (hn : As.length = 2) (hs : st0 = As.reverse ++ .ref b :: rest) (hst : (rest.map fun v => v.category).sum ≤ 8) (hdy : dy + 1 ≤ d) (hmc : mc ≤ kc) (hms : ms ≤ ns) (k : WW X P z h (kc - mc) (ns - ms) (pc + 3) lv (v :: rest)) : WW X P z h kc ns pc lv st0 := ww_callY C (C1 := "RingDomino$Sign$1") (owner := "RingDomino$Sign") (lw_Y q2234 q2236 q2237 q2238 q2239) q2235 (by decide +kernel) hd hM hr hn hs hst hdy (by decide) hmc hms (fun v' z' h' q => by
  obtain ⟨q1, q2, q3⟩ := q
  cases q1
  subst q2
  subst q3
  exact k) (fun E q z' h' q9 => by cases q9.1)
theorem cy_X16_24_X31_q (C : Cx X cc nL "RingDomino$Joined" mn ret hh d) {Q : Value → ZR → AH → Prop} (hd : decode cc pc = .ok (.invokevirtual 24, 3)) (hM : CtY (xl X) (xG X) yX31_join cX31_join 3 (some .int) dy mc ms (.ref b :: As) z h (Rv Q)) (hr : rcv (xG X) z h b "RingDomino$Sign$2") (hn : As.length = 2) (hs : st0 = As.reverse ++ .ref b :: rest) (hst : (rest.map fun v => v.category).sum ≤ 8) (hdy : dy + 1 ≤ d) (hmc : mc ≤ kc) (hms : ms ≤ ns) (kk : ∀ v z' h', Q v z' h' → WW X P z' h' (kc - mc) (ns - ms) (pc + 3) lv (v :: rest)) : WW X P z h kc ns pc lv st0 := ww_callY C (C1 := "RingDomino$Sign$2") (owner := "RingDomino$Sign") (lw_Y q2234 q2236 q2240 q2241 q2242) q2235 (by decide +kernel) hd hM hr hn hs hst hdy (by decide) hmc hms (fun v z' h' q => by
  cases v with
  | none => exact False.elim q
  | some v => exact kk v z' h' q) (fun _ _ _ _ q => False.elim q)
theorem cy_X16_24_X31_r (C : Cx X cc nL "RingDomino$Joined" mn ret hh d) {v : Value} (hd : decode cc pc = .ok (.invokevirtual 24, 3)) (hM : CtY (xl X) (xG X) yX31_join cX31_join 3 (some .int) dy mc ms (.ref b :: As) z h (RdP z h (some v))) (hr : rcv (xG X) z h b "RingDomino$Sign$2") (hn : As.length = 2) (hs : st0 = As.reverse ++ .ref b :: rest) (hst : (rest.map fun v => v.category).sum ≤ 8) (hdy : dy + 1 ≤ d) (hmc : mc ≤ kc) (hms : ms ≤ ns) (k : WW X P z h (kc - mc) (ns - ms) (pc + 3) lv (v :: rest)) : WW X P z h kc ns pc lv st0 := ww_callY C (C1 := "RingDomino$Sign$2") (owner := "RingDomino$Sign") (lw_Y q2234 q2236 q2240 q2241 q2242) q2235 (by decide +kernel) hd hM hr hn hs hst hdy (by decide) hmc hms (fun v' z' h' q => by
  obtain ⟨q1, q2, q3⟩ := q
  cases q1
  subst q2
  subst q3
  exact k) (fun E q z' h' q9 => by cases q9.1)
theorem cy_X16_24_X32_q (C : Cx X cc nL "RingDomino$Joined" mn ret hh d) {Q : Value → ZR → AH → Prop} (hd : decode cc pc = .ok (.invokevirtual 24, 3)) (hM : CtY (xl X) (xG X) yX32_join cX32_join 3 (some .int) dy mc ms (.ref b :: As) z h (Rv Q)) (hr : rcv (xG X) z h b "RingDomino$Sign$3") (hn : As.length = 2) (hs : st0 = As.reverse ++ .ref b :: rest) (hst : (rest.map fun v => v.category).sum ≤ 8) (hdy : dy + 1 ≤ d) (hmc : mc ≤ kc) (hms : ms ≤ ns) (kk : ∀ v z' h', Q v z' h' → WW X P z' h' (kc - mc) (ns - ms) (pc + 3) lv (v :: rest)) : WW X P z h kc ns pc lv st0 := ww_callY C (C1 := "RingDomino$Sign$3") (owner := "RingDomino$Sign") (lw_Y q2234 q2236 q2243 q2244 q2245) q2235 (by decide +kernel) hd hM hr hn hs hst hdy (by decide) hmc hms (fun v z' h' q => by
  cases v with
  | none => exact False.elim q
  | some v => exact kk v z' h' q) (fun _ _ _ _ q => False.elim q)
theorem cy_X16_24_X32_r (C : Cx X cc nL "RingDomino$Joined" mn ret hh d) {v : Value} (hd : decode cc pc = .ok (.invokevirtual 24, 3)) (hM : CtY (xl X) (xG X) yX32_join cX32_join 3 (some .int) dy mc ms (.ref b :: As) z h (RdP z h (some v))) (hr : rcv (xG X) z h b "RingDomino$Sign$3") (hn : As.length = 2) (hs : st0 = As.reverse ++ .ref b :: rest) (hst : (rest.map fun v => v.category).sum ≤ 8) (hdy : dy + 1 ≤ d) (hmc : mc ≤ kc) (hms : ms ≤ ns) (k : WW X P z h (kc - mc) (ns - ms) (pc + 3) lv (v :: rest)) : WW X P z h kc ns pc lv st0 := ww_callY C (C1 := "RingDomino$Sign$3") (owner := "RingDomino$Sign") (lw_Y q2234 q2236 q2243 q2244 q2245) q2235 (by decide +kernel) hd hM hr hn hs hst hdy (by decide) hmc hms (fun v' z' h' q => by
  obtain ⟨q1, q2, q3⟩ := q
  cases q1
  subst q2
  subst q3
  exact k) (fun E q z' h' q9 => by cases q9.1)
theorem cy_X16_24_X33_q (C : Cx X cc nL "RingDomino$Joined" mn ret hh d) {Q : Value → ZR → AH → Prop} (hd : decode cc pc = .ok (.invokevirtual 24, 3)) (hM : CtY (xl X) (xG X) yX33_join cX33_join 3 (some .int) dy mc ms (.ref b :: As) z h (Rv Q)) (hr : rcv (xG X) z h b "RingDomino$Sign$4") (hn : As.length = 2) (hs : st0 = As.reverse ++ .ref b :: rest) (hst : (rest.map fun v => v.category).sum ≤ 8) (hdy : dy + 1 ≤ d) (hmc : mc ≤ kc) (hms : ms ≤ ns) (kk : ∀ v z' h', Q v z' h' → WW X P z' h' (kc - mc) (ns - ms) (pc + 3) lv (v :: rest)) : WW X P z h kc ns pc lv st0 := ww_callY C (C1 := "RingDomino$Sign$4") (owner := "RingDomino$Sign") (lw_Y q2234 q2236 q2246 q2247 q2248) q2235 (by decide +kernel) hd hM hr hn hs hst hdy (by decide) hmc hms (fun v z' h' q => by
  cases v with
  | none => exact False.elim q
  | some v => exact kk v z' h' q) (fun _ _ _ _ q => False.elim q)
theorem cy_X16_24_X33_r (C : Cx X cc nL "RingDomino$Joined" mn ret hh d) {v : Value} (hd : decode cc pc = .ok (.invokevirtual 24, 3)) (hM : CtY (xl X) (xG X) yX33_join cX33_join 3 (some .int) dy mc ms (.ref b :: As) z h (RdP z h (some v))) (hr : rcv (xG X) z h b "RingDomino$Sign$4") (hn : As.length = 2) (hs : st0 = As.reverse ++ .ref b :: rest) (hst : (rest.map fun v => v.category).sum ≤ 8) (hdy : dy + 1 ≤ d) (hmc : mc ≤ kc) (hms : ms ≤ ns) (k : WW X P z h (kc - mc) (ns - ms) (pc + 3) lv (v :: rest)) : WW X P z h kc ns pc lv st0 := ww_callY C (C1 := "RingDomino$Sign$4") (owner := "RingDomino$Sign") (lw_Y q2234 q2236 q2246 q2247 q2248) q2235 (by decide +kernel) hd hM hr hn hs hst hdy (by decide) hmc hms (fun v' z' h' q => by
  obtain ⟨q1, q2, q3⟩ := q
  cases q1
  subst q2
  subst q3
  exact k) (fun E q z' h' q9 => by cases q9.1)
theorem cy_X16_24_X34_q (C : Cx X cc nL "RingDomino$Joined" mn ret hh d) {Q : Value → ZR → AH → Prop} (hd : decode cc pc = .ok (.invokevirtual 24, 3)) (hM : CtY (xl X) (xG X) yX34_join cX34_join 3 (some .int) dy mc ms (.ref b :: As) z h (Rv Q)) (hr : rcv (xG X) z h b "RingDomino$Sign$5") (hn : As.length = 2) (hs : st0 = As.reverse ++ .ref b :: rest) (hst : (rest.map fun v => v.category).sum ≤ 8) (hdy : dy + 1 ≤ d) (hmc : mc ≤ kc) (hms : ms ≤ ns) (kk : ∀ v z' h', Q v z' h' → WW X P z' h' (kc - mc) (ns - ms) (pc + 3) lv (v :: rest)) : WW X P z h kc ns pc lv st0 := ww_callY C (C1 := "RingDomino$Sign$5") (owner := "RingDomino$Sign") (lw_Y q2234 q2236 q2249 q2250 q2251) q2235 (by decide +kernel) hd hM hr hn hs hst hdy (by decide) hmc hms (fun v z' h' q => by
  cases v with
  | none => exact False.elim q
  | some v => exact kk v z' h' q) (fun _ _ _ _ q => False.elim q)
theorem cy_X16_24_X34_r (C : Cx X cc nL "RingDomino$Joined" mn ret hh d) {v : Value} (hd : decode cc pc = .ok (.invokevirtual 24, 3)) (hM : CtY (xl X) (xG X) yX34_join cX34_join 3 (some .int) dy mc ms (.ref b :: As) z h (RdP z h (some v))) (hr : rcv (xG X) z h b "RingDomino$Sign$5") (hn : As.length = 2) (hs : st0 = As.reverse ++ .ref b :: rest) (hst : (rest.map fun v => v.category).sum ≤ 8) (hdy : dy + 1 ≤ d) (hmc : mc ≤ kc) (hms : ms ≤ ns) (k : WW X P z h (kc - mc) (ns - ms) (pc + 3) lv (v :: rest)) : WW X P z h kc ns pc lv st0 := ww_callY C (C1 := "RingDomino$Sign$5") (owner := "RingDomino$Sign") (lw_Y q2234 q2236 q2249 q2250 q2251) q2235 (by decide +kernel) hd hM hr hn hs hst hdy (by decide) hmc hms (fun v' z' h' q => by
  obtain ⟨q1, q2, q3⟩ := q
  cases q1
  subst q2
  subst q3
  exact k) (fun E q z' h' q9 => by cases q9.1)
theorem cy_X16_24_X35_q (C : Cx X cc nL "RingDomino$Joined" mn ret hh d) {Q : Value → ZR → AH → Prop} (hd : decode cc pc = .ok (.invokevirtual 24, 3)) (hM : CtY (xl X) (xG X) yX35_join cX35_join 3 (some .int) dy mc ms (.ref b :: As) z h (Rv Q)) (hr : rcv (xG X) z h b "RingDomino$Sign$6") (hn : As.length = 2) (hs : st0 = As.reverse ++ .ref b :: rest) (hst : (rest.map fun v => v.category).sum ≤ 8) (hdy : dy + 1 ≤ d) (hmc : mc ≤ kc) (hms : ms ≤ ns) (kk : ∀ v z' h', Q v z' h' → WW X P z' h' (kc - mc) (ns - ms) (pc + 3) lv (v :: rest)) : WW X P z h kc ns pc lv st0 := ww_callY C (C1 := "RingDomino$Sign$6") (owner := "RingDomino$Sign") (lw_Y q2234 q2236 q2253 q2254 q2255) q2235 (by decide +kernel) hd hM hr hn hs hst hdy (by decide) hmc hms (fun v z' h' q => by
  cases v with
  | none => exact False.elim q
  | some v => exact kk v z' h' q) (fun _ _ _ _ q => False.elim q)
theorem cy_X16_24_X35_r (C : Cx X cc nL "RingDomino$Joined" mn ret hh d) {v : Value} (hd : decode cc pc = .ok (.invokevirtual 24, 3)) (hM : CtY (xl X) (xG X) yX35_join cX35_join 3 (some .int) dy mc ms (.ref b :: As) z h (RdP z h (some v))) (hr : rcv (xG X) z h b "RingDomino$Sign$6") (hn : As.length = 2) (hs : st0 = As.reverse ++ .ref b :: rest) (hst : (rest.map fun v => v.category).sum ≤ 8) (hdy : dy + 1 ≤ d) (hmc : mc ≤ kc) (hms : ms ≤ ns) (k : WW X P z h (kc - mc) (ns - ms) (pc + 3) lv (v :: rest)) : WW X P z h kc ns pc lv st0 := ww_callY C (C1 := "RingDomino$Sign$6") (owner := "RingDomino$Sign") (lw_Y q2234 q2236 q2253 q2254 q2255) q2235 (by decide +kernel) hd hM hr hn hs hst hdy (by decide) hmc hms (fun v' z' h' q => by
  obtain ⟨q1, q2, q3⟩ := q
  cases q1
  subst q2
  subst q3
  exact k) (fun E q z' h' q9 => by cases q9.1)
end WCY
