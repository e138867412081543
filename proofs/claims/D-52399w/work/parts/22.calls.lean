/-! ===== calls ===== -/
section WC
set_option maxRecDepth 100000
variable {X : XT} {P : Oc → ZR → AH → Prop} {z : ZR} {h : AH} {kc ns pc nL d : Nat} {lv : List (Nat × Value)} {st : List Value} {cc : ByteArray} {own mn : String} {ret : Option FieldType} {hh : List (Nat × Nat × Nat × Nat)}
/-- a method that changes nothing and answers v -/
def RdP (z : ZR) (h : AH) (v : Option Value) : Oc → ZR → AH → Prop := fun o z' h' => o = .inl v ∧ z' = z ∧ h' = h
/-- a method that answers a value with Q, or throws with QX -/
def Rvx (Q : Value → ZR → AH → Prop) (QX : String → Nat → ZR → AH → Prop) : Oc → ZR → AH → Prop := fun o z' h' => match o with
  | .inl (some v) => Q v z' h'
  | .inl none => False
  | .inr (E, q) => QX E q z' h'
def Rnx (Q : ZR → AH → Prop) (QX : String → Nat → ZR → AH → Prop) : Oc → ZR → AH → Prop := fun o z' h' => match o with
  | .inl (some _) => False
  | .inl none => Q z' h'
  | .inr (E, q) => QX E q z' h'
abbrev Rv (Q : Value → ZR → AH → Prop) : Oc → ZR → AH → Prop := Rvx Q (fun _ _ _ _ => False)
abbrev Rn (Q : ZR → AH → Prop) : Oc → ZR → AH → Prop := Rnx Q (fun _ _ _ _ => False)
theorem ww_run {st0 rest : List Value} {mc ms : Nat} {a : Array Value} {Pc : Oc → ZR → AH → Prop} {H : Heap} {ls : Array Slot} {locs : List Loc} (a1 : kc ≤ (xR X).cells) (a2 : ns ≤ (xR X).slots) (hI : Inv X z h H locs) (hl : lv_has ls (xc X).maxLocals lv) (hmc : mc ≤ kc) (hms : ms ≤ ns)
    (hr : vx_Run (xp X) (xl X) (xe X) (xR X) (xs X) (xm X) (xa X) (xb X) (xt X) (xc X) H locs ((xR X).cells - kc) ((xR X).slots - ns) mc ms (F0 (xm X) pc ls st0) rest (QcP (xG X) z h Pc a) (XcP (xG X) z h Pc) (fun q => gN (xG X) ≤ q))
    (kk : ∀ v z' h', Pc (.inl v) z' h' → WW X P z' h' (kc - mc) (ns - ms) (pc + 3) lv (v.toList ++ rest))
    (kx : ∀ E q z' h', Pc (.inr (E, q)) z' h' → WX X P z' h' (kc - mc) (ns - ms) pc lv E q) :
    W (xp X) (xl X) (xe X) (xR X) (xs X) (xm X) (xa X) (xb X) (xt X) (xc X) H locs ((xR X).cells - kc) ((xR X).slots - ns) (xQ X P) (F0 (xm X) pc ls st0) := by
  intro T hT Y
  rcases hr T hT Y with ⟨v, st₀, t, T', L, h0, Y', hL, e1, e2, ⟨v', z', h', hv, hp, hR, hF⟩, st⟩ | ⟨q, st₀, t, T', L, E, ce, h0, Y', hL, e1, e2, ⟨z', h', hp, hR, hF⟩, hce, hcv, hcl, st⟩
  · cases hv
    rw [h0] at hF
    rw [← e1] at hR hF
    have hI' : Inv X z' h' T'.heap (locs ++ L) := ⟨hR, hI.2.1.trans hF, fun q hq => by
      rcases List.mem_append.mp hq with q9 | q9
      · exact hI.2.2 q q9
      · exact hL q q9⟩
    have key := kk v z' h' hp (by omega) (by omega) T'.heap ls (locs ++ L) hI' hl
    rw [show (xR X).cells - (kc - mc) = (xR X).cells - kc + mc by omega, show (xR X).slots - (ns - ms) = (xR X).slots - ns + ms by omega] at key
    obtain ⟨t2, b1, b2⟩ := key T' rfl Y'
    exact ⟨t2, st t2 b1, b2⟩
  · rw [h0] at hF
    rw [← e1] at hR hF
    have hI' : Inv X z' h' T'.heap (locs ++ L) := ⟨hR, hI.2.1.trans hF, fun q hq => by
      rcases List.mem_append.mp hq with q9 | q9
      · exact hI.2.2 q q9
      · exact hL q q9⟩
    have key := kx E q z' h' hp (by omega) (by omega) T'.heap ls (locs ++ L) rest ce hI' hl (by rw [e1]; exact hce) hcv hcl
    rw [show (xR X).cells - (kc - mc) = (xR X).cells - kc + mc by omega, show (xR X).slots - (ns - ms) = (xR X).slots - ns + ms by omega] at key
    obtain ⟨t2, b1, b2⟩ := key T' rfl Y'
    exact ⟨t2, st.trans b1, b2⟩
theorem ww_run5 {st0 rest : List Value} {mc ms : Nat} {a : Array Value} {Pc : Oc → ZR → AH → Prop} {H : Heap} {ls : Array Slot} {locs : List Loc} (a1 : kc ≤ (xR X).cells) (a2 : ns ≤ (xR X).slots) (hI : Inv X z h H locs) (hl : lv_has ls (xc X).maxLocals lv) (hmc : mc ≤ kc) (hms : ms ≤ ns)
    (hr : vx_Run5 (xp X) (xl X) (xe X) (xR X) (xs X) (xm X) (xa X) (xb X) (xt X) (xc X) H locs ((xR X).cells - kc) ((xR X).slots - ns) mc ms (F0 (xm X) pc ls st0) rest (QcP (xG X) z h Pc a) (XcP (xG X) z h Pc) (fun q => gN (xG X) ≤ q))
    (kk : ∀ v z' h', Pc (.inl v) z' h' → WW X P z' h' (kc - mc) (ns - ms) (pc + 5) lv (v.toList ++ rest))
    (kx : ∀ E q z' h', Pc (.inr (E, q)) z' h' → WX X P z' h' (kc - mc) (ns - ms) pc lv E q) :
    W (xp X) (xl X) (xe X) (xR X) (xs X) (xm X) (xa X) (xb X) (xt X) (xc X) H locs ((xR X).cells - kc) ((xR X).slots - ns) (xQ X P) (F0 (xm X) pc ls st0) := by
  intro T hT Y
  rcases hr T hT Y with ⟨v, st₀, t, T', L, h0, Y', hL, e1, e2, ⟨v', z', h', hv, hp, hR, hF⟩, st⟩ | ⟨q, st₀, t, T', L, E, ce, h0, Y', hL, e1, e2, ⟨z', h', hp, hR, hF⟩, hce, hcv, hcl, st⟩
  · cases hv
    rw [h0] at hF
    rw [← e1] at hR hF
    have hI' : Inv X z' h' T'.heap (locs ++ L) := ⟨hR, hI.2.1.trans hF, fun q hq => by
      rcases List.mem_append.mp hq with q9 | q9
      · exact hI.2.2 q q9
      · exact hL q q9⟩
    have key := kk v z' h' hp (by omega) (by omega) T'.heap ls (locs ++ L) hI' hl
    rw [show (xR X).cells - (kc - mc) = (xR X).cells - kc + mc by omega, show (xR X).slots - (ns - ms) = (xR X).slots - ns + ms by omega] at key
    obtain ⟨t2, b1, b2⟩ := key T' rfl Y'
    exact ⟨t2, st t2 b1, b2⟩
  · rw [h0] at hF
    rw [← e1] at hR hF
    have hI' : Inv X z' h' T'.heap (locs ++ L) := ⟨hR, hI.2.1.trans hF, fun q hq => by
      rcases List.mem_append.mp hq with q9 | q9
      · exact hI.2.2 q q9
      · exact hL q q9⟩
    have key := kx E q z' h' hp (by omega) (by omega) T'.heap ls (locs ++ L) rest ce hI' hl (by rw [e1]; exact hce) hcv hcl
    rw [show (xR X).cells - (kc - mc) = (xR X).cells - kc + mc by omega, show (xR X).slots - (ns - ms) = (xR X).slots - ns + ms by omega] at key
    obtain ⟨t2, b1, b2⟩ := key T' rfl Y'
    exact ⟨t2, st.trans b1, b2⟩
theorem pre_blind {Γ : Gm} {av : List Value} : FrameBlind (PcP Γ av z h) := fun _ _ _ _ q => q
theorem Cx.preS (C : Cx X cc nL own mn ret hh d) {H : Heap} {locs : List Loc} (hI : Inv X z h H locs) {As : List Value} : PreS (xs X) H (PcP (xG X) As z h) As := ⟨pre_blind, fun U hU hW => ⟨rfl, State.WarmedH.trans C.2.2.2.2.2.2.2.1 hW, by rw [hU]; exact hI.1⟩⟩
theorem Cx.preV (C : Cx X cc nL own mn ret hh d) {H : Heap} {locs : List Loc} (hI : Inv X z h H locs) {b : Nat} {C1 : String} {As : List Value} (hr : rcv (xG X) z h b C1) : PreV (xs X) H C1 b (PcP (xG X) (.ref b :: As) z h) As := ⟨pre_blind, hr _ H C.2.2.2.2.2.2.2.1 hI.1, fun U hU hW => ⟨rfl, State.WarmedH.trans C.2.2.2.2.2.2.2.1 hW, by rw [hU]; exact hI.1⟩⟩
theorem Cx.fix (C : Cx X cc nL own mn ret hh d) : CallFix (xp X) (xm X) (xc X) cc nL (xs X) (xa X) lw_all own := ⟨C.1, C.2.1, C.2.2.1, C.2.2.2.1, C.2.2.2.2.1⟩
theorem Cx.room (C : Cx X cc nL own mn ret hh d) {dy mc ms maxL : Nat} (hdy : dy + 1 ≤ d) (hnl : maxL ≤ 29) : (rmD dy mc ms).frames + 1 ≤ (xR X).frames ∧ 8 + (maxL + 11) + (rmD dy mc ms).locals ≤ (xR X).locals := by
  have hf : (xR X).frames = d := C.2.2.2.2.2.2.2.2.2.2.2.2.1
  have hlo : (xR X).locals = 48 * d := C.2.2.2.2.2.2.2.2.2.2.2.2.2
  rw [hf, hlo]
  refine ⟨hdy, ?_⟩
  show 8 + (maxL + 11) + 48 * dy ≤ 48 * d
  omega
theorem Cx.rest (C : Cx X cc nL own mn ret hh d) {rest st0 : List Value} {ls : Array Slot} (hst : (rest.map fun v => v.category).sum ≤ 8) : 2 * (F0 (xm X) pc ls st0).monitorRoom + (rest.map fun v => v.category).sum ≤ 8 := lv_room hst
theorem Cx.sz (C : Cx X cc nL own mn ret hh d) {ls : Array Slot} (hl : lv_has ls (xc X).maxLocals lv) : ls.size = nL := by rw [← C.2.2.1]; exact hl.1
theorem ww_callV (C : Cx X cc nL own mn ret hh d) {index nLy dy mc ms n b : Nat} {y : MethodName} {cy : ByteArray} {rety : Option FieldType} {As rest st0 : List Value} {Pc : Oc → ZR → AH → Prop} {C1 : String} (hw : GoodIn lw_all (wsV own index C1 y (ws_ y cy nLy rety))) (hdsc : y.cls = C1 ∧ y.cls ≠ "java/lang/invoke/MethodHandle" ∧ y.cls ≠ "java/lang/invoke/VarHandle" ∧ (parseMethodDescriptor y.desc).map (fun d => d.parameters.length) = some n) (hd : decode cc pc = .ok (.invokevirtual index, 3)) (hM : Ct (xl X) (xG X) y cy nLy rety dy mc ms (.ref b :: As) z h Pc) (hr : rcv (xG X) z h b C1) (hn : As.length = n) (hs : st0 = As.reverse ++ .ref b :: rest) (hst : (rest.map fun v => v.category).sum ≤ 8) (hdy : dy + 1 ≤ d) (hnl : nLy ≤ 29) (hmc : mc ≤ kc) (hms : ms ≤ ns) (kk : ∀ v z' h', Pc (.inl v) z' h' → WW X P z' h' (kc - mc) (ns - ms) (pc + 3) lv (v.toList ++ rest)) (kx : ∀ E q z' h', Pc (.inr (E, q)) z' h' → WX X P z' h' (kc - mc) (ns - ms) pc lv E q) : WW X P z h kc ns pc lv st0 := by
  intro a1 a2 H ls locs hI hl
  exact ww_run a1 a2 hI hl hmc hms (vx_runV (Cx.fix C) hM (cwV n C.2.2.2.2.1 hw rfl rfl rfl hdsc (Cx.room C hdy hnl)) (Cx.preV C hI hr) rfl hn (Cx.sz C hl) hs (Cx.rest C hst) hd ⟨by omega, by omega⟩) kk kx
theorem ww_callS (C : Cx X cc nL own mn ret hh d) {index nLy dy mc ms n : Nat} {y : MethodName} {cy : ByteArray} {rety : Option FieldType} {As rest st0 : List Value} {Pc : Oc → ZR → AH → Prop}  (hw : GoodIn lw_all (va_wsS own index y (ws_ y cy nLy rety))) (hdsc : y.cls ≠ "java/lang/invoke/MethodHandle" ∧ y.cls ≠ "java/lang/invoke/VarHandle" ∧ (parseMethodDescriptor y.desc).map (fun d => d.parameters.length) = some n) (hd : decode cc pc = .ok (.invokestatic index, 3)) (hM : Ct (xl X) (xG X) y cy nLy rety dy mc ms As z h Pc) (hn : As.length = n) (hs : st0 = As.reverse ++ rest) (hst : (rest.map fun v => v.category).sum ≤ 8) (hdy : dy + 1 ≤ d) (hnl : nLy ≤ 29) (hmc : mc ≤ kc) (hms : ms ≤ ns) (kk : ∀ v z' h', Pc (.inl v) z' h' → WW X P z' h' (kc - mc) (ns - ms) (pc + 3) lv (v.toList ++ rest)) (kx : ∀ E q z' h', Pc (.inr (E, q)) z' h' → WX X P z' h' (kc - mc) (ns - ms) pc lv E q) : WW X P z h kc ns pc lv st0 := by
  intro a1 a2 H ls locs hI hl
  exact ww_run a1 a2 hI hl hmc hms (vx_runS (Cx.fix C) hM (va_cwS n C.2.2.2.2.1 hw rfl rfl rfl hdsc (Cx.room C hdy hnl)) (Cx.preS C hI) rfl hn (Cx.sz C hl) hs (Cx.rest C hst) hd ⟨by omega, by omega⟩) kk kx
theorem ww_callI (C : Cx X cc nL own mn ret hh d) {index nLy dy mc ms n b : Nat} {y : MethodName} {cy : ByteArray} {As rest st0 : List Value} {Pc : Oc → ZR → AH → Prop}  (hw : GoodIn lw_all (ws_ y cy nLy none)) (hini : Cond.initialized y.cls ∈ lw_all) (hlk : Cond.methodLink own index y ∈ lw_all) (him : Cond.instanceMethod y ∈ lw_all) (hy1 : y.name = "<init>") (hdsc : y.cls ≠ "java/lang/invoke/MethodHandle" ∧ y.cls ≠ "java/lang/invoke/VarHandle" ∧ (parseMethodDescriptor y.desc).map (fun d => d.parameters.length) = some n) (hd : decode cc pc = .ok (.invokespecial index, 3)) (hM : Ct (xl X) (xG X) y cy nLy none dy mc ms (.ref b :: As) z h Pc) (hn : As.length = n) (hs : st0 = As.reverse ++ .ref b :: rest) (hst : (rest.map fun v => v.category).sum ≤ 8) (hdy : dy + 1 ≤ d) (hnl : nLy ≤ 29) (hmc : mc ≤ kc) (hms : ms ≤ ns) (kk : ∀ v z' h', Pc (.inl v) z' h' → WW X P z' h' (kc - mc) (ns - ms) (pc + 3) lv (v.toList ++ rest)) (kx : ∀ E q z' h', Pc (.inr (E, q)) z' h' → WX X P z' h' (kc - mc) (ns - ms) pc lv E q) : WW X P z h kc ns pc lv st0 := by
  intro a1 a2 H ls locs hI hl
  exact ww_run a1 a2 hI hl hmc hms (vx_runI (Cx.fix C) hM (cwI n C.2.2.2.2.1 hw rfl rfl rfl (C.2.2.2.2.1 _ hini) (C.2.2.2.2.1 _ hlk) (C.2.2.2.2.1 _ him) hy1 hdsc (Cx.room C hdy hnl)) (Cx.preS C hI) rfl hn (Cx.sz C hl) hs (Cx.rest C hst) hd ⟨by omega, by omega⟩) kk kx
theorem ww_callIN (C : Cx X cc nL own mn ret hh d) {index nLy dy mc ms n b : Nat} {y : MethodName} {cy : ByteArray} {As rest st0 : List Value} {Pc : Oc → ZR → AH → Prop} {host : String} (hw : GoodIn lw_all (ws_ y cy nLy none)) (hini : Cond.initialized y.cls ∈ lw_all) (hlk : Cond.methodLinkNest own index y host ∈ lw_tbl) (him : Cond.instanceMethod y ∈ lw_all) (hy1 : y.name = "<init>") (hdsc : y.cls ≠ "java/lang/invoke/MethodHandle" ∧ y.cls ≠ "java/lang/invoke/VarHandle" ∧ (parseMethodDescriptor y.desc).map (fun d => d.parameters.length) = some n) (hd : decode cc pc = .ok (.invokespecial index, 3)) (hM : Ct (xl X) (xG X) y cy nLy none dy mc ms (.ref b :: As) z h Pc) (hn : As.length = n) (hs : st0 = As.reverse ++ .ref b :: rest) (hst : (rest.map fun v => v.category).sum ≤ 8) (hdy : dy + 1 ≤ d) (hnl : nLy ≤ 29) (hmc : mc ≤ kc) (hms : ms ≤ ns) (kk : ∀ v z' h', Pc (.inl v) z' h' → WW X P z' h' (kc - mc) (ns - ms) (pc + 3) lv (v.toList ++ rest)) (kx : ∀ E q z' h', Pc (.inr (E, q)) z' h' → WX X P z' h' (kc - mc) (ns - ms) pc lv E q) : WW X P z h kc ns pc lv st0 := by
  intro a1 a2 H ls locs hI hl
  exact ww_run a1 a2 hI hl hmc hms (vx_runIN (Cx.fix C) hM ⟨va_cnB n C.2.2.2.2.1 hw rfl rfl rfl (va_Nw.warmM C.2.2.2.2.2.2.2.1 (Cx.N C hlk rfl)) (C.2.2.2.2.1 _ hini) hdsc (Cx.room C hdy hnl), hy1, C.2.2.2.2.1 _ him⟩ (Cx.preS C hI) rfl hn (Cx.sz C hl) hs (Cx.rest C hst) hd ⟨by omega, by omega⟩) kk kx
theorem ww_callSN (C : Cx X cc nL own mn ret hh d) {index nLy dy mc ms n : Nat} {y : MethodName} {cy : ByteArray} {rety : Option FieldType} {As rest st0 : List Value} {Pc : Oc → ZR → AH → Prop} {host : String} (hw : GoodIn lw_all (ws_ y cy nLy rety)) (hini : Cond.initialized y.cls ∈ lw_all) (hlk : Cond.methodLinkNest own index y host ∈ lw_tbl) (hstt : Cond.static y ∈ lw_all) (hdsc : y.cls ≠ "java/lang/invoke/MethodHandle" ∧ y.cls ≠ "java/lang/invoke/VarHandle" ∧ (parseMethodDescriptor y.desc).map (fun d => d.parameters.length) = some n) (hd : decode cc pc = .ok (.invokestatic index, 3)) (hM : Ct (xl X) (xG X) y cy nLy rety dy mc ms As z h Pc) (hn : As.length = n) (hs : st0 = As.reverse ++ rest) (hst : (rest.map fun v => v.category).sum ≤ 8) (hdy : dy + 1 ≤ d) (hnl : nLy ≤ 29) (hmc : mc ≤ kc) (hms : ms ≤ ns) (kk : ∀ v z' h', Pc (.inl v) z' h' → WW X P z' h' (kc - mc) (ns - ms) (pc + 3) lv (v.toList ++ rest)) (kx : ∀ E q z' h', Pc (.inr (E, q)) z' h' → WX X P z' h' (kc - mc) (ns - ms) pc lv E q) : WW X P z h kc ns pc lv st0 := by
  intro a1 a2 H ls locs hI hl
  exact ww_run a1 a2 hI hl hmc hms (vx_runSN (Cx.fix C) hM ⟨va_cnB n C.2.2.2.2.1 hw rfl rfl rfl (va_Nw.warmM C.2.2.2.2.2.2.2.1 (Cx.N C hlk rfl)) (C.2.2.2.2.1 _ hini) hdsc (Cx.room C hdy hnl), C.2.2.2.2.1 _ hstt, trivial⟩ (Cx.preS C hI) rfl hn (Cx.sz C hl) hs (Cx.rest C hst) hd ⟨by omega, by omega⟩) kk kx
theorem ww_callA (C : Cx X cc nL own mn ret hh d) {index nLy dy mc ms n b : Nat} {y : MethodName} {cy : ByteArray} {rety : Option FieldType} {As rest st0 : List Value} {Pc : Oc → ZR → AH → Prop} {C1 owner : String} {x : MethodName} (hw : GoodIn lw_all (va_wsU own index C1 owner x y (ws_ y cy nLy rety))) (hz : Cond.declares ⟨owner, x.name, x.desc⟩ ∈ lw_tbl) (hdsc : owner ≠ "java/lang/invoke/MethodHandle" ∧ owner ≠ "java/lang/invoke/VarHandle" ∧ (parseMethodDescriptor x.desc).map (fun d => d.parameters.length) = some n) (hd : decode cc pc = .ok (.invokevirtual index, 3)) (hM : Ct (xl X) (xG X) y cy nLy rety dy mc ms (.ref b :: As) z h Pc) (hr : rcv (xG X) z h b C1) (hn : As.length = n) (hs : st0 = As.reverse ++ .ref b :: rest) (hst : (rest.map fun v => v.category).sum ≤ 8) (hdy : dy + 1 ≤ d) (hnl : nLy ≤ 29) (hmc : mc ≤ kc) (hms : ms ≤ ns) (kk : ∀ v z' h', Pc (.inl v) z' h' → WW X P z' h' (kc - mc) (ns - ms) (pc + 3) lv (v.toList ++ rest)) (kx : ∀ E q z' h', Pc (.inr (E, q)) z' h' → WX X P z' h' (kc - mc) (ns - ms) pc lv E q) : WW X P z h kc ns pc lv st0 := by
  intro a1 a2 H ls locs hI hl
  exact ww_run a1 a2 hI hl hmc hms (vx_runU (Cx.fix C) hM (va_cwA n C.2.2.2.2.1 hw rfl rfl rfl (va_Nw.warmD C.2.2.2.2.2.2.2.1 (Cx.N C hz rfl)) hdsc (Cx.room C hdy hnl)) (Cx.preV C hI hr) rfl hn (Cx.sz C hl) hs (Cx.rest C hst) hd ⟨by omega, by omega⟩) kk kx
theorem ww_callU (C : Cx X cc nL own mn ret hh d) {index nLy dy mc ms n b : Nat} {y : MethodName} {cy : ByteArray} {rety : Option FieldType} {As rest st0 : List Value} {Pc : Oc → ZR → AH → Prop} {C1 owner : String} {x : MethodName} (hw : GoodIn lw_all (va_wsU own index C1 owner x y (ws_ y cy nLy rety))) (hyx : y = ⟨owner, x.name, x.desc⟩) (hdsc : owner ≠ "java/lang/invoke/MethodHandle" ∧ owner ≠ "java/lang/invoke/VarHandle" ∧ (parseMethodDescriptor x.desc).map (fun d => d.parameters.length) = some n) (hd : decode cc pc = .ok (.invokevirtual index, 3)) (hM : Ct (xl X) (xG X) y cy nLy rety dy mc ms (.ref b :: As) z h Pc) (hr : rcv (xG X) z h b C1) (hn : As.length = n) (hs : st0 = As.reverse ++ .ref b :: rest) (hst : (rest.map fun v => v.category).sum ≤ 8) (hdy : dy + 1 ≤ d) (hnl : nLy ≤ 29) (hmc : mc ≤ kc) (hms : ms ≤ ns) (kk : ∀ v z' h', Pc (.inl v) z' h' → WW X P z' h' (kc - mc) (ns - ms) (pc + 3) lv (v.toList ++ rest)) (kx : ∀ E q z' h', Pc (.inr (E, q)) z' h' → WX X P z' h' (kc - mc) (ns - ms) pc lv E q) : WW X P z h kc ns pc lv st0 := by
  intro a1 a2 H ls locs hI hl
  exact ww_run a1 a2 hI hl hmc hms (vx_runU (Cx.fix C) hM (va_cwU n C.2.2.2.2.1 hw rfl rfl rfl hyx hdsc (Cx.room C hdy hnl)) (Cx.preV C hI hr) rfl hn (Cx.sz C hl) hs (Cx.rest C hst) hd ⟨by omega, by omega⟩) kk kx
theorem ww_callO (C : Cx X cc nL own mn ret hh d) {index nLy dy mc ms n b : Nat} {y : MethodName} {cy : ByteArray} {rety : Option FieldType} {As rest st0 : List Value} {Pc : Oc → ZR → AH → Prop} {C1 owner : String} {x : MethodName} {b0 : ByteArray} {m0 : Nat} {r0 : Option FieldType} (hw : GoodIn lw_all (va_wsO own index C1 owner x y (ws_ y cy nLy rety))) (h0 : Cond.code ⟨owner, x.name, x.desc⟩ b0 m0 r0 ∈ lw_all) (hdsc : owner ≠ "java/lang/invoke/MethodHandle" ∧ owner ≠ "java/lang/invoke/VarHandle" ∧ (parseMethodDescriptor x.desc).map (fun d => d.parameters.length) = some n) (hd : decode cc pc = .ok (.invokevirtual index, 3)) (hM : Ct (xl X) (xG X) y cy nLy rety dy mc ms (.ref b :: As) z h Pc) (hr : rcv (xG X) z h b C1) (hn : As.length = n) (hs : st0 = As.reverse ++ .ref b :: rest) (hst : (rest.map fun v => v.category).sum ≤ 8) (hdy : dy + 1 ≤ d) (hnl : nLy ≤ 29) (hmc : mc ≤ kc) (hms : ms ≤ ns) (kk : ∀ v z' h', Pc (.inl v) z' h' → WW X P z' h' (kc - mc) (ns - ms) (pc + 3) lv (v.toList ++ rest)) (kx : ∀ E q z' h', Pc (.inr (E, q)) z' h' → WX X P z' h' (kc - mc) (ns - ms) pc lv E q) : WW X P z h kc ns pc lv st0 := by
  intro a1 a2 H ls locs hI hl
  exact ww_run a1 a2 hI hl hmc hms (vx_runU (Cx.fix C) hM (va_cwO n C.2.2.2.2.1 hw rfl rfl rfl h0 hdsc (Cx.room C hdy hnl)) (Cx.preV C hI hr) rfl hn (Cx.sz C hl) hs (Cx.rest C hst) hd ⟨by omega, by omega⟩) kk kx
theorem ww_callSU (C : Cx X cc nL own mn ret hh d) {index nLy dy mc ms n b : Nat} {y : MethodName} {cy : ByteArray} {rety : Option FieldType} {As rest st0 : List Value} {Pc : Oc → ZR → AH → Prop} {C1 : String} {T1 : u_T} {ci N1 : Nat} (hc1 : clX[ci]? = some (C1, T1, N1)) (hw : GoodIn lw_all (va_wsSU own index y (ws_ y cy nLy rety))) (hdsc : y.name ≠ "<init>" ∧ (parseMethodDescriptor y.desc).map (fun d => d.parameters.length) = some n) (hd : decode cc pc = .ok (.invokespecial index, 3)) (hM : Ct (xl X) (xG X) y cy nLy rety dy mc ms (.ref b :: As) z h Pc) (hr : rcv (xG X) z h b C1) (hn : As.length = n) (hs : st0 = As.reverse ++ .ref b :: rest) (hst : (rest.map fun v => v.category).sum ≤ 8) (hdy : dy + 1 ≤ d) (hnl : nLy ≤ 29) (hmc : mc ≤ kc) (hms : ms ≤ ns) (kk : ∀ v z' h', Pc (.inl v) z' h' → WW X P z' h' (kc - mc) (ns - ms) (pc + 3) lv (v.toList ++ rest)) (kx : ∀ E q z' h', Pc (.inr (E, q)) z' h' → WX X P z' h' (kc - mc) (ns - ms) pc lv E q) : WW X P z h kc ns pc lv st0 := by
  intro a1 a2 H ls locs hI hl
  exact ww_run a1 a2 hI hl hmc hms (vx_runSU ((Cx.K C).1 ci _ hc1).2 (Cx.fix C) hM (va_cwSU n C.2.2.2.2.1 hw rfl rfl rfl hdsc (Cx.room C hdy hnl)) (Cx.preV C hI hr) rfl hn (Cx.sz C hl) hs (Cx.rest C hst) hd ⟨by omega, by omega⟩) kk kx
theorem ww_callF (C : Cx X cc nL own mn ret hh d) {index nLy dy mc ms n b : Nat} {y : MethodName} {cy : ByteArray} {rety : Option FieldType} {As rest st0 : List Value} {Pc : Oc → ZR → AH → Prop} {C1 : String} {T1 : u_T} {ci N1 count : Nat} {x : MethodName} (hc1 : clX[ci]? = some (C1, T1, N1)) (hw : GoodIn lw_all (va_wsF own index C1 x y (ws_ y cy nLy rety))) (hF : va_Fw C1 x y (gS (xG X))) (hdsc : x.cls ≠ "java/lang/invoke/MethodHandle" ∧ x.cls ≠ "java/lang/invoke/VarHandle" ∧ (parseMethodDescriptor x.desc).map (fun d => d.parameters.length) = some n) (hd : decode cc pc = .ok (.invokeinterface index count, 5)) (hM : Ct (xl X) (xG X) y cy nLy rety dy mc ms (.ref b :: As) z h Pc) (hr : rcv (xG X) z h b C1) (hn : As.length = n) (hs : st0 = As.reverse ++ .ref b :: rest) (hst : (rest.map fun v => v.category).sum ≤ 8) (hdy : dy + 1 ≤ d) (hnl : nLy ≤ 29) (hmc : mc ≤ kc) (hms : ms ≤ ns) (kk : ∀ v z' h', Pc (.inl v) z' h' → WW X P z' h' (kc - mc) (ns - ms) (pc + 5) lv (v.toList ++ rest)) (kx : ∀ E q z' h', Pc (.inr (E, q)) z' h' → WX X P z' h' (kc - mc) (ns - ms) pc lv E q) : WW X P z h kc ns pc lv st0 := by
  intro a1 a2 H ls locs hI hl
  exact ww_run5 a1 a2 hI hl hmc hms (vx_runF ((Cx.K C).1 ci _ hc1).2 (Cx.fix C) hM (va_cwF n C.2.2.2.2.1 hw rfl rfl rfl (va_Fw.moved ⟨hdsc.1, hdsc.2.1⟩ C.2.2.2.2.2.2.2.1.alike hF) hdsc (Cx.room C hdy hnl)) (Cx.preV C hI hr) rfl hn (Cx.sz C hl) hs (Cx.rest C hst) hd ⟨by omega, by omega⟩) kk kx
theorem ww_callVW (C : Cx X cc nL own mn ret hh d) {index nLy dy mc ms n b : Nat} {y : MethodName} {cy : ByteArray} {rety : Option FieldType} {As rest st0 : List Value} {Pc : Oc → ZR → AH → Prop} {C1 : String} {hy : List (Nat × Nat × Nat × Nat)} (hw : GoodIn lw_all (wsV own index C1 y (wsW_ y cy nLy rety hy))) (hdsc : y.cls = C1 ∧ y.cls ≠ "java/lang/invoke/MethodHandle" ∧ y.cls ≠ "java/lang/invoke/VarHandle" ∧ (parseMethodDescriptor y.desc).map (fun d => d.parameters.length) = some n) (hd : decode cc pc = .ok (.invokevirtual index, 3)) (hM : CtW (xl X) (xG X) y cy nLy rety hy dy mc ms (.ref b :: As) z h Pc) (hr : rcv (xG X) z h b C1) (hn : As.length = n) (hs : st0 = As.reverse ++ .ref b :: rest) (hst : (rest.map fun v => v.category).sum ≤ 8) (hdy : dy + 1 ≤ d) (hnl : nLy ≤ 29) (hmc : mc ≤ kc) (hms : ms ≤ ns) (kk : ∀ v z' h', Pc (.inl v) z' h' → WW X P z' h' (kc - mc) (ns - ms) (pc + 3) lv (v.toList ++ rest)) (kx : ∀ E q z' h', Pc (.inr (E, q)) z' h' → WX X P z' h' (kc - mc) (ns - ms) pc lv E q) : WW X P z h kc ns pc lv st0 := by
  intro a1 a2 H ls locs hI hl
  exact ww_run a1 a2 hI hl hmc hms (vx_runVX (Cx.fix C) hM (vx_cwVW n C.2.2.2.2.1 hw rfl rfl rfl hdsc (Cx.room C hdy hnl)) (Cx.preV C hI hr) rfl hn (Cx.sz C hl) hs (Cx.rest C hst) hd ⟨by omega, by omega⟩) kk kx
theorem ww_callSW (C : Cx X cc nL own mn ret hh d) {index nLy dy mc ms n : Nat} {y : MethodName} {cy : ByteArray} {rety : Option FieldType} {As rest st0 : List Value} {Pc : Oc → ZR → AH → Prop} {hy : List (Nat × Nat × Nat × Nat)} (hw : GoodIn lw_all (va_wsS own index y (wsW_ y cy nLy rety hy))) (hdsc : y.cls ≠ "java/lang/invoke/MethodHandle" ∧ y.cls ≠ "java/lang/invoke/VarHandle" ∧ (parseMethodDescriptor y.desc).map (fun d => d.parameters.length) = some n) (hd : decode cc pc = .ok (.invokestatic index, 3)) (hM : CtW (xl X) (xG X) y cy nLy rety hy dy mc ms As z h Pc) (hn : As.length = n) (hs : st0 = As.reverse ++ rest) (hst : (rest.map fun v => v.category).sum ≤ 8) (hdy : dy + 1 ≤ d) (hnl : nLy ≤ 29) (hmc : mc ≤ kc) (hms : ms ≤ ns) (kk : ∀ v z' h', Pc (.inl v) z' h' → WW X P z' h' (kc - mc) (ns - ms) (pc + 3) lv (v.toList ++ rest)) (kx : ∀ E q z' h', Pc (.inr (E, q)) z' h' → WX X P z' h' (kc - mc) (ns - ms) pc lv E q) : WW X P z h kc ns pc lv st0 := by
  intro a1 a2 H ls locs hI hl
  exact ww_run a1 a2 hI hl hmc hms (vx_runSX (Cx.fix C) hM (vx_cwSW n C.2.2.2.2.1 hw rfl rfl rfl hdsc (Cx.room C hdy hnl)) (Cx.preS C hI) rfl hn (Cx.sz C hl) hs (Cx.rest C hst) hd ⟨by omega, by omega⟩) kk kx
/-- not caught: it leaves the method -/
theorem wx_out (C : Cx X cc nL own mn ret hh d) {E : String} {q : Nat} (hout : ∀ x ∈ tableOf hh, covers x pc = false) (hp : P (.inr (E, q)) z h) : WX X P z h kc ns pc lv E q := by
  intro a1 a2 H ls locs rest ce hI hl hcell hv hcl
  exact vx_out (by rw [C.2.2.2.2.2.2.2.2.2.2.2.1]; exact hout) C.2.2.2.2.2.2.1 hcell hv hcl (fun t ht hW => ⟨z, h, hp, by rw [ht]; exact hI.1, by rw [ht]; exact hI.2.1⟩) hI.2.2 (Nat.sub_le _ _) (Nat.sub_le _ _)
theorem ww_athrow (C : Cx X cc nL own mn ret hh d) {a ci N : Nat} {C1 : String} {T : u_T} {fs : List Value} (hc : clX[ci]? = some (C1, T, N)) (hd : decode cc pc = .ok (.athrow, 1)) (ha : h a = some (.inr (ci, fs))) (k : WX X P z h kc ns pc lv C1 a) : WW X P z h kc ns pc lv (.ref a :: st) := by
  intro a1 a2 H ls locs hI hl
  obtain ⟨r, h1, cell, q1, q2, q3, q4⟩ := (hI.1.2.2.2 a _ ha).1
  exact vx_athrow C.1 C.2.1 hd (k a1 a2 H ls locs st cell hI hl q1 q3 (by rw [q2]; exact ((Cx.K C).1 ci _ hc).2.1))
end WC
/-! ===== constants of the start ===== -/
section WS
set_option maxRecDepth 100000
variable {X : XT} {P : Oc → ZR → AH → Prop} {z : ZR} {h : AH} {kc ns pc nL d : Nat} {lv : List (Nat × Value)} {st : List Value} {cc : ByteArray} {own mn : String} {ret : Option FieldType} {hh : List (Nat × Nat × Nat × Nat)}
/-- the facts of the start's own cells -/
def z0 (Γ : Gm) : ZR := fun a e => a < gN Γ ∧ wat Γ (a, e) (gS Γ).heap
abbrev zle (z z' : ZR) : Prop := ∀ a e, z a e → z' a e
theorem Cx.fl (C : Cx X cc nL own mn ret hh d) : (xl X).flags = flags0 := C.2.2.2.2.2.2.2.2.2.1
theorem Cx.ok (C : Cx X cc nL own mn ret hh d) : GOK (xG X) := C.2.2.2.2.2.2.2.2.1
theorem ww_gsv (C : Cx X cc nL own mn ret hh d) {Cn nm ds ref : String} {v : Value} {index : Nat} (hZ : va_Z Cn nm ds v (fun a => gN (xG X) ≤ a) (gS (xG X)) (gS (xG X)).heap) (hlink : Cond.fieldLink own index ref nm ds ∈ lw_all) (hsame : ∀ x, (xs X).fieldFound? Cn nm ds = some x → (xs X).fieldFound? ref nm ds = some x) (hd : decode cc pc = .ok (.getstatic index, 3)) (k : WW X P z h kc ns (pc + 3) lv (v :: st)) : WW X P z h kc ns pc lv st := by
  intro a1 a2 H ls locs hI hl
  obtain ⟨cf, kf, fi, f, a, cell, h1, h2, h3, h4, h5, h6, h7, h8⟩ := (va_Z.moved C.2.2.2.2.2.2.2.1.alike hZ).kept (H1 := H) (fun a ha hA => hI.1.2.1 a ha)
  exact W.gets C.1 C.2.1 C.2.2.2.1 (C.2.2.2.2.1 _ hlink) (hsame _ h1) h2 h3 h4 h5 (fun e => by rw [e] at h6; cases h6) h7 rfl hd (k a1 a2 H ls locs hI hl)
theorem ww_gsvN (C : Cx X cc nL own mn ret hh d) {Cn nm ds ref host : String} {v : Value} {index : Nat} (hZ : va_Z Cn nm ds v (fun a => gN (xG X) ≤ a) (gS (xG X)) (gS (xG X)).heap) (hlink : Cond.fieldLinkNest own index ref nm ds host ∈ lw_tbl) (hsame : ∀ x, (xs X).fieldFound? Cn nm ds = some x → (xs X).fieldFound? ref nm ds = some x) (hd : decode cc pc = .ok (.getstatic index, 3)) (k : WW X P z h kc ns (pc + 3) lv (v :: st)) : WW X P z h kc ns pc lv st := by
  intro a1 a2 H ls locs hI hl
  obtain ⟨cf, kf, fi, f, a, cell, h1, h2, h3, h4, h5, h6, h7, h8⟩ := (va_Z.moved C.2.2.2.2.2.2.2.1.alike hZ).kept (H1 := H) (fun a ha hA => hI.1.2.1 a ha)
  exact va_WgetsN C.1 C.2.1 C.2.2.2.1 (va_Nw.use rfl (va_Nw.warmF C.2.2.2.2.2.2.2.1 (Cx.N C hlink rfl))) (hsame _ h1) h2 h3 h4 h5 (fun e => by rw [e] at h6; cases h6) h7 rfl hd (k a1 a2 H ls locs hI hl)
/-- a static that holds a constant object -/
theorem gs_ref {Γ : Gm} (hΓ : GOK Γ) {Cn nm ds : String} {k : Nat} (hq : cnL[k]? = some (Cn, nm, ds)) (hly : Cond.laysStatic Cn nm ds ∈ lw_tbl) (hini : Cond.initialized Cn ∈ lw_all) : va_Z Cn nm ds (.ref (gE Γ k)) (fun a => gN Γ ≤ a) (gS Γ) (gS Γ).heap := by
  obtain ⟨a0, hT, -, -, -, -, hS, -⟩ := hΓ
  exact va_Zof (hT _ hly) (hT _ (lw_all_tbl hini)) (hS k _ hq) (fun a ha => Nat.not_le.mpr ha)
/-- a static that holds an int -/
theorem gs_int {Γ : Gm} (hΓ : GOK Γ) {Cn nm ds : String} {v : Int32} (hn : Cond.eq (.static Cn nm ds) (.int v) ∈ flatL) (hly : Cond.laysStatic Cn nm ds ∈ lw_tbl) (hini : Cond.initialized Cn ∈ lw_all) : va_Z Cn nm ds (.int v) (fun a => gN Γ ≤ a) (gS Γ) (gS Γ).heap := by
  obtain ⟨a0, hT, -, -, -, hN, -⟩ := hΓ
  exact va_Zof (hT _ hly) (hT _ (lw_all_tbl hini)) (va_eqi (flat_of_before _ hN _ hn)) (fun a ha => Nat.not_le.mpr ha)
theorem ww_ldcS (C : Cx X cc nL own mn ret hh d) {k index : Nat} {tx : String} (hq : stL[k]? = some (own, index)) (hw : Cond.stringRef own index tx ∈ lw_tbl) (hd : decode cc pc = .ok (.ldc index, 2)) (kk : WW X P z h kc ns (pc + 2) lv (.ref (gE (xG X) (100 + k)) :: st)) : WW X P z h kc ns pc lv st := by
  intro a1 a2 H ls locs hI hl
  obtain ⟨a0, hT, -, -, -, -, -, hS, -⟩ := C.2.2.2.2.2.2.2.2.1
  exact va_ldcS C.1 C.2.1 C.2.2.2.1 (vk_R.warm C.2.2.2.2.2.2.2.1 (vk_R.of (hT _ hw) (hS k _ hq).1)) hd (kk a1 a2 H ls locs hI hl)
end WS
/-! ===== the same rows over numbers nI, flags bI ===== -/
section WN
set_option maxRecDepth 100000
variable {X : XT} {P : Oc → ZR → AH → Prop} {z : ZR} {h : AH} {kc ns pc nL d : Nat} {lv : List (Nat × Value)} {st : List Value} {cc : ByteArray} {own mn : String} {ret : Option FieldType} {hh : List (Nat × Nat × Nat × Nat)}
def bI (b : Bool) : Int32 := if b then 1 else 0
def oI (o : Option Nat) : Int32 := match o with
  | none => -1
  | some n => nI n
theorem bI_t : bI true = 1 := rfl
theorem bI_f : bI false = 0 := rfl
theorem bI_0 {b : Bool} : bI b = 0 ↔ b = false := by cases b <;> decide
theorem nar_bI (b : Bool) : narrow .boolean (.int (bI b)) = .int (bI b) := by cases b <;> rfl
theorem nar_z0 : narrow .boolean (.int (nI 0)) = .int (nI 0) := by decide +kernel
theorem nar_z1 : narrow .boolean (.int (nI 1)) = .int (nI 1) := by decide +kernel
theorem bI_n (b : Bool) : bI b = nI (if b then 1 else 0) := by cases b <;> decide
theorem oI_m1 {o : Option Nat} (ho : ∀ n, o = some n → n < 2 ^ 31) : oI o = -1 ↔ o = none := by
  cases o with
  | none => simp [oI]
  | some n =>
    constructor
    · intro q
      have h1 := ho n rfl
      have h2 : (nI n).toInt = (-1 : Int32).toInt := by rw [show nI n = -1 from q]
      rw [nI_toInt h1] at h2
      have h3 : (-1 : Int32).toInt = -1 := by decide
      omega
    · intro q; cases q
theorem RdP.i {x y : Int32} (hx : x = y) : RdP z h (some (.int y)) (.inl (some (.int x))) z h := ⟨by rw [hx], rfl, rfl⟩
theorem RdP.v {v w : Value} (hx : v = w) : RdP z h (some w) (.inl (some v)) z h := ⟨by rw [hx], rfl, rfl⟩
theorem ww_iaddn (C : Cx X cc nL own mn ret hh d) {a b : Nat} (hd : decode cc pc = .ok (.iadd, 1)) (k : WW X P z h kc ns (pc + 1) lv (.int (nI (a + b)) :: st)) : WW X P z h kc ns pc lv (.int (nI b) :: .int (nI a) :: st) := ww_iadd C hd (by rw [nI_add]; exact k)
theorem ww_isubn (C : Cx X cc nL own mn ret hh d) {a b : Nat} (hd : decode cc pc = .ok (.isub, 1)) (hab : b ≤ a) (k : WW X P z h kc ns (pc + 1) lv (.int (nI (a - b)) :: st)) : WW X P z h kc ns pc lv (.int (nI b) :: .int (nI a) :: st) := ww_isub C hd (by rw [pk_sub hab]; exact k)
theorem ww_imuln (C : Cx X cc nL own mn ret hh d) {a b : Nat} (hd : decode cc pc = .ok (.imul, 1)) (k : WW X P z h kc ns (pc + 1) lv (.int (nI (a * b)) :: st)) : WW X P z h kc ns pc lv (.int (nI b) :: .int (nI a) :: st) := ww_imul C hd (by rw [pk_mul]; exact k)
theorem ww_idivn (C : Cx X cc nL own mn ret hh d) {a b : Nat} (hd : decode cc pc = .ok (.idiv, 1)) (ha : a < 2 ^ 31) (h0 : 0 < b) (hb : b < 2 ^ 31) (k : WW X P z h kc ns (pc + 1) lv (.int (nI (a / b)) :: st)) : WW X P z h kc ns pc lv (.int (nI b) :: .int (nI a) :: st) := ww_idiv C hd (nI_ne0 h0 hb) (by rw [pk_div ha h0 hb]; exact k)
theorem ww_iremn (C : Cx X cc nL own mn ret hh d) {a b : Nat} (hd : decode cc pc = .ok (.irem, 1)) (ha : a < 2 ^ 31) (h0 : 0 < b) (hb : b < 2 ^ 31) (k : WW X P z h kc ns (pc + 1) lv (.int (nI (a % b)) :: st)) : WW X P z h kc ns pc lv (.int (nI b) :: .int (nI a) :: st) := ww_irem C hd (nI_ne0 h0 hb) (by rw [pk_rem ha h0 hb]; exact k)
theorem inc_n (a : Nat) : nI a + Int32.ofInt 1 = nI (a + 1) := nI_1 a
theorem cI_0 : Int32.ofInt 0 = nI 0 := by decide
theorem cI_1 : Int32.ofInt 1 = nI 1 := by decide
theorem cI_2 : Int32.ofInt 2 = nI 2 := by decide
theorem cI_3 : Int32.ofInt 3 = nI 3 := by decide
theorem cI_4 : Int32.ofInt 4 = nI 4 := by decide
theorem cI_5 : Int32.ofInt 5 = nI 5 := by decide
theorem cI_m1 : Int32.ofInt (-1) = -1 := by decide
theorem cB_m128 : (Int8.ofInt (-128)).toInt32 = -128 := by decide
theorem cB_m100 : (Int8.ofInt (-100)).toInt32 = -100 := by decide
theorem cB_m10 : (Int8.ofInt (-10)).toInt32 = -10 := by decide
theorem cB_m9 : (Int8.ofInt (-9)).toInt32 = -9 := by decide
theorem cB_6 : (Int8.ofInt 6).toInt32 = nI 6 := by decide
theorem cB_7 : (Int8.ofInt 7).toInt32 = nI 7 := by decide
theorem cB_8 : (Int8.ofInt 8).toInt32 = nI 8 := by decide
theorem cB_9 : (Int8.ofInt 9).toInt32 = nI 9 := by decide
theorem cB_10 : (Int8.ofInt 10).toInt32 = nI 10 := by decide
theorem cB_12 : (Int8.ofInt 12).toInt32 = nI 12 := by decide
theorem cB_14 : (Int8.ofInt 14).toInt32 = nI 14 := by decide
theorem cB_15 : (Int8.ofInt 15).toInt32 = nI 15 := by decide
theorem cB_16 : (Int8.ofInt 16).toInt32 = nI 16 := by decide
theorem cB_17 : (Int8.ofInt 17).toInt32 = nI 17 := by decide
theorem cB_18 : (Int8.ofInt 18).toInt32 = nI 18 := by decide
theorem cB_19 : (Int8.ofInt 19).toInt32 = nI 19 := by decide
theorem cB_20 : (Int8.ofInt 20).toInt32 = nI 20 := by decide
theorem cB_21 : (Int8.ofInt 21).toInt32 = nI 21 := by decide
theorem cB_22 : (Int8.ofInt 22).toInt32 = nI 22 := by decide
theorem cB_23 : (Int8.ofInt 23).toInt32 = nI 23 := by decide
theorem cB_24 : (Int8.ofInt 24).toInt32 = nI 24 := by decide
theorem cB_30 : (Int8.ofInt 30).toInt32 = nI 30 := by decide
theorem cB_31 : (Int8.ofInt 31).toInt32 = nI 31 := by decide
theorem cB_32 : (Int8.ofInt 32).toInt32 = nI 32 := by decide
theorem cB_33 : (Int8.ofInt 33).toInt32 = nI 33 := by decide
theorem cB_40 : (Int8.ofInt 40).toInt32 = nI 40 := by decide
theorem cB_41 : (Int8.ofInt 41).toInt32 = nI 41 := by decide
theorem cB_42 : (Int8.ofInt 42).toInt32 = nI 42 := by decide
theorem cB_43 : (Int8.ofInt 43).toInt32 = nI 43 := by decide
theorem cB_44 : (Int8.ofInt 44).toInt32 = nI 44 := by decide
theorem cB_45 : (Int8.ofInt 45).toInt32 = nI 45 := by decide
theorem cB_46 : (Int8.ofInt 46).toInt32 = nI 46 := by decide
theorem cB_47 : (Int8.ofInt 47).toInt32 = nI 47 := by decide
theorem cB_48 : (Int8.ofInt 48).toInt32 = nI 48 := by decide
theorem cB_49 : (Int8.ofInt 49).toInt32 = nI 49 := by decide
theorem cB_50 : (Int8.ofInt 50).toInt32 = nI 50 := by decide
theorem cB_51 : (Int8.ofInt 51).toInt32 = nI 51 := by decide
theorem cB_52 : (Int8.ofInt 52).toInt32 = nI 52 := by decide
theorem cB_53 : (Int8.ofInt 53).toInt32 = nI 53 := by decide
theorem cB_54 : (Int8.ofInt 54).toInt32 = nI 54 := by decide
theorem cB_56 : (Int8.ofInt 56).toInt32 = nI 56 := by decide
theorem cB_57 : (Int8.ofInt 57).toInt32 = nI 57 := by decide
theorem cB_60 : (Int8.ofInt 60).toInt32 = nI 60 := by decide
theorem cB_61 : (Int8.ofInt 61).toInt32 = nI 61 := by decide
theorem cB_62 : (Int8.ofInt 62).toInt32 = nI 62 := by decide
theorem cB_63 : (Int8.ofInt 63).toInt32 = nI 63 := by decide
theorem cB_64 : (Int8.ofInt 64).toInt32 = nI 64 := by decide
theorem cB_97 : (Int8.ofInt 97).toInt32 = nI 97 := by decide
theorem cB_100 : (Int8.ofInt 100).toInt32 = nI 100 := by decide
theorem cB_108 : (Int8.ofInt 108).toInt32 = nI 108 := by decide
theorem cB_110 : (Int8.ofInt 110).toInt32 = nI 110 := by decide
theorem cB_117 : (Int8.ofInt 117).toInt32 = nI 117 := by decide
theorem cB_122 : (Int8.ofInt 122).toInt32 = nI 122 := by decide
theorem cS_128 : (Int16.ofInt 128).toInt32 = nI 128 := by decide
theorem cS_255 : (Int16.ofInt 255).toInt32 = nI 255 := by decide
theorem cS_256 : (Int16.ofInt 256).toInt32 = nI 256 := by decide
theorem cS_400 : (Int16.ofInt 400).toInt32 = nI 400 := by decide
theorem cS_402 : (Int16.ofInt 402).toInt32 = nI 402 := by decide
theorem cS_800 : (Int16.ofInt 800).toInt32 = nI 800 := by decide
theorem cS_1023 : (Int16.ofInt 1023).toInt32 = nI 1023 := by decide
theorem cS_2000 : (Int16.ofInt 2000).toInt32 = nI 2000 := by decide
theorem ww_icmp_eq_n (C : Cx X cc nL own mn ret hh d) {a b : Nat} {off : Int} {tgt : Nat} (hd : decode cc pc = .ok (.if_icmp .eq off, 3)) (ht : (pc : Int) + off = (tgt : Int)) (ha : a < 2 ^ 31) (hb : b < 2 ^ 31) (kt : a = b → WW X P z h kc ns tgt lv st) (kf : a ≠ b → WW X P z h kc ns (pc + 3) lv st) : WW X P z h kc ns pc lv (.int (nI b) :: .int (nI a) :: st) := ww_icmp_eq C hd ht (fun q => kt ((nI_eq ha hb).mp q)) (fun q => kf (fun q9 => q ((nI_eq ha hb).mpr q9)))
theorem ww_icmp_ne_n (C : Cx X cc nL own mn ret hh d) {a b : Nat} {off : Int} {tgt : Nat} (hd : decode cc pc = .ok (.if_icmp .ne off, 3)) (ht : (pc : Int) + off = (tgt : Int)) (ha : a < 2 ^ 31) (hb : b < 2 ^ 31) (kt : a ≠ b → WW X P z h kc ns tgt lv st) (kf : a = b → WW X P z h kc ns (pc + 3) lv st) : WW X P z h kc ns pc lv (.int (nI b) :: .int (nI a) :: st) := ww_icmp_ne C hd ht (fun q => kt (fun q9 => q ((nI_eq ha hb).mpr q9))) (fun q => kf ((nI_eq ha hb).mp q))
theorem ww_icmp_lt_n (C : Cx X cc nL own mn ret hh d) {a b : Nat} {off : Int} {tgt : Nat} (hd : decode cc pc = .ok (.if_icmp .lt off, 3)) (ht : (pc : Int) + off = (tgt : Int)) (ha : a < 2 ^ 31) (hb : b < 2 ^ 31) (kt : a < b → WW X P z h kc ns tgt lv st) (kf : b ≤ a → WW X P z h kc ns (pc + 3) lv st) : WW X P z h kc ns pc lv (.int (nI b) :: .int (nI a) :: st) := ww_icmp_lt C hd ht (fun q => kt ((nI_ltI ha hb).mp q)) (fun q => kf (Nat.not_lt.mp fun q9 => q ((nI_ltI ha hb).mpr q9)))
theorem ww_icmp_ge_n (C : Cx X cc nL own mn ret hh d) {a b : Nat} {off : Int} {tgt : Nat} (hd : decode cc pc = .ok (.if_icmp .ge off, 3)) (ht : (pc : Int) + off = (tgt : Int)) (ha : a < 2 ^ 31) (hb : b < 2 ^ 31) (kt : b ≤ a → WW X P z h kc ns tgt lv st) (kf : a < b → WW X P z h kc ns (pc + 3) lv st) : WW X P z h kc ns pc lv (.int (nI b) :: .int (nI a) :: st) := ww_icmp_ge C hd ht (fun q => kt ((nI_leI hb ha).mp q)) (fun q => kf (Nat.not_le.mp fun q9 => q ((nI_leI hb ha).mpr q9)))
theorem ww_icmp_gt_n (C : Cx X cc nL own mn ret hh d) {a b : Nat} {off : Int} {tgt : Nat} (hd : decode cc pc = .ok (.if_icmp .gt off, 3)) (ht : (pc : Int) + off = (tgt : Int)) (ha : a < 2 ^ 31) (hb : b < 2 ^ 31) (kt : b < a → WW X P z h kc ns tgt lv st) (kf : a ≤ b → WW X P z h kc ns (pc + 3) lv st) : WW X P z h kc ns pc lv (.int (nI b) :: .int (nI a) :: st) := ww_icmp_gt C hd ht (fun q => kt ((nI_ltI hb ha).mp q)) (fun q => kf (Nat.not_lt.mp fun q9 => q ((nI_ltI hb ha).mpr q9)))
theorem ww_icmp_le_n (C : Cx X cc nL own mn ret hh d) {a b : Nat} {off : Int} {tgt : Nat} (hd : decode cc pc = .ok (.if_icmp .le off, 3)) (ht : (pc : Int) + off = (tgt : Int)) (ha : a < 2 ^ 31) (hb : b < 2 ^ 31) (kt : a ≤ b → WW X P z h kc ns tgt lv st) (kf : b < a → WW X P z h kc ns (pc + 3) lv st) : WW X P z h kc ns pc lv (.int (nI b) :: .int (nI a) :: st) := ww_icmp_le C hd ht (fun q => kt ((nI_leI ha hb).mp q)) (fun q => kf (Nat.not_le.mp fun q9 => q ((nI_leI ha hb).mpr q9)))
theorem ww_if_eq_n (C : Cx X cc nL own mn ret hh d) {a : Nat} {off : Int} {tgt : Nat} (hd : decode cc pc = .ok (.ifCond .eq off, 3)) (ht : (pc : Int) + off = (tgt : Int)) (ha : a < 2 ^ 31) (kt : a = 0 → WW X P z h kc ns tgt lv st) (kf : 0 < a → WW X P z h kc ns (pc + 3) lv st) : WW X P z h kc ns pc lv (.int (nI a) :: st) := ww_if_eq C hd ht (fun q => kt ((nI_eq ha (by decide)).mp (q.trans nI_0.symm))) (fun q => kf (Nat.pos_of_ne_zero fun q9 => q (by rw [q9]; exact nI_0)))
theorem ww_if_ne_n (C : Cx X cc nL own mn ret hh d) {a : Nat} {off : Int} {tgt : Nat} (hd : decode cc pc = .ok (.ifCond .ne off, 3)) (ht : (pc : Int) + off = (tgt : Int)) (ha : a < 2 ^ 31) (kt : 0 < a → WW X P z h kc ns tgt lv st) (kf : a = 0 → WW X P z h kc ns (pc + 3) lv st) : WW X P z h kc ns pc lv (.int (nI a) :: st) := ww_if_ne C hd ht (fun q => kt (Nat.pos_of_ne_zero fun q9 => q (by rw [q9]; exact nI_0))) (fun q => kf ((nI_eq ha (by decide)).mp (q.trans nI_0.symm)))
theorem ww_if_le_n (C : Cx X cc nL own mn ret hh d) {a : Nat} {off : Int} {tgt : Nat} (hd : decode cc pc = .ok (.ifCond .le off, 3)) (ht : (pc : Int) + off = (tgt : Int)) (ha : a < 2 ^ 31) (kt : a = 0 → WW X P z h kc ns tgt lv st) (kf : 0 < a → WW X P z h kc ns (pc + 3) lv st) : WW X P z h kc ns pc lv (.int (nI a) :: st) := ww_if_le C hd ht (fun q => kt (Nat.eq_zero_of_not_pos fun q9 => nI_nle q9 ha q)) (fun q => kf (Nat.pos_of_ne_zero fun q9 => q (by rw [q9, nI_0]; decide)))
theorem ww_if_gt_n (C : Cx X cc nL own mn ret hh d) {a : Nat} {off : Int} {tgt : Nat} (hd : decode cc pc = .ok (.ifCond .gt off, 3)) (ht : (pc : Int) + off = (tgt : Int)) (ha : a < 2 ^ 31) (kt : 0 < a → WW X P z h kc ns tgt lv st) (kf : a = 0 → WW X P z h kc ns (pc + 3) lv st) : WW X P z h kc ns pc lv (.int (nI a) :: st) := ww_if_gt C hd ht (fun q => kt (Nat.pos_of_ne_zero fun q9 => by rw [q9, nI_0] at q; exact absurd q (by decide))) (fun q => kf (Nat.eq_zero_of_not_pos fun q9 => q (by rw [← nI_0]; exact nI_lt q9 ha)))
theorem ww_if_lt_n (C : Cx X cc nL own mn ret hh d) {a : Nat} {off : Int} {tgt : Nat} (hd : decode cc pc = .ok (.ifCond .lt off, 3)) (ht : (pc : Int) + off = (tgt : Int)) (ha : a < 2 ^ 31) (kf : WW X P z h kc ns (pc + 3) lv st) : WW X P z h kc ns pc lv (.int (nI a) :: st) := ww_if_lt_f C hd ht (nI_pos ha) kf
theorem ww_if_ge_n (C : Cx X cc nL own mn ret hh d) {a : Nat} {off : Int} {tgt : Nat} (hd : decode cc pc = .ok (.ifCond .ge off, 3)) (ht : (pc : Int) + off = (tgt : Int)) (ha : a < 2 ^ 31) (kt : WW X P z h kc ns tgt lv st) : WW X P z h kc ns pc lv (.int (nI a) :: st) := ww_if_ge_t C hd ht (nI_pos' ha) kt
theorem ww_if_eq_b (C : Cx X cc nL own mn ret hh d) {b : Bool} {off : Int} {tgt : Nat} (hd : decode cc pc = .ok (.ifCond .eq off, 3)) (ht : (pc : Int) + off = (tgt : Int)) (kt : b = false → WW X P z h kc ns tgt lv st) (kf : b = true → WW X P z h kc ns (pc + 3) lv st) : WW X P z h kc ns pc lv (.int (bI b) :: st) := ww_if_eq C hd ht (fun q => kt (bI_0.mp q)) (fun q => kf (by cases b; exact absurd rfl q; rfl))
theorem ww_if_ne_b (C : Cx X cc nL own mn ret hh d) {b : Bool} {off : Int} {tgt : Nat} (hd : decode cc pc = .ok (.ifCond .ne off, 3)) (ht : (pc : Int) + off = (tgt : Int)) (kt : b = true → WW X P z h kc ns tgt lv st) (kf : b = false → WW X P z h kc ns (pc + 3) lv st) : WW X P z h kc ns pc lv (.int (bI b) :: st) := ww_if_ne C hd ht (fun q => kt (by cases b; exact absurd rfl q; rfl)) (fun q => kf (bI_0.mp q))
theorem ww_icmp_eq_o (C : Cx X cc nL own mn ret hh d) {o : Option Nat} {off : Int} {tgt : Nat} (hd : decode cc pc = .ok (.if_icmp .eq off, 3)) (ht : (pc : Int) + off = (tgt : Int)) (ho : ∀ n, o = some n → n < 2 ^ 31) (kt : o = none → WW X P z h kc ns tgt lv st) (kf : o ≠ none → WW X P z h kc ns (pc + 3) lv st) : WW X P z h kc ns pc lv (.int (-1) :: .int (oI o) :: st) := ww_icmp_eq C hd ht (fun q => kt ((oI_m1 ho).mp q)) (fun q => kf (fun q9 => q ((oI_m1 ho).mpr q9)))
theorem ww_icmp_ne_o (C : Cx X cc nL own mn ret hh d) {o : Option Nat} {off : Int} {tgt : Nat} (hd : decode cc pc = .ok (.if_icmp .ne off, 3)) (ht : (pc : Int) + off = (tgt : Int)) (ho : ∀ n, o = some n → n < 2 ^ 31) (kt : o ≠ none → WW X P z h kc ns tgt lv st) (kf : o = none → WW X P z h kc ns (pc + 3) lv st) : WW X P z h kc ns pc lv (.int (-1) :: .int (oI o) :: st) := ww_icmp_ne C hd ht (fun q => kt (fun q9 => q ((oI_m1 ho).mpr q9))) (fun q => kf ((oI_m1 ho).mp q))
/-- a loop that counts up -/
theorem loop_up {N : Nat} {M : Nat → Prop} (he : M N) (hs : ∀ i, i < N → M (i + 1) → M i) : ∀ i, i ≤ N → M i := by
  have key : ∀ j, j ≤ N → M (N - j) := by
    intro j
    induction j with
    | zero => intro _; exact he
    | succ j ih =>
      intro hj
      refine hs _ (by omega) ?_
      rw [show N - (j + 1) + 1 = N - j by omega]
      exact ih (by omega)
  intro i hi
  have := key (N - i) (by omega)
  rw [show N - (N - i) = i by omega] at this
  exact this
end WN
