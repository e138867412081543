section W14
set_option maxRecDepth 100000
/-- the callee's contract applies, whether its class is called initialized or not -/
def appY (S : Spec) (x : MethodName) (pl : Platform) (s : State) (m : MethodId) (args : Array Value) (below : List Frame) : Prop := s.status = .running ∧ s.curStatus? = some .runnable ∧ s.alone = true ∧ s.methodNamed? x = some m ∧ s.hears m below = true ∧ s.hasRoom pl S.room = true ∧ S.pre.before args s = true
def MetY (l : Launch) (x : MethodName) (S : Spec) (P : Array Value → State → Prop) (Q : Array Value → State → Outcome → State → Prop) : Prop := ∀ (p : Program) (e : Env), l.admits e → FairCas e.choices → FairClock e.choices → ∀ (s : State) (m : MethodId) (args : Array Value) (below : List Frame), s.frames = .invoking m args :: below → appY S x e.platform s m args below → P args s →
  ∃ n o, (∀ k, k < n → Within (stepsAlone p.tables e k s) below) ∧ (stepsAlone p.tables e n s).status = .running ∧ Ended (stepsAlone p.tables e n s) below o ∧ Q args s o (stepsAlone p.tables e n s)
def vy_Met (l : Launch) (y : MethodName) (ws : List Cond) (rm : Room) (Pc : Array Value → State → Prop) (Qc : Array Value → State → Outcome → State → Prop) (XC : String → Addr → State → State → Prop) (mc ms : Nat) (free : Addr → Prop) : Prop := MetY l y (headSpec ws rm) Pc (vx_Q Qc XC mc ms free)
theorem appY.call {S : Spec} {x : MethodName} {e : Env} {s : State} {g : JFrame} {c : Code} {below : List Frame} {m : MethodId} {args : Array Value} (h : At s g.method c below) {ig : Instr} {len : Nat} (hdg : decode c.code g.pc = .ok (ig, len)) (hnamed : s.methodNamed? x = some m)
    (hroom : (s.calling g m args).hasRoom e.platform S.room = true) (hpre : S.pre.before args s = true) : appY S x e.platform (s.calling g m args) m args (.java g :: s.frames.tail) := by
  have hcode : (s.calling g m args).code? g.method = some c := by
    have q := h.code
    rw [State.code?_eq] at q ⊢
    simpa [State.calling, State.pushFrame, State.setFrames] using q
  refine ⟨h.running, ?_, ?_, hnamed, ?_, hroom, ?_⟩
  · simpa [State.calling] using h.runnable
  · simpa [State.calling] using h.alone
  · simp [State.hears, hcode, hdg, Except.toOption]
  · rw [State.calling_eq h.top, Cond.before_setFrames]; exact hpre
theorem callY {l : Launch} {x : MethodName} {S : Spec} {P : Array Value → State → Prop} {Q : Array Value → State → Outcome → State → Prop} {e : Env} (hM : MetY l x S P Q) (p : Program) (ha : l.admits e) (hc : FairCas e.choices) (hk : FairClock e.choices)
    {s : State} {m : MethodId} {args : Array Value} {acts : List Action} {f0 : Frame} {mid below : List Frame} (hfr : s.frames = (f0 :: mid) ++ below) (happ : appY S x e.platform (s.pushFrame (.invoking m args)) m args s.frames) (hP : P args (s.pushFrame (.invoking m args))) :
    ∃ o s₂, Steps p.tables e below (doInvoke e s acts m args).1 s₂ ∧ s₂.status = .running ∧ Ended s₂ s.frames o ∧ Q args (s.pushFrame (.invoking m args)) o s₂ := by
  have hlt : s.cur < s.threads.size := State.cur_lt_of_frames (show s.frames = f0 :: (mid ++ below) from by rw [hfr]; rfl)
  have ht : s.threads[s.cur]? = some (s.threads[s.cur]'hlt) := Array.getElem?_eq_getElem hlt
  have hf' : (s.pushFrame (.invoking m args)).frames = .invoking m args :: s.frames := State.frames_setFrames _ hlt
  obtain ⟨hrun, hable, halone, -⟩ := id happ
  have hgo : (s.pushFrame (.invoking m args)).goesOn := ⟨hrun, hable, halone⟩
  obtain ⟨n, o, hw, hr, he, hp⟩ := hM p e ha hc hk (s.pushFrame (.invoking m args)) m args s.frames hf' happ hP
  have hstep : (stepThread p.tables e (s.pushFrame (.invoking m args))).1 = (doInvoke e s acts m args).1 := by
    rw [stepThread_invoking hf', doInvoke_state e s acts, State.pushFrame, State.setFrames_setFrames, State.setFrames_self ht]
  cases n with
  | zero => exact absurd ⟨[.invoking m args], hf', by simp, by simp⟩ he.not_within
  | succ k =>
    rw [stepsAlone_succ _ hgo, hstep] at hr he hp
    refine ⟨o, _, ⟨k, rfl, fun j hj => ?_⟩, hr, he, hp⟩
    have q := hw (j + 1) (by omega)
    rw [stepsAlone_succ _ hgo, hstep, hfr] at q
    exact q.weaken
section VYP
variable {l : Launch} {R : Room} {p : Program} {e : Env} {below : List Frame} {s : State} {sargs : Array Value} {y : MethodName} {len W9 : Nat}
theorem vy_back {ws : List Cond} {rm : Room} {Pc : Array Value → State → Prop} {Qc : Array Value → State → Outcome → State → Prop} {XC : String → Addr → State → State → Prop} {mc ms : Nat} {free : Addr → Prop} {bytes : ByteArray} {maxL : Nat} {ret : Option FieldType}
    (hM : vy_Met l y ws rm Pc Qc XC mc ms free) (hblind : FrameBlind Pc) (hrc : rm.cells = mc) (hrs : rm.slots = ms)
    (hframes : rm.frames + 1 ≤ R.frames) (hlocals : W9 + (maxL + 11) + rm.locals ≤ R.locals)
    (hws : ∀ w ∈ ws, ∀ a' U, s.WarmedH U.vm → w.before a' U = true) (hcode : Cond.code y bytes maxL ret ∈ ws) :
    vx_Back l R p e below s sargs y len W9 (PreOf R mc ms Pc) (PostOf Qc mc ms free) (vx_Post XC mc ms free) := by
  intro m meth c A g ig mk a X hg hsize hdg hW hn hp
  have h1 : (headSpec ws rm).pre.before a A.U = true := atoms_intro fun w hw => hws w hw _ _ X.warmed
  have h2 : (Cond.code y bytes maxL ret).before a A.U = true := hws _ hcode _ _ X.warmed
  have h4 : A.cells + (headSpec ws rm).room.cells ≤ R.cells := by rw [show (headSpec ws rm).room.cells = mc from hrc]; exact hp.1
  have h5 : A.slots + (headSpec ws rm).room.slots ≤ R.slots := by rw [show (headSpec ws rm).room.slots = ms from hrs]; exact hp.2.1
  have hPc : Pc a (A.U.calling g mk a) := hblind _ _ _ _ hp.2.2
  obtain ⟨U, Ls, c0, s0⟩ := A
  dsimp only [Pt.U, Pt.locs, Pt.cells, Pt.slots] at h1 h2 h4 h5 X hn hPc ⊢
  obtain ⟨methY, cY, hmY, hcY, -, hlY, -, -, -, -⟩ := Cond.code_spec hn h2
  have h : At U g.method c below := by rw [hg]; exact X.here
  have hlocals9 : W9 + (maxL + 11) + (headSpec ws rm).room.locals ≤ R.locals := hlocals
  have happ : appY (headSpec ws rm) y e.platform (U.calling g mk a) mk a (.java g :: U.frames.tail) :=
    appY.call h hdg hn (X.room_calling (g := g) (R' := (headSpec ws rm).room) hsize hmY hcY hframes (by rw [hlY]; omega) h4 h5) h1
  obtain ⟨mid, hmid⟩ := h.above
  have hfr : (U.setTop g).frames = (.java g :: mid) ++ below := by rw [State.frames_setTop' g h.top, hmid]; rfl
  obtain ⟨o, s₂, hsteps, -, hend, hq⟩ := callY hM p X.admits X.cas X.clock (acts := []) hfr (by rw [State.frames_setTop' g h.top]; exact happ) hPc
  have hq' : vx_Q Qc XC mc ms free a (U.calling g mk a) o s₂ := hq
  rw [State.frames_setTop' g h.top] at hend
  obtain ⟨g₀, hg0⟩ := Option.isSome_iff_exists.mp h.top
  obtain ⟨r, hr⟩ := State.topJava?_eq_some.mp hg0
  have hr' : (({ U with heap := s₂.heap, slotsUsed := s₂.slotsUsed } : State).setVm s₂.vm).frames = .java g₀ :: r := hr
  rcases hq' with ⟨hqc, L, hfe, hL⟩ | ⟨q, rfl, E, ce, L, hx, hce, hcv, hcl, hW₂, hsm, hL⟩
  · obtain ⟨⟨v, rfl⟩, hW₂, e2, q2, q3, q4, q5, q6⟩ := id hfe
    have e3 : s₂ = ({ (U.calling g mk a).setFrames s₂.frames with heap := s₂.heap, slotsUsed := s₂.slotsUsed } : State).setVm s₂.vm := by
      have : s₂ = ({ s₂ with vm := (U.calling g mk a).vm } : State).setVm s₂.vm := rfl
      rw [e2] at this
      exact this
    obtain ⟨c₂, i₂, len₂, hc₂, hd₂, hf₂⟩ := hend
    have hW' : U.WarmedH s₂.vm := hW₂
    have hcc : c₂ = c := by
      have h1 : s₂.code? g.method = U.code? g.method := by
        rw [State.code?_eq, State.code?_eq, hW'.alike.method?]
      exact Option.some.inj (hc₂.symm.trans (h1.trans h.code))
    subst hcc
    have hlen : len₂ = len := by rw [hdg] at hd₂; cases hd₂; rfl
    subst hlen
    have hs₂ : s₂ = (({ U with heap := s₂.heap, slotsUsed := s₂.slotsUsed } : State).setVm s₂.vm).setTop { g with pc := g.pc + len₂, stack := v.toList ++ g.stack } := by
      refine e3.trans ?_
      rw [hf₂, State.calling_eq h.top, State.setFrames_setFrames, State.setTop_of_frames _ hr', hr]
      rfl
    have hsame : U.sameButNew ({ U with heap := s₂.heap, slotsUsed := s₂.slotsUsed } : State) L mc ms := by
      refine ⟨?_, q2, q3, q4, q5, q6⟩
      obtain ⟨t, ht, -⟩ := State.frames_cons hr
      show ({ U with heap := s₂.heap, slotsUsed := s₂.slotsUsed } : State) = { U.setFrames U.frames with heap := s₂.heap, slotsUsed := s₂.slotsUsed }
      rw [State.setFrames_self ht]
    subst hg
    refine Or.inl ⟨v, ⟨(({ U with heap := s₂.heap, slotsUsed := s₂.slotsUsed } : State).setVm s₂.vm), Ls ++ L, c0 + mc, s0 + ms⟩,
      ⟨X.admits, X.cas, X.clock, X.frames, X.room, X.hears, X.method, X.code, (X.here.setHeapUsed s₂.heap s₂.slotsUsed).setVm hW'.alike, X.tail, State.WarmedH.trans X.warmed hW', X.limits, X.bytes, X.same.trans (hsame.setVm s.vm)⟩,
      ⟨g, mk, s₂, L, rfl, rfl, hqc, rfl, hL, rfl, rfl⟩, ?_⟩
    show Steps p.tables e below _ ((({ U with heap := s₂.heap, slotsUsed := s₂.slotsUsed } : State).setVm s₂.vm).setTop { g with pc := g.pc + len₂, stack := v.toList ++ g.stack })
    rw [← hs₂]
    exact hsteps
  · obtain ⟨e2, q2, q3, q4, q5, q6⟩ := id hsm
    have e3 : s₂ = ({ (U.calling g mk a).setFrames s₂.frames with heap := s₂.heap, slotsUsed := s₂.slotsUsed } : State).setVm s₂.vm := by
      have : s₂ = ({ s₂ with vm := (U.calling g mk a).vm } : State).setVm s₂.vm := rfl
      rw [e2] at this
      exact this
    have hf₂ : s₂.frames = .throwing q :: .java g :: U.frames.tail := hend
    have hW' : U.WarmedH s₂.vm := hW₂
    have hs₂ : s₂ = ((({ U with heap := s₂.heap, slotsUsed := s₂.slotsUsed } : State).setVm s₂.vm).setTop g).pushFrame (.throwing q) := by
      refine e3.trans ?_
      rw [hf₂, State.calling_eq h.top, State.setFrames_setFrames, State.pushFrame, State.frames_setTop _ hr', State.setTop_of_frames _ hr', State.setFrames_setFrames, hr]
      rfl
    have hsame : U.sameButNew ({ U with heap := s₂.heap, slotsUsed := s₂.slotsUsed } : State) L mc ms := by
      refine ⟨?_, q2, q3, q4, q5, q6⟩
      obtain ⟨t, ht, -⟩ := State.frames_cons hr
      show ({ U with heap := s₂.heap, slotsUsed := s₂.slotsUsed } : State) = { U.setFrames U.frames with heap := s₂.heap, slotsUsed := s₂.slotsUsed }
      rw [State.setFrames_self ht]
    subst hg
    refine Or.inr ⟨q, ⟨(({ U with heap := s₂.heap, slotsUsed := s₂.slotsUsed } : State).setVm s₂.vm), Ls ++ L, c0 + mc, s0 + ms⟩,
      ⟨X.admits, X.cas, X.clock, X.frames, X.room, X.hears, X.method, X.code, (X.here.setHeapUsed s₂.heap s₂.slotsUsed).setVm hW'.alike, X.tail, State.WarmedH.trans X.warmed hW', X.limits, X.bytes, X.same.trans (hsame.setVm s.vm)⟩,
      ⟨g, mk, s₂, L, E, ce, rfl, rfl, hx, hce, hcv, hcl, rfl, hL, rfl, rfl⟩, ?_⟩
    show Steps p.tables e below _ (((({ U with heap := s₂.heap, slotsUsed := s₂.slotsUsed } : State).setVm s₂.vm).setTop g).pushFrame (.throwing q))
    rw [← hs₂]
    exact hsteps
end VYP
abbrev vy_CU (R : Room) (s : State) (args : Array Value) (own C owner : String) (index : Nat) (x y : MethodName) (bytes : ByteArray) (maxL : Nat) (ret : Option FieldType) (ws : List Cond) (rm : Room) (mc ms n : Nat) : Prop :=
  (rm.cells = mc ∧ rm.slots = ms ∧ rm.frames + 1 ≤ R.frames ∧ 8 + (maxL + 11) + rm.locals ≤ R.locals ∧ (∀ w ∈ ws, ∀ (a' : Array Value) (U : State), s.WarmedH U.vm → w.before a' U = true) ∧ Cond.code y bytes maxL ret ∈ ws) ∧
  ((Cond.code y bytes maxL ret).before args s = true) ∧ (owner ≠ "java/lang/invoke/MethodHandle" ∧ owner ≠ "java/lang/invoke/VarHandle") ∧ (∀ sig, parseMethodDescriptor x.desc = some sig → n = sig.parameters.length) ∧
  ((Cond.methodLink own index x).before args s = true) ∧ ((Cond.sameMethod x.cls owner x.name x.desc).before args s = true) ∧ (va_Decl s ⟨owner, x.name, x.desc⟩) ∧ ((Cond.selects C x y).before args s = true) ∧ ((Cond.instanceMethod y).before args s = true)
section VYR
variable {p : Program} {l : Launch} {e : Env} {R : Room} {s : State} {m : MethodId} {args : Array Value} {below : List Frame} {meth : Method} {c : Code} {H : Heap} {locs : List Loc} {cells slots : Nat}
theorem vy_runU {x y : MethodName} {bytes cc : ByteArray} {maxL nL mc ms n index : Nat} {ret : Option FieldType} {ws : List Cond} {rm : Room} {Pc : Array Value → State → Prop} {Qc : Array Value → State → Outcome → State → Prop} {XC : String → Addr → State → State → Prop} {free : Addr → Prop} {Ts : List Cond} {own C owner : String} {b : Addr} {As rest : List Value} {g : JFrame}
    (S : CallFix p m c cc nL s args Ts own) (hM : vy_Met l y ws rm Pc Qc XC mc ms free) (cw : vy_CU R s args own C owner index x y bytes maxL ret ws rm mc ms n) (hp : PreV s H C b Pc As)
    (hg : g.method = m) (hn : As.length = n) (hsize : g.locals.size = nL) (hstack : g.stack = As.reverse ++ .ref b :: rest) (hW : 2 * g.monitorRoom + (rest.map fun v => v.category).sum ≤ 8) (hdg : decode cc g.pc = .ok (.invokevirtual index, 3)) (hf : cells + mc ≤ R.cells ∧ slots + ms ≤ R.slots) :
    vx_Run p l e R s m args below meth c H locs cells slots mc ms g rest (Qc (Value.ref b :: As).toArray) XC free := by
  obtain ⟨⟨hrc, hrs, hfr, hlo, hws, hcw⟩, cwcode, cwnot, cwlen, cwlink, cwsame, cwdecl, cwsel, cwinst⟩ := cw
  have hK : vx_Back l R p e below s args y 3 8 (PreOf R mc ms Pc) (PostOf Qc mc ms free) (vx_Post XC mc ms free) := vy_back (bytes := bytes) (maxL := maxL) (ret := ret) hM hp.1 hrc hrs hfr hlo hws hcw
  obtain ⟨hx, hb, hml, ho, -⟩ := S
  obtain ⟨-, ⟨cellB, hcB, hoB, hclB⟩, hPc⟩ := hp
  intro T hT X
  rcases vx_callVU X hx (C := C) (owner := owner) (bytes := bytes) (maxL := maxL) (ret := ret) ho cwlink cwsame cwdecl cwnot cwsel cwinst cwcode hK (by rw [hT]; exact hcB) hoB hclB hg (hsize.trans hml.symm) (argsL := As) (rest := rest) (fun sig h => hn.trans (cwlen sig h)) hstack hW (by rw [hb]; exact hdg)
    (fun vm₁ hW₁ => ⟨hf.1, hf.2, hPc (T.setVm vm₁) hT hW₁⟩) with ⟨v, vm₁, ⟨U', l2, c2, s2⟩, hW₁, X', ⟨g', mk, t, L, e1, e2, hq, h1, hL, h2, h3⟩, st⟩ | ⟨q, vm₁, ⟨U', l2, c2, s2⟩, hW₁, X', ⟨g', mk, t, L, E, ce, e1, e2, hq, hce, hcv, hcl, h1, hL, h2, h3⟩, st⟩
  · dsimp only [Pt.U, Pt.locs, Pt.cells, Pt.slots] at X' e1 e2 h1 h2 h3 st
    subst h1; subst h2; subst h3
    exact Or.inl ⟨v, (T.setVm vm₁).calling g' mk (Value.ref b :: As).toArray, t, U', L, hT, X', hL, e1, e2, hq, st⟩
  · dsimp only [Pt.U, Pt.locs, Pt.cells, Pt.slots] at X' e1 e2 h1 h2 h3 st hcl
    subst h1; subst h2; subst h3
    exact Or.inr ⟨q, (T.setVm vm₁).calling g' mk (Value.ref b :: As).toArray, t, U', L, E, ce, hT, X', hL, e1, e2, hq, hce, hcv, vx_cls hW₁ hcl, st⟩
end VYR
/-- the body's start -/
theorem MetY.of {l : Launch} {x : MethodName} {ws ws' : List Cond} {rm : Room} {P : Array Value → State → Prop} {Q : Array Value → State → Outcome → State → Prop} {cc : ByteArray} {maxL : Nat} {ret : Option FieldType} (hx : plainName x.cls = true) (hw : ws = Cond.code x cc maxL ret :: ws')
    (body : ∀ (p : Program) (e : Env) (s : State) (m : MethodId) (args : Array Value) (below : List Frame) (meth : Method) (c : Code) (s₁ : State), Stand p l e (headSpec ws rm).room s m args below meth c s₁ [] 0 0 → p.tables.exec = Jvm.exec → s.methodNamed? x = some m → (headSpec ws rm).pre.before args s = true → meth.sig.returnType = ret → meth.locks = false → c.code = cc → c.maxLocals = maxL → s.vm.method? m = some meth → (∀ q ∈ c.exceptionTable.toList, False) → s₁.heap = s.heap → P args s →
      ∃ s₂ o, Steps p.tables e below (s₁.setTop (entryFrame m args maxL)) s₂ ∧ s₂.status = .running ∧ Ended s₂ below o ∧ Q args s o s₂) : MetY l x (headSpec ws rm) P Q := by
  intro p e ha hc hk s m args below hf happ hP
  obtain ⟨hrun, hable, halone, hname, hhears, hroom, hpre⟩ := happ
  obtain ⟨meth, c, hmeth, hcode, hbytes, hlocals, hret, hlocks, hex, -⟩ := Cond.code_spec hname (atoms_spec (ws := ws) hpre _ (by rw [hw]; exact List.mem_cons_self))
  have hcur := State.cur_lt_of_frames hf
  have hf1 : (s.setFrames (.java (entryFrame m args maxL) :: below)).frames = .java (entryFrame m args maxL) :: below := State.frames_setFrames _ hcur
  have ht1 := State.topJava?_of_frames hf1
  have hplain : (s.setFrames (.java (entryFrame m args maxL) :: below)).plainMethod m := State.plainMethod.of_named (s := s) (plainFor_of_name hx) hname hmeth
  have hAt : At (s.setFrames (.java (entryFrame m args maxL) :: below)) m c below :=
    ⟨by rw [ht1]; rfl, ⟨[], by rw [hf1]; rfl⟩, hrun, by simpa using hable, by simpa using halone, by rw [State.code?_eq]; simp [State.setFrames, hmeth, hcode], hplain⟩
  have hstep : (stepThread p.tables e s).1 = (s.setFrames (.java (entryFrame m args maxL) :: below)).setTop (entryFrame m args maxL) := by
    have hfull : e.platform.stackFull (s.setFrames below).me (s.setFrames below).frames c.maxLocals = false := by
      obtain ⟨-, h1, -, h2⟩ := State.hasRoom_stack hroom
      rw [hf, List.length_cons] at h1
      rw [State.localsInUse_invoking hf hmeth hcode] at h2
      have hw := stackUse_le_stackWeight below
      rw [State.frames_setFrames _ hcur]
      exact Platform.stackFull_eq_false (by rw [State.stackLimits_setFrames]; omega) (by rw [State.stackLimits_setFrames]; omega)
    rw [stepThread_invoking hf, (doInvoke_java (s := s.setFrames below) (e := e) (meth := meth) (code := c) hmeth hcode hlocks hfull).1, State.setTop_self ht1]
    simp only [State.pushFrame, State.frames_setFrames _ hcur, State.setFrames_setFrames, hlocals, entryFrame]
  obtain ⟨t, ht, -⟩ := State.frames_cons hf
  have hS : Stand p l e (headSpec ws rm).room s m args below meth c (s.setFrames (.java (entryFrame m args maxL) :: below)) [] 0 0 :=
    ⟨ha, hc, hk, hf, hroom, hhears, hmeth, hcode, hAt, by rw [hf1]; rfl, State.WarmedH.refl s, by rw [State.stackLimits_setFrames], by rw [State.stackBytes_setFrames], (State.sameButNew.refl s ht).setFrames (.java (entryFrame m args maxL) :: below) hcur⟩
  obtain ⟨s₂, o, hs, hr, he, hp⟩ := body p e s m args below meth c _ hS (by cases p <;> rfl) hname hpre hret hlocks hbytes hlocals hmeth (fun q hq => by rw [Array.isEmpty_iff.mp hex] at hq; cases hq) rfl hP
  obtain ⟨n, hn, hw⟩ := Steps.head (tb := p.tables) (e := e) ⟨hrun, hable, halone⟩ ⟨[.invoking m args], hf, by simp, by simp⟩ (hstep ▸ hs)
  exact ⟨n, o, hw, hn ▸ hr, hn ▸ he, hn ▸ hp⟩
/-- a contract of a method whose class isn't called initialized -/
def CtY (l : Launch) (Γ : Gm) (y : MethodName) (cc : ByteArray) (nL : Nat) (ret : Option FieldType) (d mc ms : Nat) (av : List Value) (z : ZR) (h : AH) (P : Oc → ZR → AH → Prop) : Prop :=
  vy_Met l y (ws_ y cc nL ret) (rmD d mc ms) (PcP Γ av z h) (QcP Γ z h P) (XcP Γ z h P) mc ms (fun q => gN Γ ≤ q)
theorem CtY.of {l : Launch} {Γ : Gm} {y : MethodName} {cc : ByteArray} {nL : Nat} {ret : Option FieldType} {d mc ms : Nat} {av : List Value} {z : ZR} {h : AH} {P : Oc → ZR → AH → Prop} (hl : l.flags = flags0) (hΓ : GOK Γ) (hy : plainName y.cls = true) (hlen : (lg_sl av).length ≤ nL)
    (body : ∀ X : XT, xG X = Γ → xl X = l → Cx X cc nL y.cls y.name ret [] d → WW X P z h mc ms 0 (lv_args 0 av) []) : CtY l Γ y cc nL ret d mc ms av z h P := by
  refine MetY.of (cc := cc) (maxL := nL) (ret := ret) hy rfl ?_
  intro p e s m args below meth c s₁ hSt hexec hnamed hpre hret hlocks hbytes hml hmeth htb hh0 hv
  obtain ⟨rfl, hW, hR⟩ := hv
  have hts := atoms_spec (ws := ws_ y cc nL ret) hpre
  have hts : ∀ w ∈ lw_all, w.before _ s = true := fun w h => hts w (List.mem_cons_of_mem _ h)
  have hown : s.vm.findClass y.cls = some m.cls := findClass_of_methodNamed hnamed
  have hnm := (name_of_methodNamed hnamed hmeth).1
  have htab : c.exceptionTable.toList = tableOf [] := by
    cases hc : c.exceptionTable.toList with
    | nil => rfl
    | cons a b => exact absurd (htb a (by rw [hc]; exact List.mem_cons_self)) (fun q => q)
  have hl2 := lv_entry av (n := nL) hlen
  rw [← hml] at hl2
  rw [lg_entry_eq, ← hml]
  have key := body ((p, l, e, (headSpec (ws_ y cc nL ret) (rmD d mc ms)).room, s, m), (av.toArray, below, meth, c), (Γ, z, h)) rfl rfl ⟨hexec, hbytes, hml, hown, hts, hret, hlocks, hW, hΓ, hl, hnm, htab, rfl, rfl⟩ (Nat.le_refl _) (Nat.le_refl _) s.heap _ [] ⟨hR, Frm.rf, fun q hq => by cases hq⟩ hl2
  have e1 : (headSpec (ws_ y cc nL ret) (rmD d mc ms)).room.cells - mc = 0 := Nat.sub_self _
  have e2 : (headSpec (ws_ y cc nL ret) (rmD d mc ms)).room.slots - ms = 0 := Nat.sub_self _
  rw [show (xR ((p, l, e, (headSpec (ws_ y cc nL ret) (rmD d mc ms)).room, s, m), (av.toArray, below, meth, c), (Γ, z, h))).cells - mc = 0 from e1, show (xR ((p, l, e, (headSpec (ws_ y cc nL ret) (rmD d mc ms)).room, s, m), (av.toArray, below, meth, c), (Γ, z, h))).slots - ms = 0 from e2] at key
  obtain ⟨t, a1, o, b1, b2, b3⟩ := key s₁ hh0 hSt
  exact ⟨t, o, a1, b1, b2, b3⟩
def vy_ws (own : String) (idx : Nat) (C owner : String) (x y : MethodName) (ws : List Cond) : List Cond := ([.methodLink own idx x, .sameMethod x.cls owner x.name x.desc, .selects C x y, .instanceMethod y] : List Cond) ++ ws
theorem lw_Y {own : String} {idx : Nat} {C owner : String} {x y : MethodName} {b : ByteArray} {L : Nat} {r : Option FieldType} (h1 : Cond.methodLink own idx x ∈ lw_all) (h2 : Cond.sameMethod x.cls owner x.name x.desc ∈ lw_all) (h3 : Cond.selects C x y ∈ lw_all) (h4 : Cond.instanceMethod y ∈ lw_all) (h6 : Cond.code y b L r ∈ lw_all) : GoodIn lw_all (vy_ws own idx C owner x y (ws_ y b L r)) := lw_good (fun w hw => by
  unfold vy_ws at hw
  rcases List.mem_append.mp hw with q | q
  · simp only [List.mem_cons, List.not_mem_nil, or_false] at q
    rcases q with rfl | rfl | rfl | rfl <;> assumption
  · rcases List.mem_cons.mp q with rfl | q
    · assumption
    · exact q)
section VYC
variable {X : XT} {P : Oc → ZR → AH → Prop} {z : ZR} {h : AH} {kc ns pc nL d : Nat} {lv : List (Nat × Value)} {cc : ByteArray} {own mn : String} {ret : Option FieldType} {hh : List (Nat × Nat × Nat × Nat)}
theorem ww_callY (C : Cx X cc nL own mn ret hh d) {index nLy dy mc ms n b : Nat} {y : MethodName} {cy : ByteArray} {rety : Option FieldType} {As rest st0 : List Value} {Pc : Oc → ZR → AH → Prop} {C1 owner : String} {x : MethodName} (hw : GoodIn lw_all (vy_ws own index C1 owner x y (ws_ y cy nLy rety))) (hz : Cond.declares ⟨owner, x.name, x.desc⟩ ∈ lw_tbl) (hdsc : owner ≠ "java/lang/invoke/MethodHandle" ∧ owner ≠ "java/lang/invoke/VarHandle" ∧ (parseMethodDescriptor x.desc).map (fun d => d.parameters.length) = some n) (hd : decode cc pc = .ok (.invokevirtual index, 3)) (hM : CtY (xl X) (xG X) y cy nLy rety dy mc ms (.ref b :: As) z h Pc) (hr : rcv (xG X) z h b C1) (hn : As.length = n) (hs : st0 = As.reverse ++ .ref b :: rest) (hst : (rest.map fun v => v.category).sum ≤ 8) (hdy : dy + 1 ≤ d) (hnl : nLy ≤ 29) (hmc : mc ≤ kc) (hms : ms ≤ ns) (kk : ∀ v z' h', Pc (.inl v) z' h' → WW X P z' h' (kc - mc) (ns - ms) (pc + 3) lv (v.toList ++ rest)) (kx : ∀ E q z' h', Pc (.inr (E, q)) z' h' → WX X P z' h' (kc - mc) (ns - ms) pc lv E q) : WW X P z h kc ns pc lv st0 := by
  intro a1 a2 H ls locs hI hl
  have ok : ∀ w ∈ vy_ws own index C1 owner x y (ws_ y cy nLy rety), w.before (xa X) (xs X) = true := fun w q => C.2.2.2.2.1 w (hw w q).1
  have hG : GoodIn lw_all (ws_ y cy nLy rety) := fun w q => hw w (by unfold vy_ws; exact List.mem_append_right _ q)
  have hc : Cond.code y cy nLy rety ∈ ws_ y cy nLy rety := List.mem_cons_self
  have hR := Cx.room C (mc := mc) (ms := ms) hdy hnl
  have cw : vy_CU (xR X) (xs X) (xa X) own C1 owner index x y cy nLy rety (ws_ y cy nLy rety) (rmD dy mc ms) mc ms n := by
    refine ⟨⟨rfl, rfl, hR.1, hR.2, pay_in C.2.2.2.2.1 hG, hc⟩, C.2.2.2.2.1 _ (hG _ hc).1, ⟨hdsc.1, hdsc.2.1⟩, fun sig q => ?_, ok _ (by simp [vy_ws]), ok _ (by simp [vy_ws]), va_Decl.abs (va_Nw.warmD C.2.2.2.2.2.2.2.1 (Cx.N C hz rfl)), ok _ (by simp [vy_ws]), ok _ (by simp [vy_ws])⟩
    have h2 := hdsc.2.2
    rw [q] at h2
    exact (Option.some.inj h2).symm
  exact ww_run a1 a2 hI hl hmc hms (vy_runU (Cx.fix C) hM cw (Cx.preV C hI hr) rfl hn (Cx.sz C hl) hs (Cx.rest C hst) hd ⟨by omega, by omega⟩) kk kx
end VYC
/-- a constant object of a class known by name -/
theorem rcv_ex {Γ : Gm} (hΓ : GOK Γ) {z : ZR} {h : AH} {Cn nm ds cls : String} {k : Nat} (hq : cnL[k]? = some (Cn, nm, ds)) (hn : Cond.exactly (.static Cn nm ds) cls ∈ flatL) : rcv Γ z h (gE Γ k) cls := by
  intro U H hW hR
  obtain ⟨a0, hT, -, -, -, hN, hS, -⟩ := hΓ
  obtain ⟨a, c, cell, kk, q1, q2, q3, q4, q5, q6, -⟩ := Cond.exactly_spec (args := a0) (first := gS Γ) (o := none) (s := gS Γ) (idx := []) (flat_of_before _ hN _ hn)
  have e : a = gE Γ k := by
    have := (hS k _ hq).symm.trans q1
    cases this; rfl
  subst e
  refine ⟨cell, ?_, q5, ?_⟩
  · rw [hR.2.1 _ (Array.getElem?_eq_some_iff.mp q3).1]; exact q3
  · rw [hW.alike.findClass, q6]; exact q2
end W14
