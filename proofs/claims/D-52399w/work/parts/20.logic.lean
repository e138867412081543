/-! ===== OWN LOGIC: an abstract heap (h: cells that may be written, a function; z: facts that stay), contracts Ct, walks WW ===== -/
set_option maxRecDepth 100000
abbrev AH : Type := Nat → Option va_E
abbrev ZR : Type := Nat → va_E → Prop
abbrev Oc : Type := Option Value ⊕ (String × Nat)
/-- the start: its state, the numbers of the classes and slots, the array classes, the constants' addresses -/
abbrev Gm : Type := State × va_G × (Nat → ClassId) × (Nat → Nat)
abbrev gS (Γ : Gm) : State := Γ.1
abbrev gD (Γ : Gm) : va_G := Γ.2.1
abbrev gA (Γ : Gm) : Nat → ClassId := Γ.2.2.1
abbrev gE (Γ : Gm) : Nat → Nat := Γ.2.2.2
abbrev gN (Γ : Gm) : Nat := Γ.1.heap.size
def TX24 : u_T := fun _ => ("", "", "", false)
def tyX24 : Nat → FieldType := fun _ => .int
theorem tyX24_ok : ∀ k, k < 0 → parseFieldDescriptor (TX24 k).2.2.1 = some (tyX24 k) := fun k h => absurd h (Nat.not_lt_zero k)
theorem in_X24 : ∀ w ∈ u_ws RX24 TX24 0, w ∈ lw_all := fun w h => nomatch h
/-- all classes of which cells are made or read -/
def clX : List vw_C := [(RX1, TX1, 4), (RX2, TX2, 2), (RX3, TX3, 9), (RX4, TX4, 24), (RX5, TX5, 15), (RX6, TX6, 5), (RX7, TX7, 6), (RX8, TX8, 2), (RX9, TX9, 3), (RX10, TX10, 8), (RX11, TX11, 1), (RX13, TX13, 1), (RX14, TX14, 2), (RX15, TX15, 1), (RX16, TX16, 3), (RX17, TX17, 6), (RX18, TX18, 2), (RX19, TX19, 1), (RX20, TX20, 1), (RX21, TX21, 1), (RX22, TX22, 3), (RX24, TX24, 0), (RX25, TX25, 2), (RJ2, TJ2, 3), (RJ10, TJ10, 4), (RJ11, TJ11, 4), (RJ19, TJ19, 1), (RJ22, TJ22, 8), (RJ26, TJ26, 4), (RJ28, TJ28, 11), (RJ31, TJ31, 1), (RJ32, TJ32, 4)]
/-- statics that hold constant objects -/
def cnL : List (String × String × String) := [("java/util/ArrayList", "DEFAULTCAPACITY_EMPTY_ELEMENTDATA", "[Ljava/lang/Object;"), ("RingDomino$Sort", "BAD", "LRingDomino$Sort;"), ("RingDomino$Sort", "KEY", "LRingDomino$Sort;"), ("RingDomino$Sort", "NAME", "LRingDomino$Sort;"), ("RingDomino$Sort", "NUMBER", "LRingDomino$Sort;"), ("RingDomino$Sort", "SYMBOL", "LRingDomino$Sort;"), ("RingDomino$Sort", "END", "LRingDomino$Sort;"), ("jdk/internal/util/ArraysSupport", "JLA", "Ljdk/internal/access/JavaLangAccess;"), ("jdk/internal/util/ArraysSupport", "U", "Ljdk/internal/misc/Unsafe;"), ("RingDomino$Craft", "ALL", "[LRingDomino$Craft;"), ("RingDomino$Craft", "PUT", "LRingDomino$Craft;"), ("RingDomino$What", "ALL", "[LRingDomino$What;"), ("RingDomino$Kind", "NOTHING", "LRingDomino$Kind;"), ("RingDomino$Sign", "LEAST", "LRingDomino$Sign;"), ("RingDomino$Sign", "MOST_OF", "LRingDomino$Sign;"), ("RingDomino$Sign", "TIMES", "LRingDomino$Sign;"), ("RingDomino$Sign", "PARTED", "LRingDomino$Sign;"), ("RingDomino$Sign", "PLUS", "LRingDomino$Sign;"), ("RingDomino$Sign", "MINUS", "LRingDomino$Sign;"), ("java/util/Optional", "EMPTY", "Ljava/util/Optional;"), ("RingDomino$Craft", "TAKE", "LRingDomino$Craft;"), ("RingDomino$Craft", "FIT", "LRingDomino$Craft;"), ("RingDomino$What", "ROUND", "LRingDomino$What;"), ("RingDomino$What", "PLACED", "LRingDomino$What;"), ("RingDomino$What", "MATCHES", "LRingDomino$What;"), ("RingDomino$What", "POINTS", "LRingDomino$What;"), ("RingDomino$What", "RINGS", "LRingDomino$What;"), ("RingDomino$What", "FREE", "LRingDomino$What;"), ("RingDomino$What", "WAYS", "LRingDomino$What;"), ("RingDomino$Kind", "TILE", "LRingDomino$Kind;"), ("java/lang/Integer", "DigitOnes", "[B"), ("java/lang/Integer", "DigitTens", "[B"), ("RingDomino$Scanner", "KEYS", "[Ljava/lang/String;"), ("RingDominoModel", "WORDS", "[Ljava/lang/String;"), ("RingDominoModel", "RIGHT", "[I"), ("RingDominoModel", "DOWN", "[I"), ("java/lang/Integer$IntegerCache", "cache", "[Ljava/lang/Integer;")]
/-- String constants, by their places -/
def stL : List (String × Nat) := [("RingDomino$Scanner", 112), ("RingDomino$Scanner", 114), ("RingDomino$Scanner", 116), ("RingDomino$Scanner", 118), ("RingDomino$Scanner", 120), ("RingDomino$Scanner", 121), ("RingDomino$Scanner", 123), ("RingDomino$Scanner", 125), ("RingDomino$Scanner", 127), ("RingDomino$Scanner", 129), ("RingDomino$Scanner", 131), ("RingDomino$Scanner", 133), ("RingDomino$Scanner", 135), ("RingDomino$Scanner", 137), ("RingDomino$Scanner", 139), ("RingDomino$Scanner", 141), ("RingDomino$Scanner", 143), ("RingDomino$Scanner", 145), ("RingDomino$Scanner", 147), ("RingDomino$Scanner", 149), ("RingDomino$Scanner", 151), ("RingDomino$Scanner", 153), ("RingDomino$Scanner", 155), ("RingDomino$Scanner", 157), ("RingDomino$Craft", 39), ("RingDomino$Sign", 74), ("RingDomino$Sign", 80), ("RingDomino$Sign", 62), ("RingDomino$Sign", 68), ("RingDomino$Sign", 48), ("RingDomino$Sign", 56), ("RingDominoModel", 428), ("RingDominoModel", 430), ("RingDominoModel", 432), ("RingDominoModel", 433), ("RingDominoModel", 434), ("RingDominoModel", 435), ("RingDominoModel", 437), ("RingDominoModel", 438), ("RingDominoModel", 440), ("RingDominoModel", 442), ("RingDominoModel", 444), ("RingDominoModel", 445), ("RingDominoModel", 446), ("RingDominoModel", 447), ("RingDominoModel", 448), ("RingDominoModel", 450), ("RingDominoModel", 451), ("RingDominoModel", 453), ("RingDominoModel", 455), ("RingDominoModel", 456), ("RingDominoModel", 458), ("RingDominoModel", 460), ("RingDominoModel", 462), ("RingDominoModel", 463), ("RingDomino$Craft", 47), ("RingDomino$Craft", 53), ("RingDomino$What", 55), ("RingDomino$What", 68), ("RingDomino$What", 74), ("RingDomino$What", 80), ("RingDomino$What", 86), ("RingDomino$What", 92), ("RingDomino$What", 98), ("RingDomino$Scanner", 75), ("java/util/Arrays", 337), ("RingDomino$Scanner", 104), ("RingDomino$Reader", 119), ("RingDomino$Reader", 128), ("RingDomino$Reader", 133), ("RingDomino$Reader", 138), ("jdk/internal/util/ArraysSupport", 92), ("RingDomino$Reader", 200), ("RingDomino$Reader", 332), ("RingDomino$Reader", 297), ("RingDomino$Reader", 364), ("RingDomino$Reader", 205), ("RingDomino$Reader", 366), ("RingDomino$Reader", 316), ("RingDomino$Reader", 318), ("RingDomino$Reader", 295), ("RingDomino$Reader", 207), ("RingDomino$Reader", 211), ("RingDomino$Reader", 245), ("RingDomino$Reader", 255), ("RingDomino$Reader", 257), ("RingDomino$Reader", 262), ("RingDomino$Reader", 267), ("RingDomino$Reader", 275), ("RingDomino$Reader", 243), ("RingDomino$Reader", 238)]
/-- classes of which the Class object is there -/
def mrL : List String := ["[Ljava/lang/Object;", "java/lang/String", "java/lang/Enum", "RingDomino", "RingDomino$Asked", "RingDomino$Compared", "RingDomino$Craft$1", "RingDomino$Craft$2", "RingDomino$Craft$3", "RingDomino$Denied", "RingDomino$Fault", "RingDomino$Fitting", "RingDomino$Game", "RingDomino$Joined", "RingDomino$Kind", "RingDomino$On", "RingDomino$Order", "RingDomino$Plain", "RingDomino$Reader", "RingDomino$Scanner", "RingDomino$Several", "RingDomino$Sign$1", "RingDomino$Sign$2", "RingDomino$Sign$3", "RingDomino$Sign$4", "RingDomino$Sign$5", "RingDomino$Sign$6", "RingDomino$Sort", "RingDomino$Tape", "RingDomino$Test$1", "RingDomino$Tile", "RingDomino$Token", "RingDomino$Turned", "RingDomino$Way", "RingDomino$What$1", "RingDomino$What$2", "RingDomino$What$3", "RingDomino$What$4", "RingDomino$What$5", "RingDomino$What$6", "RingDomino$What$7", "RingDominoModel", "RingDominoModel$State", "RingDominoModel$Told", "java/lang/ArrayIndexOutOfBoundsException", "java/lang/IllegalArgumentException", "java/lang/IllegalStateException", "java/lang/IndexOutOfBoundsException", "java/lang/Integer", "java/lang/StringBuilder", "java/lang/System$2", "java/lang/Throwable", "java/util/ArrayList", "java/util/ArrayList$Itr", "java/util/HashMap", "java/util/HashMap$Node", "java/util/HashMap$TreeNode", "java/util/Optional", "jdk/internal/misc/Unsafe"]
def StOK (Γ : Gm) (a0 : Array Value) : Prop := (Jvm.Cond.and given_1 narrow_1).before a0 (gS Γ) = true ∧ (∀ (k : Nat) (q : String × String × String), cnL[k]? = some q → (Term.static q.1 q.2.1 q.2.2).eval a0 (gS Γ) none [] (gS Γ) = some (.ref (gE Γ k))) ∧ (∀ (k : Nat) (q : String × Nat), stL[k]? = some q → (Term.string q.1 q.2).eval a0 (gS Γ) none [] (gS Γ) = some (.ref (gE Γ (100 + k))) ∧ (Term.field (.string q.1 q.2) "java/lang/String" "value" "[B").eval a0 (gS Γ) none [] (gS Γ) = some (.ref (gE Γ (2000 + k)))) ∧ (∀ k, k < 256 → (Term.elem (.static "java/lang/Integer$IntegerCache" "cache" "[Ljava/lang/Integer;") (.int (nI k))).eval a0 (gS Γ) none [] (gS Γ) = some (.ref (gE Γ (1000 + k)))) ∧ ∀ (k : Nat) (q : String), mrL[k]? = some q → (Term.mirror q).eval a0 (gS Γ) none [] (gS Γ) = some (.ref (gE Γ (3000 + k)))
def aty : Nat → FieldType := fun k => match k with
  | 0 => .int
  | 1 => .byte
  | 2 => .long
  | 3 => .boolean
  | 4 => .object "java/lang/Object"
  | 5 => .object "java/util/HashMap$Node"
  | 6 => .object "java/lang/String"
  | 7 => .object "java/lang/Integer"
  | 8 => .object "RingDomino$Craft"
  | _ => .object "RingDomino$What"
def vp_el (a : vp_A) (j : Nat) : Value := match a.2 with
  | .inl f => .int (f j)
  | .inr (.inl f) => .long (f j)
  | .inr (.inr (.inl f)) => .float (f j)
  | .inr (.inr (.inr (.inl f))) => .double (f j)
  | .inr (.inr (.inr (.inr f))) => va_rf (f j)
theorem vp_cell_el (cA : ClassId) (a : vp_A) : vp_cell cA a = arrV cA a.1 (vp_el a) := by
  obtain ⟨n, f | f | f | f | f⟩ := a <;> rfl
/-- a fact of a cell, enough to read it -/
def wat (Γ : Gm) (q : Nat × va_E) (H : Heap) : Prop := match q.2 with
  | .inl a => ∃ cell : Cell, H[q.1]? = some cell ∧ cell.vm.isStatics = false ∧ cell.vm ≠ .unknown ∧ cell.cls = a.1 ∧ a.2.1 ≤ cell.slots.size ∧ cell.slots.size.toInt32 = Int32.ofNat a.2.1 ∧ ∀ j, j < a.2.1 → cell.slots[j]? = some (vp_el a.2 j)
  | .inr o => ∃ (r : vw_C) (cell : Cell), clX[o.1]? = some r ∧ H[q.1]? = some cell ∧ cell.vm.isStatics = false ∧ cell.vm ≠ .unknown ∧ cell.cls = (gD Γ).1 o.1 ∧ ∀ k, k < r.2.2 → cell.slots[(gD Γ).2 o.1 k]? = some (vp_V o.2 k)
theorem wat.of {Γ : Gm} {q : Nat × va_E} {H : Heap} (h : va_at (gD Γ) clX q H) : wat Γ q H := by
  obtain ⟨a, e⟩ := q
  cases e with
  | inl x =>
    obtain ⟨cA, x⟩ := x
    have h1 : H[a]? = some (vp_cell cA x) := h
    rw [vp_cell_el] at h1
    refine ⟨_, h1, rfl, (fun q => by cases q), rfl, ?_, ?_, ?_⟩
    · rw [arrV_size]; exact Nat.le_refl _
    · rw [arrV_size]; try rfl
    · intro j hj
      exact arrV_read _ _ hj
  | inr o =>
    obtain ⟨r, h1, cell, h2, h3, h4, h5⟩ := h
    exact ⟨r, cell, h1, h2, (by rw [h4]; rfl), (fun q => by rw [h4] at q; cases q), h3, h5⟩
theorem wat.kept {Γ : Gm} {q : Nat × va_E} {H H1 : Heap} (h : wat Γ q H) (hq : H1[q.1]? = H[q.1]?) : wat Γ q H1 := by
  obtain ⟨a, e⟩ := q
  cases e with
  | inl x =>
    obtain ⟨cell, h1, h2⟩ := h
    exact ⟨cell, hq.trans h1, h2⟩
  | inr o =>
    obtain ⟨r, cell, h1, h2, h3⟩ := h
    exact ⟨r, cell, h1, hq.trans h2, h3⟩
theorem wat.lt {Γ : Gm} {q : Nat × va_E} {H : Heap} (h : wat Γ q H) : q.1 < H.size := by
  obtain ⟨a, e⟩ := q
  cases e with
  | inl x =>
    obtain ⟨cell, h1, -⟩ := h
    exact (Array.getElem?_eq_some_iff.mp h1).1
  | inr o =>
    obtain ⟨r, cell, h0, h1, -⟩ := h
    exact (Array.getElem?_eq_some_iff.mp h1).1
/-- the abstract heap holds in the heap -/
def RelH (Γ : Gm) (z : ZR) (h : AH) (H : Heap) : Prop := gN Γ ≤ H.size ∧ (∀ q : Nat, q < gN Γ → H[q]? = (gS Γ).heap[q]?) ∧ (∀ a e, z a e → wat Γ (a, e) H) ∧ ∀ a e, h a = some e → va_at (gD Γ) clX (a, e) H ∧ gN Γ ≤ a ∧ ∀ e', ¬ z a e'
/-- since H0: only cells of h0 and new ones have changed; h has no other cells; the facts z0 stay -/
def Frm (z0 : ZR) (h0 : AH) (H0 : Heap) (z : ZR) (h : AH) (H : Heap) : Prop := H0.size ≤ H.size ∧ (∀ q : Nat, q < H0.size → h0 q = none → H[q]? = H0[q]?) ∧ (∀ a, h a ≠ none → h0 a ≠ none ∨ H0.size ≤ a) ∧ ∀ a e, z0 a e → z a e
theorem Frm.rf {z : ZR} {h : AH} {H : Heap} : Frm z h H z h H := ⟨Nat.le_refl _, fun _ _ _ => rfl, fun _ q => Or.inl q, fun _ _ q => q⟩
theorem Frm.trans {z0 z1 z2 : ZR} {h0 h1 h2 : AH} {H0 H1 H2 : Heap} (a : Frm z0 h0 H0 z1 h1 H1) (b : Frm z1 h1 H1 z2 h2 H2) : Frm z0 h0 H0 z2 h2 H2 := by
  obtain ⟨a1, a2, a3, a4⟩ := a
  obtain ⟨b1, b2, b3, b4⟩ := b
  refine ⟨Nat.le_trans a1 b1, fun q hq hn => ?_, fun x hx => ?_, fun x e hx => b4 x e (a4 x e hx)⟩
  · rw [b2 q (Nat.lt_of_lt_of_le hq a1) ?_]
    · exact a2 q hq hn
    · cases hc : h1 q with
      | none => rfl
      | some y =>
        rcases a3 q (by rw [hc]; simp) with h | h
        · exact absurd hn h
        · omega
  · rcases b3 x hx with h | h
    · exact a3 x h
    · exact Or.inr (Nat.le_trans a1 h)
/-- what the start gives -/
abbrev flatL : List Cond := flatC (Jvm.Cond.and given_1 narrow_1)
def GOK (Γ : Gm) : Prop := ∃ a0 : Array Value, (∀ w ∈ lw_tbl, w.before a0 (gS Γ) = true) ∧ va_K (gD Γ) clX [] (gS Γ) ∧ (∀ i, i < 10 → ArrOfT (gS Γ) (gA Γ i) (aty i)) ∧ (∀ i, i < 6 → va_RA (gS Γ) (gA Γ i) (aty i)) ∧ StOK Γ a0
abbrev XT : Type := (Program × Launch × Env × Room × State × MethodId) × (Array Value × List Frame × Method × Code) × (Gm × ZR × AH)
abbrev xp (X : XT) : Program := X.1.1
abbrev xl (X : XT) : Launch := X.1.2.1
abbrev xe (X : XT) : Env := X.1.2.2.1
abbrev xR (X : XT) : Room := X.1.2.2.2.1
abbrev xs (X : XT) : State := X.1.2.2.2.2.1
abbrev xm (X : XT) : MethodId := X.1.2.2.2.2.2
abbrev xa (X : XT) : Array Value := X.2.1.1
abbrev xb (X : XT) : List Frame := X.2.1.2.1
abbrev xt (X : XT) : Method := X.2.1.2.2.1
abbrev xc (X : XT) : Code := X.2.1.2.2.2
abbrev xG (X : XT) : Gm := X.2.2.1
abbrev xz (X : XT) : ZR := X.2.2.2.1
abbrev xh (X : XT) : AH := X.2.2.2.2
def PcP (Γ : Gm) (av : List Value) (z : ZR) (h : AH) : Array Value → State → Prop := fun v U => v = av.toArray ∧ (gS Γ).WarmedH U.vm ∧ RelH Γ z h U.heap
def QcP (Γ : Gm) (z : ZR) (h : AH) (P : Oc → ZR → AH → Prop) : Array Value → State → Outcome → State → Prop := fun _ st oc t => ∃ (v : Option Value) (z' : ZR) (h' : AH), oc = .returned v ∧ P (.inl v) z' h' ∧ RelH Γ z' h' t.heap ∧ Frm z h st.heap z' h' t.heap
def XcP (Γ : Gm) (z : ZR) (h : AH) (P : Oc → ZR → AH → Prop) : String → Addr → State → State → Prop := fun E q st t => ∃ (z' : ZR) (h' : AH), P (.inr (E, q)) z' h' ∧ RelH Γ z' h' t.heap ∧ Frm z h st.heap z' h' t.heap
abbrev xQ (X : XT) (P : Oc → ZR → AH → Prop) : State → Prop := vx_MQ (xb X) (QcP (xG X) (xz X) (xh X) P) (XcP (xG X) (xz X) (xh X) P) (xa X) (xs X) (xR X).cells (xR X).slots (fun q => gN (xG X) ≤ q)
def Inv (X : XT) (z : ZR) (h : AH) (H : Heap) (locs : List Loc) : Prop := RelH (xG X) z h H ∧ Frm (xz X) (xh X) (xs X).heap z h H ∧ ∀ q ∈ locs, gN (xG X) ≤ q.base
/-- the walk: at pc, with the locals lv and the stack st, k cells and n slots still to spend, the abstract heap z, h: comes to an end with P -/
def WW (X : XT) (P : Oc → ZR → AH → Prop) (z : ZR) (h : AH) (k n pc : Nat) (lv : List (Nat × Value)) (st : List Value) : Prop :=
  k ≤ (xR X).cells → n ≤ (xR X).slots → ∀ (H : Heap) (ls : Array Slot) (locs : List Loc), Inv X z h H locs → lv_has ls (xc X).maxLocals lv → W (xp X) (xl X) (xe X) (xR X) (xs X) (xm X) (xa X) (xb X) (xt X) (xc X) H locs ((xR X).cells - k) ((xR X).slots - n) (xQ X P) (F0 (xm X) pc ls st)
/-- .. with an exception q of the class E under way -/
def WX (X : XT) (P : Oc → ZR → AH → Prop) (z : ZR) (h : AH) (k n pc : Nat) (lv : List (Nat × Value)) (E : String) (q : Nat) : Prop :=
  k ≤ (xR X).cells → n ≤ (xR X).slots → ∀ (H : Heap) (ls : Array Slot) (locs : List Loc) (rest : List Value) (ce : Cell), Inv X z h H locs → lv_has ls (xc X).maxLocals lv → H[q]? = some ce → ce.vm = .none → (xs X).vm.findClass E = some ce.cls → vx_W (xp X) (xl X) (xe X) (xR X) (xs X) (xm X) (xa X) (xb X) (xt X) (xc X) H locs ((xR X).cells - k) ((xR X).slots - n) (xQ X P) (F0 (xm X) pc ls rest) q
/-- the fixed things of a walk -/
abbrev Cx (X : XT) (cc : ByteArray) (nL : Nat) (own mn : String) (ret : Option FieldType) (hh : List (Nat × Nat × Nat × Nat)) (d : Nat) : Prop :=
  (xp X).tables.exec = Jvm.exec ∧ (xc X).code = cc ∧ (xc X).maxLocals = nL ∧ (xs X).vm.findClass own = some (xm X).cls ∧ (∀ w ∈ lw_all, w.before (xa X) (xs X) = true) ∧ (xt X).sig.returnType = ret ∧ (xt X).locks = false ∧ (gS (xG X)).WarmedH (xs X).vm ∧ GOK (xG X) ∧ (xl X).flags = flags0 ∧ (xt X).name = mn ∧ (xc X).exceptionTable.toList = tableOf hh ∧ (xR X).frames = d ∧ (xR X).locals = 48 * d
def rmD (d mc ms : Nat) : Room := { frames := d, cells := mc, slots := ms, locals := 48 * d }
/-- a contract: called with av in the abstract heap z, h, the method ends with P -/
def Ct (l : Launch) (Γ : Gm) (y : MethodName) (cc : ByteArray) (nL : Nat) (ret : Option FieldType) (d mc ms : Nat) (av : List Value) (z : ZR) (h : AH) (P : Oc → ZR → AH → Prop) : Prop :=
  vx_Met l y (ws_ y cc nL ret) (rmD d mc ms) (PcP Γ av z h) (QcP Γ z h P) (XcP Γ z h P) mc ms (fun q => gN Γ ≤ q)
def CtW (l : Launch) (Γ : Gm) (y : MethodName) (cc : ByteArray) (nL : Nat) (ret : Option FieldType) (hh : List (Nat × Nat × Nat × Nat)) (d mc ms : Nat) (av : List Value) (z : ZR) (h : AH) (P : Oc → ZR → AH → Prop) : Prop :=
  vx_Met l y (wsW_ y cc nL ret hh) (rmD d mc ms) (PcP Γ av z h) (QcP Γ z h P) (XcP Γ z h P) mc ms (fun q => gN Γ ≤ q)
theorem Ct.of {l : Launch} {Γ : Gm} {y : MethodName} {cc : ByteArray} {nL : Nat} {ret : Option FieldType} {d mc ms : Nat} {av : List Value} {z : ZR} {h : AH} {P : Oc → ZR → AH → Prop} (hl : l.flags = flags0) (hΓ : GOK Γ) (hy : plainName y.cls = true) (hlen : (lg_sl av).length ≤ nL)
    (body : ∀ X : XT, xG X = Γ → xl X = l → Cx X cc nL y.cls y.name ret [] d → WW X P z h mc ms 0 (lv_args 0 av) []) : Ct l Γ y cc nL ret d mc ms av z h P := by
  refine vx_ofW (cc := cc) (maxL := nL) (ret := ret) hy rfl ?_
  intro p e s m args below meth c s₁ B hml ht hv
  obtain ⟨rfl, hW, hR⟩ := hv
  have hts := atoms_spec (ws := ws_ y cc nL ret) B.pre
  have hts : ∀ w ∈ lw_all, w.before _ s = true := fun w h => hts w (List.mem_cons_of_mem _ h)
  have hown : s.vm.findClass y.cls = some m.cls := findClass_of_methodNamed B.named
  have hnm := (name_of_methodNamed B.named B.method).1
  have htab : c.exceptionTable.toList = tableOf [] := by
    cases hc : c.exceptionTable.toList with
    | nil => rfl
    | cons a b => exact absurd (ht a (by rw [hc]; exact List.mem_cons_self)) (fun q => q)
  have hl2 := lv_entry av (n := nL) hlen
  rw [← hml] at hl2
  rw [lg_entry_eq, ← hml]
  have key := body ((p, l, e, (headSpec (ws_ y cc nL ret) (rmD d mc ms)).room, s, m), (av.toArray, below, meth, c), (Γ, z, h)) rfl rfl ⟨B.exec, B.bytes, hml, hown, hts, B.returns, B.notSynchronized, hW, hΓ, hl, hnm, htab, rfl, rfl⟩ (Nat.le_refl _) (Nat.le_refl _) s.heap _ [] ⟨hR, Frm.rf, fun q hq => by cases hq⟩ hl2
  have e1 : (headSpec (ws_ y cc nL ret) (rmD d mc ms)).room.cells - mc = 0 := Nat.sub_self _
  have e2 : (headSpec (ws_ y cc nL ret) (rmD d mc ms)).room.slots - ms = 0 := Nat.sub_self _
  rw [show (xR ((p, l, e, (headSpec (ws_ y cc nL ret) (rmD d mc ms)).room, s, m), (av.toArray, below, meth, c), (Γ, z, h))).cells - mc = 0 from e1, show (xR ((p, l, e, (headSpec (ws_ y cc nL ret) (rmD d mc ms)).room, s, m), (av.toArray, below, meth, c), (Γ, z, h))).slots - ms = 0 from e2] at key
  exact key
theorem CtW.of {l : Launch} {Γ : Gm} {y : MethodName} {cc : ByteArray} {nL : Nat} {ret : Option FieldType} {hh : List (Nat × Nat × Nat × Nat)} {d mc ms : Nat} {av : List Value} {z : ZR} {h : AH} {P : Oc → ZR → AH → Prop} (hl : l.flags = flags0) (hΓ : GOK Γ) (hy : plainName y.cls = true) (hlen : (lg_sl av).length ≤ nL)
    (body : ∀ X : XT, xG X = Γ → xl X = l → Cx X cc nL y.cls y.name ret hh d → WW X P z h mc ms 0 (lv_args 0 av) []) : CtW l Γ y cc nL ret hh d mc ms av z h P := by
  refine vx_ofWH (cc := cc) (maxL := nL) (ret := ret) hy rfl ?_
  intro p e s m args below meth c s₁ B hml hv
  obtain ⟨rfl, hW, hR⟩ := hv
  have hts := atoms_spec (ws := wsW_ y cc nL ret hh) B.pre
  have htab := vx_table (x := y) B (hts _ List.mem_cons_self)
  have hts : ∀ w ∈ lw_all, w.before _ s = true := fun w h => hts w (List.mem_cons_of_mem _ h)
  have hown : s.vm.findClass y.cls = some m.cls := findClass_of_methodNamed B.named
  have hnm := (name_of_methodNamed B.named B.method).1
  have hl2 := lv_entry av (n := nL) hlen
  rw [← hml] at hl2
  rw [lg_entry_eq, ← hml]
  have key := body ((p, l, e, (headSpec (wsW_ y cc nL ret hh) (rmD d mc ms)).room, s, m), (av.toArray, below, meth, c), (Γ, z, h)) rfl rfl ⟨B.exec, B.bytes, hml, hown, hts, B.returns, B.notSynchronized, hW, hΓ, hl, hnm, htab, rfl, rfl⟩ (Nat.le_refl _) (Nat.le_refl _) s.heap _ [] ⟨hR, Frm.rf, fun q hq => by cases hq⟩ hl2
  have e1 : (headSpec (wsW_ y cc nL ret hh) (rmD d mc ms)).room.cells - mc = 0 := Nat.sub_self _
  have e2 : (headSpec (wsW_ y cc nL ret hh) (rmD d mc ms)).room.slots - ms = 0 := Nat.sub_self _
  rw [show (xR ((p, l, e, (headSpec (wsW_ y cc nL ret hh) (rmD d mc ms)).room, s, m), (av.toArray, below, meth, c), (Γ, z, h))).cells - mc = 0 from e1, show (xR ((p, l, e, (headSpec (wsW_ y cc nL ret hh) (rmD d mc ms)).room, s, m), (av.toArray, below, meth, c), (Γ, z, h))).slots - ms = 0 from e2] at key
  exact key
