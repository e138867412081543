/-! ===== lines, in plain numbers ===== -/
section PB23
set_option maxRecDepth 100000
abbrev GX : Type := (Nat × Nat × Nat) × (Nat → Nat → Nat) × (Nat → Nat)
abbrev GZ : Type := PS × GX
abbrev GR : Type := Option (Nat ⊕ GZ)
abbrev gW (t : Nat) : GR := some (.inl t)
abbrev gO (S : GZ) : GR := some (.inr S)
def gB (x : PR) (f : Nat → PS → GR) : GR := match x with
  | none => none
  | some (.inl t) => some (.inl t)
  | some (.inr (i, S)) => f i S
def gT (E : PE) (k : Nat) (S : PS) (f : PS → GR) : GR := if kd E S = k then f (adv S) else gW S.1.1
def pU (E : PE) (lo hi : Nat) (S : PS) : PR := if kd E S = 31 then pO (E.2.1 S.1.1) ((S.1.1 + 1, if inB (E.2.1 S.1.1) lo hi then S.1.2 else mrk S.1.2 5 S.1.1), S.2) else pW S.1.1
/-- the marks at a tile's name -/
def tiE (E : PE) (S : PS) (k : Nat) : Option (Nat × Nat) := if k = 16 then mrk (if (E.2.2 S.1.1).isSome then mrk S.1.2 2 S.1.1 else S.1.2) 4 S.1.1 else if (E.2.2 S.1.1).isSome then mrk S.1.2 2 S.1.1 else S.1.2
def gTi (E : PE) (S : PS) (G : GX) : GR := if kd E S = 30 then gB (pU E 0 9 ((S.1.1 + 1, tiE E S (min 16 G.1.2.2)), S.2)) (fun a S1 => gB (pU E 0 9 S1) (fun b S2 => gB (pU E 0 9 S2) (fun c S3 => gO (S3, ((G.1.1, G.1.2.1, min 16 (min 16 G.1.2.2 + 1)), va_up G.2.1 (min 16 G.1.2.2) (fun p => if p = 0 then a else if p = 1 then b else c), va_up G.2.2 (min 16 G.1.2.2) S.1.1))))) else gW S.1.1
def oeT (k dz tl fr : Nat) (s : Nat → Nat) (te : Option Nat) (S : PS) : PS := (S.1, ((min 16 (k + 1), S.2.1.2), va_up (va_up (va_up (va_up (va_up S.2.2.1 21 (va_up (S.2.2.1 21) k dz)) 22 (va_up (S.2.2.1 22) k tl)) 23 (va_up (S.2.2.1 23) k fr)) 24 (va_up (S.2.2.1 24) k S.2.1.2)) 25 (fun i => if 3 * k ≤ i ∧ dz = 0 then s (i - 3 * k) else S.2.2.1 25 i), va_up S.2.2.2 k te))
def gOt (E : PE) (f k dz tl fr : Nat) (s : Nat → Nat) (S : PS) (G : GX) : GR := if kd E S = 8 then gB (pp E f 0 8 0 (adv S)) (fun i S1 => gO (oeT k dz tl fr s (some i) S1, G)) else gO (oeT k dz tl fr s none S, G)
def gO1 (S : PS) : PS := ((S.1.1 + 1, if min 16 S.2.1.1 = 16 then mrk S.1.2 4 S.1.1 else S.1.2), S.2)
def gOr (E : PE) (f dz : Nat) (S : PS) (G : GX) : GR := gB (pN E (gO1 S)) (fun tl S2 => match dz with
  | 0 => gT E 4 S2 (fun S3 => gB (pp E f 0 3 0 S3) (fun i0 S4 => gT E 54 S4 (fun S5 => gB (pp E f 0 3 0 S5) (fun i1 S6 => gT E 5 S6 (fun S7 => gB (pp E f 0 3 0 S7) (fun i2 S8 => gOt E f (min 16 S.2.1.1) 0 tl S.2.1.2 (fun p => if p = 0 then i0 else if p = 1 then i1 else i2) S8 G))))))
  | d => gOt E f (min 16 S.2.1.1) d tl S.2.1.2 (fun _ => 0) S2 G)
def gLi (E : PE) (f : Nat) (S : PS) (G : GX) : GR := if kd E S = 2 then gTi E (adv S) G else if kd E S = 3 then gOr E f 0 S G else if kd E S = 6 then gOr E f 1 S G else if kd E S = 7 then gOr E f 2 S G else gW S.1.1
def gLs (t : TP) (f : Nat) : Nat → PS → GX → GR
  | 0, _, _ => none
  | g + 1, S, G => if tK t S.1.1 = 33 then gO (S, G) else match gLi (envQ t G) f S G with
    | none => none
    | some (.inl u) => some (.inl u)
    | some (.inr (S1, G1)) => gT (envQ t G1) 53 S1 (fun S2 => gLs t f g S2 G1)
def gBd (E : PE) (S : PS) (G : GX) : GR := if kd E S = 0 then gB (pU E 3 7 (adv S)) (fun a S1 => gT E 1 S1 (fun S2 => gB (pU E 3 7 S2) (fun b S3 => gT E 53 S3 (fun S4 => gO (S4, ((a, b, G.1.2.2), G.2)))))) else gO (S, G)
def gL (x : GR) (f : PS → GX → GR) : GR := match x with
  | none => none
  | some (.inl u) => some (.inl u)
  | some (.inr (S1, G1)) => f S1 G1
def gGa (t : TP) (f g : Nat) (S : PS) (G : GX) : GR := gL (gBd (envQ t G) S G) (fun S1 G1 => gLs t f g S1 G1)
/-- the same outcome -/
def RG (x : GR) (y : Option QS) : Prop := match x with
  | none => True
  | some (.inl t) => ∃ Q', y = some Q' ∧ Wr t 0 Q'
  | some (.inr S') => ∃ Q', y = some Q' ∧ Rl 0 Q' S'.1 ∧ Q'.2.2 = S'.2
theorem RR.g {x : PR} {y : QR} {f : Nat → PS → GR} {g : Option QS} (h : RR 0 x y) (hk : ∀ i S Q, x = pO i S → y = some (i, Q) → Rl 0 Q S → RG (f i S) g) (hw : ∀ i t Q, x = pW t → y = some (i, Q) → Wr t 0 Q → RG (gW t) g) : RG (gB x f) g := by
  cases x with
  | none => trivial
  | some v =>
    cases v with
    | inl t => obtain ⟨i, Q, e, q⟩ := h; exact hw i t Q rfl e q
    | inr p => obtain ⟨i, S⟩ := p; obtain ⟨Q, e, q⟩ := h; exact hk i S Q rfl e q
theorem RG.T {E : PE} {k : Nat} {Q : QS} {S : PS} (h : Rl 0 Q S) {f : PS → GR} {y : Option QS} (ht : kd E S = k → tkQ E k Q = avQ Q → RG (f (adv S)) y) (hf : tkQ E k Q = wrQ Q → Wr S.1.1 0 (wrQ Q) → RG (gW S.1.1) y) : RG (gT E k S f) y := by
  have hi := h.is E k
  unfold gT
  split
  · rename_i q
    exact ht q (by unfold tkQ; rw [hi, decide_eq_true q]; rfl)
  · rename_i q
    exact hf (by unfold tkQ; rw [hi, decide_eq_false q]; rfl) h.wr
/-- a mark -/
theorem Rl.mk {dp : Nat} {Q : QS} {S : PS} (h : Rl dp Q S) {c : Nat} (hc : c ≠ 0) : Rl dp (mkQ c Q) ((S.1.1, mrk S.1.2 c S.1.1), S.2) := by
  obtain ⟨h1, h2, h3, h4, h5⟩ := h
  cases he : S.1.2 with
  | none =>
    rw [he] at h5
    have e : mkQ c Q = ((qt Q, qw Q, c, qt Q, qd Q), Q.2) := by unfold mkQ; rw [h1, show qe Q = 0 from h5]; rfl
    rw [e]
    exact ⟨h1, h2, h3, h4, ⟨rfl, h2, hc⟩⟩
  | some x =>
    rw [he] at h5
    have e : mkQ c Q = Q := by unfold mkQ; rw [decide_eq_false (by have h6 := h5.1; have h7 := h5.2.2; omega)]; simp
    rw [e]
    exact ⟨h1, h2, h3, h4, h5⟩
theorem Wr.mk {t dp : Nat} {Q : QS} (h : Wr t dp Q) (c : Nat) : mkQ c Q = Q := by unfold mkQ; rw [h.1]; rfl
theorem Wr.nu {t dp : Nat} {Q : QS} (h : Wr t dp Q) (E : PE) (lo hi : Nat) : nuQ E lo hi Q = Q := by
  unfold nuQ; rw [h.is]; exact h.tk E 31
theorem Rl.nu {dp : Nat} {E : PE} {Q : QS} {S : PS} (h : Rl dp Q S) (lo hi : Nat) : RR dp (pU E lo hi S) (some (E.2.1 (qt Q), nuQ E lo hi Q)) := by
  have hi' := h.is E 31
  have h2 : qt Q = S.1.1 := h.2.1
  unfold pU nuQ
  rw [hi', h2]
  by_cases q : kd E S = 31
  · rw [if_pos q, decide_eq_true q]
    cases hb : inB (E.2.1 S.1.1) lo hi with
    | true =>
      have e3 : tkQ E 31 Q = avQ Q := by unfold tkQ; rw [hi', decide_eq_true q]; rfl
      refine ⟨avQ Q, ?_, h.av⟩
      show some (_, tkQ E 31 Q) = _
      rw [e3]
    | false =>
      have hm := h.mk (c := 5) (by decide)
      have e3 : tkQ E 31 (mkQ 5 Q) = avQ (mkQ 5 Q) := by unfold tkQ; rw [hm.is E 31, decide_eq_true (show kd E ((S.1.1, mrk S.1.2 5 S.1.1), S.2) = 31 from q)]; rfl
      refine ⟨avQ (mkQ 5 Q), ?_, hm.av⟩
      show some (_, tkQ E 31 (mkQ 5 Q)) = _
      rw [e3]
  · rw [if_neg q, decide_eq_false q]
    have e3 : tkQ E 31 Q = wrQ Q := by unfold tkQ; rw [hi', decide_eq_false q]; rfl
    refine ⟨E.2.1 S.1.1, wrQ Q, ?_, h.wr⟩
    show some (_, tkQ E 31 Q) = _
    rw [e3]
theorem Rl.t2 {E : PE} {Q : QS} {S : PS} (h : Rl 0 Q S) (q : kd E S = 30) : Rl 0 (t2Q E Q) ((S.1.1, tiE E S (min 16 (qk Q))), S.2) := by
  have hi := h.is E 30
  have h2 : qt Q = S.1.1 := h.2.1
  have h1 : Rl 0 (t1Q E Q) ((S.1.1, if (E.2.2 S.1.1).isSome then mrk S.1.2 2 S.1.1 else S.1.2), S.2) := by
    unfold t1Q
    rw [hi, decide_eq_true q, h2]
    cases (E.2.2 S.1.1).isSome with
    | true => exact h.mk (by decide)
    | false => exact h
  unfold t2Q tiE
  rw [hi, decide_eq_true q]
  by_cases hk : min 16 (qk Q) = 16
  · rw [if_pos hk, decide_eq_true hk]
    exact h1.mk (by decide)
  · rw [if_neg hk, decide_eq_false hk]
    exact h1
theorem RG.ti {E : PE} {Q : QS} {S : PS} (h : Rl 0 Q S) : RG (gTi E S Q.2.2) (some (tiQ E Q)) := by
  have hi := h.is E 30
  have h2 : qt Q = S.1.1 := h.2.1
  have Ww : ∀ (t : Nat) (Q1 : QS), Wr t 0 Q1 → nmI E (t3Q E Q) 3 = Q1 → RG (gW t) (some (tiQ E Q)) := fun t Q1 w e => ⟨_, rfl, by
    obtain ⟨a1, a2, a3, a4, a5⟩ := w
    rw [← e] at a1 a2 a3 a4 a5
    exact ⟨a1, a2, a3, a4, a5⟩⟩
  unfold gTi
  by_cases q : kd E S = 30
  · rw [if_pos q]
    have r2 := h.t2 q
    have e3 : t3Q E Q = avQ (t2Q E Q) := by unfold t3Q tkQ; rw [isQ_t2, hi, decide_eq_true q]; rfl
    have r3 : Rl 0 (t3Q E Q) ((S.1.1 + 1, tiE E S (min 16 (qk Q))), S.2) := by rw [e3]; exact r2.av
    refine RR.g (r3.nu (E := E) 0 9) (fun a S1 Q1 _ e1 r1 => ?_) (fun a t Q1 _ e1 w1 => ?_)
    · obtain ⟨ea, eb⟩ := Prod.mk.inj (Option.some.inj e1)
      refine RR.g (r1.nu (E := E) 0 9) (fun b S2 Q2 _ e2 r2 => ?_) (fun b t Q2 _ e2 w2 => ?_)
      · obtain ⟨ec, ed⟩ := Prod.mk.inj (Option.some.inj e2)
        refine RR.g (r2.nu (E := E) 0 9) (fun c S3 Q3 _ e3 r3 => ?_) (fun c t Q3 _ e3 w3 => ?_)
        · obtain ⟨ee, ef⟩ := Prod.mk.inj (Option.some.inj e3)
          have n1 : nmI E (t3Q E Q) 1 = Q1 := eb
          have n2 : nmI E (t3Q E Q) 2 = Q2 := by show nuQ E 0 9 (nmI E (t3Q E Q) 1) = _; rw [n1]; exact ed
          have n3 : nmI E (t3Q E Q) 3 = Q3 := by show nuQ E 0 9 (nmI E (t3Q E Q) 2) = _; rw [n2]; exact ef
          refine ⟨_, rfl, ?_, ?_⟩
          · obtain ⟨a1, a2, a3, a4, a5⟩ := r3
            rw [← n3] at a1 a2 a3 a4 a5
            exact ⟨a1, a2, a3, a4, a5⟩
          · have en : nu3 E (t3Q E Q) = fun p => if p = 0 then a else if p = 1 then b else c := by
              funext p
              unfold nu3
              rw [n1, n2, ea, ec, ee]
            show ((Q.2.2.1.1, Q.2.2.1.2.1, min 16 (min 16 (qk Q) + 1)), va_up Q.2.2.2.1 (min 16 (qk Q)) (nu3 E (t3Q E Q)), va_up Q.2.2.2.2 (min 16 (qk Q)) (qt Q)) = _
            rw [en, h2]
        · obtain ⟨-, ef⟩ := Prod.mk.inj (Option.some.inj e3)
          refine Ww t Q3 w3 ?_
          show nuQ E 0 9 (nuQ E 0 9 (nuQ E 0 9 (t3Q E Q))) = _
          rw [eb, ed, ef]
      · obtain ⟨-, ed⟩ := Prod.mk.inj (Option.some.inj e2)
        refine Ww t Q2 w2 ?_
        show nuQ E 0 9 (nuQ E 0 9 (nuQ E 0 9 (t3Q E Q))) = _
        rw [eb, ed, w2.nu]
    · obtain ⟨-, eb⟩ := Prod.mk.inj (Option.some.inj e1)
      refine Ww t Q1 w1 ?_
      show nuQ E 0 9 (nuQ E 0 9 (nuQ E 0 9 (t3Q E Q))) = _
      rw [eb, w1.nu, w1.nu]
  · rw [if_neg q]
    have e2 : t2Q E Q = Q := by
      unfold t2Q t1Q
      rw [hi, decide_eq_false q]; rfl
    have e3 : t3Q E Q = wrQ Q := by unfold t3Q tkQ; rw [isQ_t2, hi, decide_eq_false q, e2]; rfl
    refine Ww _ (wrQ Q) h.wr ?_
    show nuQ E 0 9 (nuQ E 0 9 (nuQ E 0 9 (t3Q E Q))) = _
    rw [e3, h.wr.nu, h.wr.nu, h.wr.nu]
theorem RG.ot {E : PE} {n : Nat} (hK : KOk E.1 n) {f k dz tl fr : Nat} {s : Nat → Nat} {Q : QS} {S : PS} {G : GX} (hQ : qt Q ≤ n) (h : Rl 0 Q S) (hG : Q.2.2 = G) : RG (gOt E f k dz tl fr s S G) (otQ E (f + 8) k dz tl fr s Q) := by
  have hi := h.is E 8
  have key : ∀ (te : Option Nat) (Q1 : QS) (S1 : PS), Rl 0 Q1 S1 → Rl 0 (oeQ k dz tl fr s te Q1) (oeT k dz tl fr s te S1) := by
    intro te Q1 S1 r
    obtain ⟨a1, a2, a3, a4, a5⟩ := r
    refine ⟨a1, a2, a3, ?_, a5⟩
    have a6 : qn Q1 = S1.2.1.2 := by show Q1.2.1.1.2 = _; rw [a4]
    unfold oeQ oeT
    simp only [a4, a6]
  unfold gOt otQ
  rw [hi]
  by_cases q : kd E S = 8
  · rw [if_pos q, decide_eq_true q]
    simp only
    refine RR.g (mm_pp f 0 8 0 _ _ h.av) (fun i S1 Q1 _ e1 r1 => ?_) (fun i t Q1 _ e1 w1 => ?_)
    · rw [e1]
      have hlt := isQ_lt hK (Q := Q) hQ (k := 8) (by decide) (by rw [hi, decide_eq_true q])
      exact ⟨_, rfl, key _ _ _ r1, ((mm_k hK _ _ _ (avQ Q) hlt _ _ e1).2.2.2.2.1).trans hG⟩
    · rw [e1]
      exact ⟨_, rfl, w1⟩
  · rw [if_neg q, decide_eq_false q]
    exact ⟨_, rfl, key _ _ _ h, hG⟩
theorem Wr.ot {t dp : Nat} {Q : QS} (h : Wr t dp Q) (E : PE) (f k dz tl fr : Nat) (s : Nat → Nat) : ∃ Q', otQ E f k dz tl fr s Q = some Q' ∧ Wr t dp Q' := by
  unfold otQ; rw [h.is]; exact ⟨_, rfl, h⟩
theorem Wr.or {t : Nat} {E : PE} {f : Nat} {dz : Nat} {Q : QS} (hw : Wr t 0 (nmQ E (o1Q Q)).2) : ∃ Q', orQ E (f + 8) dz Q = some Q' ∧ Wr t 0 Q' := by
  unfold orQ
  cases dz with
  | zero =>
    simp only
    rw [hw.tk, mm_3w hw]
    simp only
    rw [hw.tk, mm_3w hw]
    simp only
    rw [hw.tk, mm_3w hw]
    simp only
    exact hw.ot _ _ _ _ _ _ _
  | succ d => exact hw.ot _ _ _ _ _ _ _
theorem Rl.o1 {Q : QS} {S : PS} (h : Rl 0 Q S) : Rl 0 (o1Q Q) (gO1 S) := by
  have h4 : qo Q = S.2.1.1 := by show Q.2.1.1.1 = _; rw [h.2.2.2.1]
  unfold o1Q gO1
  rw [h4]
  by_cases q : min 16 S.2.1.1 = 16
  · rw [decide_eq_true q, if_pos q]
    exact (h.mk (c := 4) (by decide)).av
  · rw [decide_eq_false q, if_neg q]
    exact h.av
theorem RG.or {E : PE} {n : Nat} (hK : KOk E.1 n) {f dz : Nat} {Q : QS} {S : PS} (hQ : qt Q < n) (h : Rl 0 Q S) : RG (gOr E f dz S Q.2.2) (orQ E (f + 8) dz Q) := by
  have h4 : qo Q = S.2.1.1 := by show Q.2.1.1.1 = _; rw [h.2.2.2.1]
  have h5 : qn Q = S.2.1.2 := by show Q.2.1.1.2 = _; rw [h.2.2.2.1]
  have k1 := qK.o1 hQ
  have k2 := k1.tr (qK.nm hK k1.2.1)
  have hn := h.o1
  have hrr : RR 0 (pN E (gO1 S)) (some (nmQ E (o1Q Q))) := by
    have := RR.N (E := E) (dp1 := 0) (f := fun i S => pO i S) (g := fun i Q => some (i, Q)) hn (fun i S' Q' r => RR.O r) (fun i t Q' w => ⟨_, _, rfl, w⟩)
    have e : pB (pN E (gO1 S)) (fun i S => pO i S) = pN E (gO1 S) := by
      cases hp : pN E (gO1 S) with
      | none => rfl
      | some v =>
        cases v with
        | inl t => rfl
        | inr p => obtain ⟨i, S'⟩ := p; rfl
    rw [e] at this
    exact this
  unfold gOr
  refine RR.g hrr (fun tl S2 Q2 _ e1 r1 => ?_) (fun i t Q2 _ e1 w1 => ?_)
  · have e1 := Option.some.inj e1
    have e2 : (nmQ E (o1Q Q)).2 = Q2 := by rw [e1]
    have e3 : (nmQ E (o1Q Q)).1 = tl := by rw [e1]
    rw [e2] at k2
    unfold orQ
    rw [h4, h5, e2, e3]
    cases dz with
    | zero =>
      simp only
      have wt : ∀ (t : Nat) (Q9 : QS), Wr t 0 Q9 → ∀ (s : Nat → Nat), RG (gW t) (otQ E (f + 8) (min 16 S.2.1.1) 0 tl S.2.1.2 s Q9) := fun t Q9 w s => by
        obtain ⟨Q', e, w'⟩ := w.ot E (f + 8) (min 16 S.2.1.1) 0 tl S.2.1.2 s
        exact ⟨Q', e, w'⟩
      refine RG.T r1 (fun q e => ?_) (fun e w => ?_)
      · rw [e]
        have k3 : qK n Q (avQ Q2) := by
          have := k2.tr (qK.tk hK (k := 4) (by decide) k2.2.1)
          rwa [e] at this
        refine RR.g (mm_pp f 0 3 0 _ _ r1.av) (fun i0 S4 Q4 _ e4 r4 => ?_) (fun i t Q4 _ e4 w4 => ?_)
        · rw [e4]
          simp only
          have k4 := k3.tr (mm_k hK _ _ _ _ k3.2.1 _ _ e4)
          refine RG.T r4 (fun q e => ?_) (fun e w => ?_)
          · rw [e]
            have k5 : qK n Q (avQ Q4) := by
              have := k4.tr (qK.tk hK (k := 54) (by decide) k4.2.1)
              rwa [e] at this
            refine RR.g (mm_pp f 0 3 0 _ _ r4.av) (fun i1 S6 Q6 _ e6 r6 => ?_) (fun i t Q6 _ e6 w6 => ?_)
            · rw [e6]
              simp only
              have k6 := k5.tr (mm_k hK _ _ _ _ k5.2.1 _ _ e6)
              refine RG.T r6 (fun q e => ?_) (fun e w => ?_)
              · rw [e]
                have k7 : qK n Q (avQ Q6) := by
                  have := k6.tr (qK.tk hK (k := 5) (by decide) k6.2.1)
                  rwa [e] at this
                refine RR.g (mm_pp f 0 3 0 _ _ r6.av) (fun i2 S8 Q8 _ e8 r8 => ?_) (fun i t Q8 _ e8 w8 => ?_)
                · rw [e8]
                  have k8 := k7.tr (mm_k hK _ _ _ _ k7.2.1 _ _ e8)
                  exact RG.ot hK k8.2.1 r8 k8.2.2.2.2.1
                · rw [e8]; exact wt t Q8 w8 _
              · rw [e, mm_3w w]; exact wt _ _ w _
            · rw [e6]
              simp only
              rw [w6.tk, mm_3w w6]
              exact wt _ _ w6 _
          · rw [e, mm_3w w]
            simp only
            rw [w.tk, mm_3w w]
            exact wt _ _ w _
        · rw [e4]
          simp only
          rw [w4.tk, mm_3w w4]
          simp only
          rw [w4.tk, mm_3w w4]
          exact wt _ _ w4 _
      · rw [e, mm_3w w]
        simp only
        rw [w.tk, mm_3w w]
        simp only
        rw [w.tk, mm_3w w]
        exact wt _ _ w _
    | succ d => exact RG.ot hK k2.2.1 r1 k2.2.2.2.2.1
  · have e1 := Option.some.inj e1
    have e2 : (nmQ E (o1Q Q)).2 = Q2 := by rw [e1]
    obtain ⟨Q', e, w'⟩ := Wr.or (E := E) (f := f) (dz := dz) (Q := Q) (t := t) (by rw [e2]; exact w1)
    exact ⟨Q', e, w'⟩
theorem RG.li {E : PE} {n : Nat} (hK : KOk E.1 n) {f : Nat} {Q : QS} {S : PS} (hQ : qt Q ≤ n) (h : Rl 0 Q S) : RG (gLi E f S Q.2.2) (liQ E (f + 8) Q) := by
  have hq : ∀ k, isQ E Q k = decide (kd E S = k) := h.is E
  have hlt : ∀ k, k ≠ 32 ∧ k ≠ 33 → kd E S = k → qt Q < n := fun k hk q => isQ_lt hK hQ hk (by rw [hq, decide_eq_true q])
  unfold gLi liQ
  rw [hq, hq, hq, hq]
  by_cases c2 : kd E S = 2
  · rw [if_pos c2, decide_eq_true c2]; exact RG.ti h.av
  rw [if_neg c2, decide_eq_false c2]
  by_cases c3 : kd E S = 3
  · rw [if_pos c3, decide_eq_true c3]; exact RG.or hK (hlt 3 (by decide) c3) h
  rw [if_neg c3, decide_eq_false c3]
  by_cases c6 : kd E S = 6
  · rw [if_pos c6, decide_eq_true c6]; exact RG.or hK (hlt 6 (by decide) c6) h
  rw [if_neg c6, decide_eq_false c6]
  by_cases c7 : kd E S = 7
  · rw [if_pos c7, decide_eq_true c7]; exact RG.or hK (hlt 7 (by decide) c7) h
  rw [if_neg c7, decide_eq_false c7]
  exact ⟨_, rfl, h.wr⟩
theorem ls_w {t : TP} {u dp f g : Nat} {Q : QS} (h : Wr u dp Q) : lsQ t f (g + 1) Q = some Q := by
  show (match qw Q || _ with | true => some Q | false => _) = _
  rw [h.1]; rfl
theorem RG.ls {t : TP} {f : Nat} : ∀ g (Q : QS) (S : PS), qt Q ≤ tl t → Rl 0 Q S → RG (gLs t f g S Q.2.2) (lsQ t (f + 8) (g + 1) Q)
  | 0, _, _, _, _ => trivial
  | g + 1, Q, S, hQ, h => by
    show RG (if tK t S.1.1 = 33 then _ else _) (match qw Q || decide (tK t (qt Q) = 33) with | true => some Q | false => _)
    rw [h.1, h.2.1]
    by_cases c : tK t S.1.1 = 33
    · rw [if_pos c, decide_eq_true c]; exact ⟨Q, rfl, h, rfl⟩
    rw [if_neg c, decide_eq_false c]
    have r := RG.li (E := envQ t Q.2.2) (tK_ok t) (f := f) hQ h
    show RG _ (match liQ (envQ t Q.2.2) (f + 8) Q with | none => none | some Q1 => lsQ t (f + 8) (g + 1) (tkQ (envQ t Q1.2.2) 53 Q1))
    cases hx : gLi (envQ t Q.2.2) f S Q.2.2 with
    | none => trivial
    | some v =>
      rw [hx] at r
      cases v with
      | inl u =>
        obtain ⟨Q1, e, w⟩ := r
        rw [e]
        simp only
        rw [w.tk, ls_w w]
        exact ⟨Q1, rfl, w⟩
      | inr p =>
        obtain ⟨S1, G1⟩ := p
        obtain ⟨Q1, e, r1, e1⟩ := r
        have k1 := li_l (tK_ok t) hQ e
        rw [e]
        have e1 : Q1.2.2 = G1 := e1
        subst e1
        simp only
        refine RG.T r1 (fun q e2 => ?_) (fun e2 w => ?_)
        · rw [e2]
          have k2 := qK.tk (E := envQ t Q1.2.2) (tK_ok t) (k := 53) (by decide) k1.2.1
          rw [e2] at k2
          exact RG.ls g (avQ Q1) (adv S1) k2.2.1 r1.av
        · rw [e2, ls_w w]
          exact ⟨_, rfl, w⟩
theorem RG.ga {t : TP} {f g : Nat} {Q : QS} {S : PS} (hQ : qt Q ≤ tl t) (h : Rl 0 Q S) : RG (gGa t f g S Q.2.2) (gaQ t (f + 8) (g + 1) Q) := by
  have hK : KOk (envQ t Q.2.2).1 (tl t) := tK_ok t
  have hi := h.is (envQ t Q.2.2) 0
  have hww : ∀ (u : Nat), Wr u 0 (bdQ (envQ t Q.2.2) Q) → RG (gW u) (gaQ t (f + 8) (g + 1) Q) := fun u w => by
    unfold gaQ; rw [ls_w w]; exact ⟨_, rfl, w⟩
  have h2 : qt Q = S.1.1 := h.2.1
  unfold gGa gBd
  by_cases c : kd (envQ t Q.2.2) S = 0
  · have hlt := isQ_lt hK hQ (k := 0) (by decide) (by rw [hi, decide_eq_true c])
    have eb : bdQ (envQ t Q.2.2) Q = tkQ (envQ t Q.2.2) 53 (srQ ((envQ t Q.2.2).2.1 (qt (b1Q (envQ t Q.2.2) Q))) (nuQ (envQ t Q.2.2) 3 7 (b1Q (envQ t Q.2.2) Q))) := by unfold bdQ; rw [hi, decide_eq_true c]
    have ra := h.av.nu (E := envQ t Q.2.2) 3 7
    have e1 : (envQ t Q.2.2).2.1 (qt (avQ Q)) = (envQ t Q.2.2).2.1 (S.1.1 + 1) := by show _ = _; rw [show qt (avQ Q) = S.1.1 + 1 from by show qt Q + 1 = _; rw [h2]]
    have wsc : ∀ {u c : Nat} {Q1 : QS}, Wr u 0 Q1 → Wr u 0 (scQ c Q1) := fun w => w
    have wsr : ∀ {u c : Nat} {Q1 : QS}, Wr u 0 Q1 → Wr u 0 (srQ c Q1) := fun w => w
    have rsc : ∀ {c : Nat} {Q1 : QS} {S1 : PS}, Rl 0 Q1 S1 → Rl 0 (scQ c Q1) S1 := fun w => w
    have rsr : ∀ {c : Nat} {Q1 : QS} {S1 : PS}, Rl 0 Q1 S1 → Rl 0 (srQ c Q1) S1 := fun w => w
    rw [if_pos c]
    cases hx : pU (envQ t Q.2.2) 3 7 (adv S) with
    | none => trivial
    | some v =>
      rw [hx] at ra
      cases v with
      | inl u =>
        obtain ⟨i, Q1, e, w⟩ := ra
        obtain ⟨-, ef⟩ := Prod.mk.inj (Option.some.inj e)
        refine hww u ?_
        rw [eb]
        unfold b1Q
        rw [ef, (wsc w).tk, (wsc w).nu, (wsr (wsc w)).tk]
        exact w
      | inr p =>
        obtain ⟨a, S1⟩ := p
        obtain ⟨Q1, e, r1⟩ := ra
        obtain ⟨ea, ef⟩ := Prod.mk.inj (Option.some.inj e)
        have hb1 : b1Q (envQ t Q.2.2) Q = tkQ (envQ t Q.2.2) 1 (scQ a Q1) := by unfold b1Q; rw [ea, ef]
        have k1 : qK (tl t) Q Q1 := by
          have := (qK.av hlt).tr (qK.nu (lo := 3) (hi := 7) hK (qK.av hlt).2.1)
          rwa [ef] at this
        show RG (gL (if kd (envQ t Q.2.2) S1 = 1 then gB (pU (envQ t Q.2.2) 3 7 (adv S1)) (fun b S3 => gT (envQ t Q.2.2) 53 S3 (fun S4 => gO (S4, ((a, b, Q.2.2.1.2.2), Q.2.2.2)))) else gW S1.1.1) (fun S1 G1 => gLs t f g S1 G1)) _
        have hi1 := (rsc (c := a) r1).is (envQ t Q.2.2) 1
        by_cases c1 : kd (envQ t Q.2.2) S1 = 1
        · rw [if_pos c1]
          have et : tkQ (envQ t Q.2.2) 1 (scQ a Q1) = avQ (scQ a Q1) := by unfold tkQ; rw [hi1, decide_eq_true c1]; rfl
          rw [et] at hb1
          have r2 : Rl 0 (b1Q (envQ t Q.2.2) Q) (adv S1) := by rw [hb1]; exact (rsc r1).av
          have rb := r2.nu (E := envQ t Q.2.2) 3 7
          cases hy : pU (envQ t Q.2.2) 3 7 (adv S1) with
          | none => trivial
          | some v =>
            rw [hy] at rb
            cases v with
            | inl u =>
              obtain ⟨i, Q3, e, w⟩ := rb
              obtain ⟨-, eg⟩ := Prod.mk.inj (Option.some.inj e)
              refine hww u ?_
              rw [eb, eg, (wsr w).tk]
              exact w
            | inr p =>
              obtain ⟨b, S3⟩ := p
              obtain ⟨Q3, e, r3⟩ := rb
              obtain ⟨ee, eg⟩ := Prod.mk.inj (Option.some.inj e)
              rw [ee, eg] at eb
              have hi3 := (rsr (c := b) r3).is (envQ t Q.2.2) 53
              show RG (gL (if kd (envQ t Q.2.2) S3 = 53 then gO (adv S3, ((a, b, Q.2.2.1.2.2), Q.2.2.2)) else gW S3.1.1) (fun S1 G1 => gLs t f g S1 G1)) _
              by_cases c3 : kd (envQ t Q.2.2) S3 = 53
              · rw [if_pos c3]
                have et : tkQ (envQ t Q.2.2) 53 (srQ b Q3) = avQ (srQ b Q3) := by unfold tkQ; rw [hi3, decide_eq_true c3]; rfl
                rw [et] at eb
                have k3 : qK (tl t) Q (nuQ (envQ t Q.2.2) 3 7 (tkQ (envQ t Q.2.2) 1 Q1)) := by
                  have k2 := k1.tr (qK.tk hK (k := 1) (by decide) k1.2.1)
                  exact k2.tr (qK.nu hK k2.2.1)
                have hG : (avQ (srQ b Q3)).2.2 = ((a, b, Q.2.2.1.2.2), Q.2.2.2) := by
                  have e3 : Q3.2.2 = ((a, Q.2.2.1.2.1, Q.2.2.1.2.2), Q.2.2.2) := by
                    rw [← eg, hb1]
                    have k4 := qK.nu (E := envQ t Q.2.2) (lo := 3) (hi := 7) hK (Q := avQ (scQ a Q1)) (by
                      have := isQ_lt hK (Q := scQ a Q1) (k := 1) k1.2.1 (by decide) (by rw [hi1, decide_eq_true c1])
                      exact this)
                    rw [k4.2.2.2.2.1]
                    show ((a, Q1.2.2.1.2.1, Q1.2.2.1.2.2), Q1.2.2.2) = _
                    rw [k1.2.2.2.2.1]
                  show ((Q3.2.2.1.1, b, Q3.2.2.1.2.2), Q3.2.2.2) = _
                  rw [e3]
                have hl3 : qt (avQ (srQ b Q3)) ≤ tl t := by
                  have q1 : qt Q3 ≤ tl t := by
                    rw [← eg, hb1]
                    exact (qK.nu (E := envQ t Q.2.2) (lo := 3) (hi := 7) hK (Q := avQ (scQ a Q1)) (isQ_lt hK (Q := scQ a Q1) (k := 1) k1.2.1 (by decide) (by rw [hi1, decide_eq_true c1]))).2.1
                  exact isQ_lt hK (Q := srQ b Q3) (k := 53) q1 (by decide) (by rw [hi3, decide_eq_true c3])
                show RG (gLs t f g (adv S3) ((a, b, Q.2.2.1.2.2), Q.2.2.2)) _
                unfold gaQ
                rw [eb, ← hG]
                exact RG.ls g _ _ hl3 (rsr r3).av
              · rw [if_neg c3]
                have et : tkQ (envQ t Q.2.2) 53 (srQ b Q3) = wrQ (srQ b Q3) := by unfold tkQ; rw [hi3, decide_eq_false c3]; rfl
                exact hww _ (by rw [eb, et]; exact (rsr (c := b) r3).wr)
        · rw [if_neg c1]
          have et : tkQ (envQ t Q.2.2) 1 (scQ a Q1) = wrQ (scQ a Q1) := by unfold tkQ; rw [hi1, decide_eq_false c1]; rfl
          rw [et] at hb1
          have w := (rsc (c := a) r1).wr
          refine hww _ ?_
          rw [eb, hb1, w.nu, (wsr w).tk]
          exact w
  · rw [if_neg c]
    have eb : bdQ (envQ t Q.2.2) Q = Q := by unfold bdQ; rw [hi, decide_eq_false c]
    unfold gaQ
    rw [eb]
    exact RG.ls g Q S hQ h
end PB23
