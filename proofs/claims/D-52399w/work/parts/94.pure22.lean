/-! ===== the model's way is the plain grammar's ===== -/
section PB22
set_option maxRecDepth 100000
def eRl (Q : QS) (e : Option (Nat × Nat)) : Prop := match e with
  | none => qe Q = 0
  | some x => qe Q = x.1 ∧ qf Q = x.2 ∧ x.1 ≠ 0
/-- nothing is wrong: the same state -/
def Rl (dp : Nat) (Q : QS) (S : PS) : Prop := qw Q = false ∧ qt Q = S.1.1 ∧ qd Q = dp ∧ Q.2.1 = S.2 ∧ eRl Q S.1.2
/-- it is wrong, at t -/
def Wr (t dp : Nat) (Q : QS) : Prop := qw Q = true ∧ qe Q = 1 ∧ qf Q = t ∧ qt Q = t ∧ qd Q = dp
def RR (dp : Nat) (x : PR) (y : QR) : Prop := match x with
  | none => True
  | some (.inl t) => ∃ i Q', y = some (i, Q') ∧ Wr t dp Q'
  | some (.inr (i, S')) => ∃ Q', y = some (i, Q') ∧ Rl dp Q' S'
theorem Rl.is {dp : Nat} {Q : QS} {S : PS} (h : Rl dp Q S) (E : PE) (k : Nat) : isQ E Q k = decide (kd E S = k) := by
  obtain ⟨h1, h2, -⟩ := h
  unfold isQ
  rw [h1, h2]; rfl
theorem Wr.is {t dp : Nat} {Q : QS} (h : Wr t dp Q) (E : PE) (k : Nat) : isQ E Q k = false := by
  unfold isQ; rw [h.1]; rfl
theorem Wr.wr {t dp : Nat} {Q : QS} (h : Wr t dp Q) : wrQ Q = Q := by unfold wrQ; rw [h.1]; rfl
theorem Wr.tk {t dp : Nat} {Q : QS} (h : Wr t dp Q) (E : PE) (k : Nat) : tkQ E k Q = Q := by
  unfold tkQ; rw [h.is E k]; exact h.wr
theorem Wr.nm {t dp : Nat} {Q : QS} (h : Wr t dp Q) (E : PE) : nmQ E Q = (0, Q) := by
  unfold nmQ; rw [h.is E 30]; simp only [h.tk E 30]
theorem Wr.nd {t dp : Nat} {Q : QS} (h : Wr t dp Q) (s l r : Nat) : Wr t dp (ndQ s l r Q).2 := h
theorem Wr.up {t dp : Nat} {Q : QS} (h : Wr t (dp + 1) Q) : Wr t dp (upQ Q) := by
  obtain ⟨h1, h2, h3, h4, h5⟩ := h
  exact ⟨h1, h2, h3, h4, by show qd Q - 1 = dp; omega⟩
theorem Rl.av {dp : Nat} {Q : QS} {S : PS} (h : Rl dp Q S) : Rl dp (avQ Q) (adv S) := by
  obtain ⟨h1, h2, h3, h4, h5⟩ := h
  refine ⟨h1, ?_, h3, h4, h5⟩
  show qt Q + 1 = S.1.1 + 1
  rw [h2]
theorem Rl.wr {dp : Nat} {Q : QS} {S : PS} (h : Rl dp Q S) : Wr S.1.1 dp (wrQ Q) := by
  obtain ⟨h1, h2, h3, h4, h5⟩ := h
  have e : wrQ Q = ((qt Q, true, 1, qt Q, qd Q), Q.2) := by unfold wrQ; rw [h1]; rfl
  rw [e]
  exact ⟨rfl, rfl, h2, h2, h3⟩
theorem Rl.dp {dp : Nat} {Q : QS} {S : PS} (h : Rl dp Q S) (hd : dp ≠ 8) : Rl (dp + 1) (dpQ Q) (adv S) := by
  have ha := h.av
  obtain ⟨h1, h2, h3, h4, h5⟩ := h
  have e : dpQ Q = dnQ (avQ Q) := by unfold dpQ; rw [if_neg (by rw [h3]; exact hd)]
  rw [e]
  obtain ⟨a1, a2, a3, a4, a5⟩ := ha
  exact ⟨a1, a2, by show qd (avQ Q) + 1 = dp + 1; rw [a3], a4, a5⟩
theorem Rl.dp8 {Q : QS} {S : PS} (h : Rl 8 Q S) : Wr S.1.1 9 (dpQ Q) := by
  have hw := h.wr
  have e : dpQ Q = dnQ (wrQ Q) := by unfold dpQ; rw [if_pos h.2.2.1]
  rw [e]
  obtain ⟨a1, a2, a3, a4, a5⟩ := hw
  exact ⟨a1, a2, a3, a4, by show qd (wrQ Q) + 1 = 9; rw [a5]⟩
theorem Rl.up {dp : Nat} {Q : QS} {S : PS} (h : Rl (dp + 1) Q S) : Rl dp (upQ Q) S := by
  obtain ⟨h1, h2, h3, h4, h5⟩ := h
  exact ⟨h1, h2, by show qd Q - 1 = dp; omega, h4, h5⟩
theorem Rl.nd {dp : Nat} {Q : QS} {S : PS} (h : Rl dp Q S) (s l r : Nat) : (ndQ s l r Q).1 = S.2.1.2 ∧ Rl dp (ndQ s l r Q).2 (S.1, ndA S.2 s l r) := by
  obtain ⟨h1, h2, h3, h4, h5⟩ := h
  refine ⟨by show Q.2.1.1.2 = _; rw [h4], h1, h2, h3, ?_, h5⟩
  show ndA Q.2.1 s l r = ndA S.2 s l r
  rw [h4]
theorem RR.A {dp : Nat} {Q : QS} {S : PS} (h : Rl dp Q S) (s l r : Nat) : RR dp (pA s l r S) (some (ndQ s l r Q)) := by
  obtain ⟨e, h'⟩ := h.nd s l r
  exact ⟨(ndQ s l r Q).2, by rw [← e], h'⟩
theorem RR.W {dp t : Nat} {i : Nat} {Q : QS} (h : Wr t dp Q) : RR dp (pW t) (some (i, Q)) := ⟨i, Q, rfl, h⟩
theorem RR.O {dp : Nat} {i : Nat} {Q : QS} {S : PS} (h : Rl dp Q S) : RR dp (pO i S) (some (i, Q)) := ⟨Q, rfl, h⟩
theorem RR.B {dp dp1 : Nat} {x : PR} {y : QR} {f : Nat → PS → PR} {g : Nat → QS → QR} (h : RR dp1 x y) (hk : ∀ i S Q, x = pO i S → Rl dp1 Q S → RR dp (f i S) (g i Q)) (hw : ∀ i t Q, Wr t dp1 Q → ∃ j Q2, g i Q = some (j, Q2) ∧ Wr t dp Q2) : RR dp (pB x f) (mB y g) := by
  cases x with
  | none => trivial
  | some v =>
    cases v with
    | inl t =>
      obtain ⟨i, Q, e, q⟩ := h
      rw [e]
      exact hw i t Q q
    | inr p =>
      obtain ⟨i, S⟩ := p
      obtain ⟨Q, e, q⟩ := h
      rw [e]
      exact hk i S Q rfl q
/-- a token of a kind -/
theorem RR.T {dp : Nat} {E : PE} {k : Nat} {Q : QS} {S : PS} (h : Rl dp Q S) {f : PS → PR} {y : QR} {dp1 : Nat} (ht : kd E S = k → tkQ E k Q = avQ Q → RR dp1 (f (adv S)) y) (hf : tkQ E k Q = wrQ Q → Wr S.1.1 dp (wrQ Q) → RR dp1 (pW S.1.1) y) : RR dp1 (pT E k S f) y := by
  have hi := h.is E k
  unfold pT
  split
  · rename_i q
    exact ht q (by unfold tkQ; rw [hi, decide_eq_true q]; rfl)
  · rename_i q
    exact hf (by unfold tkQ; rw [hi, decide_eq_false q]; rfl) h.wr
/-- a name -/
theorem RR.N {dp dp1 : Nat} {E : PE} {Q : QS} {S : PS} (h : Rl dp Q S) {f : Nat → PS → PR} {g : Nat → QS → QR} (hk : ∀ i S' Q', Rl dp Q' S' → RR dp1 (f i S') (g i Q')) (hw : ∀ i t Q', Wr t dp Q' → ∃ j Q2, g i Q' = some (j, Q2) ∧ Wr t dp1 Q2) : RR dp1 (pB (pN E S) f) (g (nmQ E Q).1 (nmQ E Q).2) := by
  have hi := h.is E 30
  unfold pN nmQ
  rw [hi]
  by_cases q : kd E S = 30
  · rw [if_pos q, decide_eq_true q]
    have h2 : qt Q = S.1.1 := h.2.1
    have mk3 : Rl dp (mkQ 3 Q) ((S.1.1, mrk S.1.2 3 S.1.1), S.2) := by
      obtain ⟨h1, h2, h3, h4, h5⟩ := h
      cases he : S.1.2 with
      | none =>
        rw [he] at h5
        have e : mkQ 3 Q = ((qt Q, qw Q, 3, qt Q, qd Q), Q.2) := by unfold mkQ; rw [h1, show qe Q = 0 from h5]; rfl
        rw [e]
        exact ⟨h1, h2, h3, h4, ⟨rfl, h2, (by decide : (3 : Nat) ≠ 0)⟩⟩
      | some x =>
        rw [he] at h5
        have e : mkQ 3 Q = Q := by unfold mkQ; rw [decide_eq_false (by have h6 := h5.1; have h7 := h5.2.2; omega)]; simp
        rw [e]
        exact ⟨h1, h2, h3, h4, h5⟩
    have e2 : E.2.2 (qt Q) = E.2.2 S.1.1 := by rw [h2]
    simp only [e2]
    cases hl : E.2.2 S.1.1 with
    | none =>
      simp only
      have e3 : tkQ E 30 (mkQ 3 Q) = avQ (mkQ 3 Q) := by unfold tkQ; rw [mk3.is E 30, decide_eq_true (show kd E ((S.1.1, mrk S.1.2 3 S.1.1), S.2) = 30 from q)]; rfl
      rw [e3]
      exact hk _ _ _ mk3.av
    | some x =>
      simp only
      have e3 : tkQ E 30 Q = avQ Q := by unfold tkQ; rw [hi, decide_eq_true q]; rfl
      rw [e3]
      exact hk _ _ _ h.av
  · rw [if_neg q, decide_eq_false q]
    have e3 : tkQ E 30 Q = wrQ Q := by unfold tkQ; rw [hi, decide_eq_false q]; rfl
    simp only [e3]
    obtain ⟨j, Q2, e, hq⟩ := hw 0 _ _ h.wr
    exact ⟨j, Q2, e, hq⟩
/-- what is wrong stays as it is -/
theorem mm_0w {E : PE} {t dp : Nat} {Q : QS} (h : Wr t dp Q) (f lf : Nat) : mm E (f + 1) 0 lf Q = some (0, Q) := by
  show mm0 E (mm E f) lf Q = _
  unfold mm0
  rw [h.is, h.is, h.is, h.is, h.is, h.is, h.1, h.wr]
  rfl
theorem mm_2w {E : PE} {t dp : Nat} {Q : QS} (h : Wr t dp Q) (f lf : Nat) : mm E (f + 1) 2 lf Q = some (lf, Q) := by
  show mm2 E (mm E f) lf Q = _
  unfold mm2; rw [h.is, h.is]; rfl
theorem mm_4w {E : PE} {t dp : Nat} {Q : QS} (h : Wr t dp Q) (f lf : Nat) : mm E (f + 1) 4 lf Q = some (lf, Q) := by
  show mm4 E (mm E f) lf Q = _
  unfold mm4; rw [h.is, h.is]; rfl
theorem mm_7w {E : PE} {t dp : Nat} {Q : QS} (h : Wr t dp Q) (f lf : Nat) : mm E (f + 1) 7 lf Q = some (lf, Q) := by
  show mm7 E (mm E f) lf Q = _
  unfold mm7; rw [h.is]
theorem mm_9w {E : PE} {t dp : Nat} {Q : QS} (h : Wr t dp Q) (f lf : Nat) : mm E (f + 1) 9 lf Q = some (lf, Q) := by
  show mm9 E (mm E f) lf Q = _
  unfold mm9; rw [h.is]
theorem mm_1w {E : PE} {t dp : Nat} {Q : QS} (h : Wr t dp Q) (f lf : Nat) : mm E (f + 2) 1 lf Q = some (0, Q) := by
  show mB (mm E (f + 1) 0 0 Q) (fun i Q1 => mm E (f + 1) 2 i Q1) = _
  rw [mm_0w h]; exact mm_2w h f 0
theorem mm_3w {E : PE} {t dp : Nat} {Q : QS} (h : Wr t dp Q) (f lf : Nat) : mm E (f + 3) 3 lf Q = some (0, Q) := by
  show mB (mm E (f + 2) 1 0 Q) (fun i Q1 => mm E (f + 2) 4 i Q1) = _
  rw [mm_1w h]; exact mm_4w h (f + 1) 0
theorem mm_5w {E : PE} {t dp : Nat} {Q : QS} (h : Wr t dp Q) (f lf : Nat) : mm E (f + 4) 5 lf Q = some (0, Q) := by
  show mm5 E (mm E (f + 3)) lf Q = _
  unfold mm5
  rw [h.is, h.is, h.is, h.is, mm_3w h]
  show (match qw Q || _ with | true => some (0, wrQ Q) | false => _) = _
  rw [h.1, h.wr]; rfl
theorem mm_6w {E : PE} {t dp : Nat} {Q : QS} (h : Wr t dp Q) (f lf : Nat) : mm E (f + 5) 6 lf Q = some (0, Q) := by
  show mB (mm E (f + 4) 5 0 Q) (fun i Q1 => mm E (f + 4) 7 i Q1) = _
  rw [mm_5w h]; exact mm_7w h (f + 3) 0
theorem mm_8w {E : PE} {t dp : Nat} {Q : QS} (h : Wr t dp Q) (f lf : Nat) : mm E (f + 6) 8 lf Q = some (0, Q) := by
  show mB (mm E (f + 5) 6 0 Q) (fun i Q1 => mm E (f + 5) 9 i Q1) = _
  rw [mm_6w h]; exact mm_9w h (f + 4) 0
theorem mm_pp {E : PE} : ∀ f dp nt lf S Q, Rl dp Q S → RR dp (pp E f dp nt lf S) (mm E (f + 8) nt lf Q)
  | 0, _, _, _, _, _, _ => trivial
  | f + 1, dp, nt, lf, S, Q, h => by
    have ih := mm_pp (E := E) f
    have hq : ∀ k, isQ E Q k = decide (kd E S = k) := h.is E
    have h2 : qt Q = S.1.1 := h.2.1
    have hkq : kQ E Q = kd E S := by show E.1 (qt Q) = _; rw [h2]
    have tail : ∀ (k c g : Nat), (∀ (t d : Nat) (Q : QS), Wr t d Q → mm E (f + 8) c 0 Q = some (0, Q)) → (∀ (t d : Nat) (Q : QS) (l : Nat), Wr t d Q → mm E (f + 8) g l Q = some (l, Q)) → RR dp (pB (pp E f dp c 0 (adv S)) (fun v S1 => pB (pA k lf v S1) (fun i S2 => pp E f dp g i S2))) (mB (mm E (f + 8) c 0 (avQ Q)) (fun v Q1 => mm E (f + 8) g (ndQ k lf v Q1).1 (ndQ k lf v Q1).2)) := by
      intro k c g _ hg
      refine RR.B (ih dp c 0 _ _ h.av) (fun v S1 Q1 _ r1 => ?_) (fun v t Q1 w1 => ⟨_, _, hg t dp _ _ (w1.nd k lf v), w1.nd k lf v⟩)
      obtain ⟨e1, r2⟩ := r1.nd k lf v
      show RR dp (pp E f dp g S1.2.1.2 (S1.1, ndA S1.2 k lf v)) _
      rw [e1]
      exact ih dp g _ _ _ r2
    have seq : ∀ (c g : Nat), (∀ (t d : Nat) (Q : QS) (l : Nat), Wr t d Q → mm E (f + 8) g l Q = some (l, Q)) → RR dp (pB (pp E f dp c 0 S) (fun i S1 => pp E f dp g i S1)) (mB (mm E (f + 8) c 0 Q) (fun i Q1 => mm E (f + 8) g i Q1)) := by
      intro c g hg
      exact RR.B (ih dp c 0 _ _ h) (fun i S1 Q1 _ r1 => ih dp g _ _ _ r1) (fun i t Q1 w1 => ⟨_, _, hg t dp _ _ w1, w1⟩)
    have w2 : ∀ (t d : Nat) (Q : QS) (l : Nat), Wr t d Q → mm E (f + 8) 2 l Q = some (l, Q) := fun t d Q l w => mm_2w w _ _
    have w4 : ∀ (t d : Nat) (Q : QS) (l : Nat), Wr t d Q → mm E (f + 8) 4 l Q = some (l, Q) := fun t d Q l w => mm_4w w _ _
    have w7 : ∀ (t d : Nat) (Q : QS) (l : Nat), Wr t d Q → mm E (f + 8) 7 l Q = some (l, Q) := fun t d Q l w => mm_7w w _ _
    have w9 : ∀ (t d : Nat) (Q : QS) (l : Nat), Wr t d Q → mm E (f + 8) 9 l Q = some (l, Q) := fun t d Q l w => mm_9w w _ _
    have w0 : ∀ (t d : Nat) (Q : QS), Wr t d Q → mm E (f + 8) 0 0 Q = some (0, Q) := fun t d Q w => mm_0w w _ _
    have w1 : ∀ (t d : Nat) (Q : QS), Wr t d Q → mm E (f + 8) 1 0 Q = some (0, Q) := fun t d Q w => mm_1w w (f + 6) _
    have w3 : ∀ (t d : Nat) (Q : QS), Wr t d Q → mm E (f + 8) 3 0 Q = some (0, Q) := fun t d Q w => mm_3w w (f + 5) _
    have w5 : ∀ (t d : Nat) (Q : QS), Wr t d Q → mm E (f + 8) 5 0 Q = some (0, Q) := fun t d Q w => mm_5w w (f + 4) _
    have w6 : ∀ (t d : Nat) (Q : QS), Wr t d Q → mm E (f + 8) 6 0 Q = some (0, Q) := fun t d Q w => mm_6w w (f + 3) _
    have w8 : ∀ (t d : Nat) (Q : QS), Wr t d Q → mm E (f + 8) 8 0 Q = some (0, Q) := fun t d Q w => mm_8w w (f + 2) _
    match nt with
    | 0 =>
      show RR dp (pp0 E (pp E f) dp lf S) (mm0 E (mm E (f + 8)) lf Q)
      unfold pp0 mm0
      rw [hq 31, hq 15, hq 22, hq 23, hq 49, hq 41, h.1, hkq]
      by_cases c31 : kd E S = 31
      · rw [if_pos c31, decide_eq_true c31]
        simp only
        rw [h2]
        exact RR.A h.av _ _ _
      rw [if_neg c31, decide_eq_false c31]
      simp only
      by_cases c9 : 9 ≤ kd E S ∧ kd E S ≤ 14
      · rw [if_pos c9, decide_eq_true c9.1, decide_eq_true c9.2]
        exact RR.A h.av _ _ _
      rw [if_neg c9, show (!false && (decide (9 ≤ kd E S) && decide (kd E S ≤ 14))) = false from by rw [← Bool.decide_and, decide_eq_false c9]; rfl]
      simp only
      by_cases c15 : kd E S = 15
      · rw [if_pos c15, decide_eq_true c15]
        simp only
        refine RR.T h.av (fun q e => ?_) (fun e w => ?_)
        · rw [e]
          exact RR.N (g := fun i Q2 => some (ndQ 15 i 0 Q2)) h.av.av (fun i S2 Q2 r2 => RR.A r2 _ _ _) (fun i t Q2 w2 => ⟨_, _, rfl, w2.nd 15 i 0⟩)
        · rw [e, w.nm]
          exact RR.W (w.nd 15 0 0)
      rw [if_neg c15, decide_eq_false c15]
      simp only
      by_cases c22 : kd E S = 22 ∨ kd E S = 23
      · rw [if_pos c22, show (decide (kd E S = 22) || decide (kd E S = 23)) = true from by rw [← Bool.decide_or, decide_eq_true c22]]
        simp only
        have ha : isQ E (avQ Q) 49 = decide (E.1 (S.1.1 + 1) = 49) := h.av.is E 49
        rw [ha]
        by_cases c49 : E.1 (S.1.1 + 1) = 49
        · rw [decide_eq_true c49]
          simp only
          have gw : ∀ (i t : Nat) (Q2 : QS), Wr t (dp + 1) Q2 → ∃ j Q3, (fun l Q2 => mB (mm E (f + 8) 3 0 (tkQ E 54 Q2)) (fun r Q3 => some (ndQ (kd E S) l r (upQ (tkQ E 50 Q3))))) i Q2 = some (j, Q3) ∧ Wr t dp Q3 := by
            intro i t Q2 w
            refine ⟨(ndQ (kd E S) i 0 (upQ Q2)).1, (ndQ (kd E S) i 0 (upQ Q2)).2, ?_, (w.up).nd (kd E S) i 0⟩
            simp only [w.tk, w3 _ _ _ w, mB]
          by_cases c8 : dp = 8
          · subst c8
            rw [if_neg (by omega)]
            obtain ⟨j, Q3, e, w⟩ := gw 0 _ _ h.av.dp8
            show RR 8 (pW (S.1.1 + 1)) (mB (mm E (f + 8) 3 0 (dpQ (avQ Q))) _)
            rw [w3 _ _ _ h.av.dp8]
            exact ⟨j, Q3, e, w⟩
          · rw [if_pos ⟨c49, c8⟩]
            refine RR.B (ih (dp + 1) 3 0 _ _ (h.av.dp c8)) (fun l S1 Q1 _ r1 => ?_) gw
            refine RR.T r1 (fun q e => ?_) (fun e w => ?_)
            · rw [e]
              refine RR.B (ih (dp + 1) 3 0 _ _ r1.av) (fun r S3 Q3 _ r3 => ?_) (fun r t Q3 w => ⟨_, _, rfl, by simp only [w.tk]; exact (w.up).nd (kd E S) l r⟩)
              refine RR.T r3 (fun q e => ?_) (fun e w => ?_)
              · rw [e]; exact RR.A r3.av.up _ _ _
              · rw [e]; exact RR.W ((w.up).nd (kd E S) l r)
            · rw [e, w3 _ _ _ w]
              show RR dp (pW S1.1.1) (some (ndQ (kd E S) l 0 (upQ (tkQ E 50 (wrQ Q1)))))
              rw [w.tk]
              exact RR.W ((w.up).nd (kd E S) l 0)
        · rw [decide_eq_false c49, if_neg (by omega)]
          exact RR.W h.av.wr
      rw [if_neg c22, show (decide (kd E S = 22) || decide (kd E S = 23)) = false from by rw [← Bool.decide_or, decide_eq_false c22]]
      simp only
      by_cases c49 : kd E S = 49
      · rw [if_pos c49, decide_eq_true c49]
        simp only
        have gw : ∀ (i t : Nat) (Q2 : QS), Wr t (dp + 1) Q2 → ∃ j Q3, (fun i Q1 => some (i, upQ (tkQ E 50 Q1)) : Nat → QS → QR) i Q2 = some (j, Q3) ∧ Wr t dp Q3 := fun i t Q2 w => ⟨_, _, rfl, by simp only [w.tk]; exact w.up⟩
        by_cases c8 : dp = 8
        · subst c8
          rw [if_neg (by omega)]
          show RR 8 (pW S.1.1) (mB (mm E (f + 8) 3 0 (dpQ Q)) _)
          rw [w3 _ _ _ h.dp8]
          obtain ⟨j, Q3, e, w⟩ := gw 0 _ _ h.dp8
          exact ⟨j, Q3, e, w⟩
        · rw [if_pos c8]
          refine RR.B (ih (dp + 1) 3 0 _ _ (h.dp c8)) (fun i S1 Q1 _ r1 => ?_) gw
          refine RR.T r1 (fun q e => ?_) (fun e w => ?_)
          · rw [e]; exact RR.O r1.av.up
          · rw [e]; exact RR.W w.up
      rw [if_neg c49, decide_eq_false c49]
      simp only
      by_cases c41 : kd E S = 41
      · rw [if_pos c41, decide_eq_true c41]
        simp only
        by_cases c8 : dp = 8
        · subst c8
          rw [if_neg (by omega)]
          show RR 8 (pW S.1.1) (mB (mm E (f + 8) 0 0 (dpQ Q)) _)
          rw [w0 _ _ _ h.dp8]
          exact RR.W ((h.dp8.up).nd 60 0 0)
        · rw [if_pos c8]
          exact RR.B (ih (dp + 1) 0 0 _ _ (h.dp c8)) (fun i S1 Q1 _ r1 => RR.A r1.up _ _ _) (fun i t Q1 w => ⟨_, _, rfl, (w.up).nd 60 i 0⟩)
      rw [if_neg c41, decide_eq_false c41]
      exact RR.W h.wr
    | 1 => exact seq 0 2 w2
    | 2 =>
      show RR dp (pp2 E (pp E f) dp lf S) (mm2 E (mm E (f + 8)) lf Q)
      unfold pp2 mm2
      rw [hq, hq, hkq, ← Bool.decide_or]
      by_cases c : kd E S = 42 ∨ kd E S = 43
      · rw [if_pos c, decide_eq_true c]; exact tail _ 0 2 w0 w2
      · rw [if_neg c, decide_eq_false c]; exact RR.O h
    | 3 => exact seq 1 4 w4
    | 4 =>
      show RR dp (pp4 E (pp E f) dp lf S) (mm4 E (mm E (f + 8)) lf Q)
      unfold pp4 mm4
      rw [hq, hq, hkq, ← Bool.decide_or]
      by_cases c : kd E S = 40 ∨ kd E S = 41
      · rw [if_pos c, decide_eq_true c]; exact tail _ 1 4 w1 w4
      · rw [if_neg c, decide_eq_false c]; exact RR.O h
    | 5 =>
      show RR dp (pp5 E (pp E f) dp lf S) (mm5 E (mm E (f + 8)) lf Q)
      unfold pp5 mm5
      rw [hq 19, hq 51, hq 17, hq 18]
      by_cases c19 : kd E S = 19
      · rw [if_pos c19, decide_eq_true c19]
        simp only
        by_cases c8 : dp = 8
        · subst c8
          rw [if_neg (by omega)]
          show RR 8 (pW S.1.1) (mB (mm E (f + 8) 5 0 (dpQ Q)) _)
          rw [w5 _ _ _ h.dp8]
          exact RR.W ((h.dp8.up).nd 19 0 0)
        · rw [if_pos c8]
          exact RR.B (ih (dp + 1) 5 0 _ _ (h.dp c8)) (fun i S1 Q1 _ r1 => RR.A r1.up _ _ _) (fun i t Q1 w => ⟨_, _, rfl, (w.up).nd 19 i 0⟩)
      rw [if_neg c19, decide_eq_false c19]
      simp only
      by_cases c51 : kd E S = 51
      · rw [if_pos c51, decide_eq_true c51]
        simp only
        have gw : ∀ (i t : Nat) (Q2 : QS), Wr t (dp + 1) Q2 → ∃ j Q3, (fun i Q1 => some (i, upQ (tkQ E 52 Q1)) : Nat → QS → QR) i Q2 = some (j, Q3) ∧ Wr t dp Q3 := fun i t Q2 w => ⟨_, _, rfl, by simp only [w.tk]; exact w.up⟩
        by_cases c8 : dp = 8
        · subst c8
          rw [if_neg (by omega)]
          show RR 8 (pW S.1.1) (mB (mm E (f + 8) 8 0 (dpQ Q)) _)
          rw [w8 _ _ _ h.dp8]
          obtain ⟨j, Q3, e, w⟩ := gw 0 _ _ h.dp8
          exact ⟨j, Q3, e, w⟩
        · rw [if_pos c8]
          refine RR.B (ih (dp + 1) 8 0 _ _ (h.dp c8)) (fun i S1 Q1 _ r1 => ?_) gw
          refine RR.T r1 (fun q e => ?_) (fun e w => ?_)
          · rw [e]; exact RR.O r1.av.up
          · rw [e]; exact RR.W w.up
      rw [if_neg c51, decide_eq_false c51]
      simp only
      by_cases c17 : kd E S = 17
      · rw [if_pos (Or.inl c17), decide_eq_true c17, c17]
        exact RR.N (g := fun i Q2 => some (ndQ 17 i 0 Q2)) h.av (fun i S2 Q2 r2 => RR.A r2 _ _ _) (fun i t Q2 w2 => ⟨_, _, rfl, w2.nd 17 i 0⟩)
      rw [decide_eq_false c17]
      simp only
      by_cases c18 : kd E S = 18
      · rw [if_pos (Or.inr c18), decide_eq_true c18, c18]
        exact RR.N (g := fun i Q2 => some (ndQ 18 i 0 Q2)) h.av (fun i S2 Q2 r2 => RR.A r2 _ _ _) (fun i t Q2 w2 => ⟨_, _, rfl, w2.nd 18 i 0⟩)
      rw [if_neg (by omega), decide_eq_false c18]
      simp only
      refine RR.B (ih dp 3 0 _ _ h) (fun l S1 Q1 _ r1 => ?_) (fun i t Q1 w => ⟨_, _, by rw [w.1]; rfl, by rw [w.wr]; exact w⟩)
      have hk1 : kQ E Q1 = kd E S1 := by show E.1 (qt Q1) = _; rw [r1.2.1]
      rw [hk1, r1.1]
      by_cases c44 : 44 ≤ kd E S1 ∧ kd E S1 ≤ 48
      · rw [if_pos c44, ← Bool.decide_and, decide_eq_true c44]
        exact RR.B (ih dp 3 0 _ _ r1.av) (fun r S2 Q2 _ r2 => RR.A r2 _ _ _) (fun r t Q2 w => ⟨_, _, rfl, w.nd _ l r⟩)
      · rw [if_neg c44, ← Bool.decide_and, decide_eq_false c44]
        exact RR.W r1.wr
    | 6 => exact seq 5 7 w7
    | 7 =>
      show RR dp (pp7 E (pp E f) dp lf S) (mm7 E (mm E (f + 8)) lf Q)
      unfold pp7 mm7
      rw [hq]
      by_cases c : kd E S = 20
      · rw [if_pos c, decide_eq_true c]; exact tail _ 5 7 w5 w7
      · rw [if_neg c, decide_eq_false c]; exact RR.O h
    | 8 => exact seq 6 9 w9
    | n + 9 =>
      show RR dp (pp9 E (pp E f) dp lf S) (mm9 E (mm E (f + 8)) lf Q)
      unfold pp9 mm9
      rw [hq]
      by_cases c : kd E S = 21
      · rw [if_pos c, decide_eq_true c]; exact tail _ 6 9 w6 w9
      · rw [if_neg c, decide_eq_false c]; exact RR.O h
end PB22
