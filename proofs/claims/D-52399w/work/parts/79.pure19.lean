/-! ===== the model's way over the tokens, with what is wrong in it ===== -/
section PB19
set_option maxRecDepth 100000
/-- the token, whether it is wrong, the error and its token, the depth; orders and nodes; the board's size, the tiles: how many, their numbers, the tokens that name them -/
abbrev QS : Type := (Nat × Bool × Nat × Nat × Nat) × TD × ((Nat × Nat × Nat) × (Nat → Nat → Nat) × (Nat → Nat))
abbrev qt (Q : QS) : Nat := Q.1.1
abbrev qw (Q : QS) : Bool := Q.1.2.1
abbrev qe (Q : QS) : Nat := Q.1.2.2.1
abbrev qf (Q : QS) : Nat := Q.1.2.2.2.1
abbrev qd (Q : QS) : Nat := Q.1.2.2.2.2
abbrev qn (Q : QS) : Nat := Q.2.1.1.2
abbrev qo (Q : QS) : Nat := Q.2.1.1.1
abbrev qk (Q : QS) : Nat := Q.2.2.1.2.2
def envQ (t : TP) (G : (Nat × Nat × Nat) × (Nat → Nat → Nat) × (Nat → Nat)) : PE := (tK t, fun k => tkN t (tps t k), fun k => ff (fun j => sNm t (G.2.2 j) k) G.1.2.2 0)
def avQ (Q : QS) : QS := ((qt Q + 1, Q.1.2), Q.2)
def wrQ (Q : QS) : QS := if qw Q then Q else ((qt Q, true, 1, qt Q, qd Q), Q.2)
def isQ (E : PE) (Q : QS) (k : Nat) : Bool := !(qw Q) && decide (E.1 (qt Q) = k)
def tkQ (E : PE) (k : Nat) (Q : QS) : QS := if isQ E Q k then avQ Q else wrQ Q
def dnQ (Q : QS) : QS := ((qt Q, qw Q, qe Q, qf Q, qd Q + 1), Q.2)
def dpQ (Q : QS) : QS := dnQ (if qd Q = 8 then wrQ Q else avQ Q)
def upQ (Q : QS) : QS := ((qt Q, qw Q, qe Q, qf Q, qd Q - 1), Q.2)
def mkQ (c : Nat) (Q : QS) : QS := if qw Q || !(decide (qe Q = 0)) then Q else ((qt Q, qw Q, c, qt Q, qd Q), Q.2)
def ndQ (s l r : Nat) (Q : QS) : Nat × QS := (qn Q, (Q.1, ndA Q.2.1 s l r, Q.2.2))
def nmQ (E : PE) (Q : QS) : Nat × QS := match isQ E Q 30 with
  | true => ((E.2.2 (qt Q)).getD 0, tkQ E 30 (match E.2.2 (qt Q) with | none => mkQ 3 Q | some _ => Q))
  | false => (0, tkQ E 30 Q)
abbrev QR : Type := Option (Nat × QS)
def mB (x : QR) (f : Nat → QS → QR) : QR := match x with
  | none => none
  | some (i, Q) => f i Q
abbrev kQ (E : PE) (Q : QS) : Nat := E.1 (qt Q)
def mm0 (E : PE) (rc : Nat → Nat → QS → QR) (lf : Nat) (Q : QS) : QR := match isQ E Q 31 with
  | true => some (ndQ 31 (E.2.1 (qt Q)) 0 (avQ Q))
  | false => match !(qw Q) && (decide (9 ≤ kQ E Q) && decide (kQ E Q ≤ 14)) with
    | true => some (ndQ (kQ E Q) 0 0 (avQ Q))
    | false => match isQ E Q 15 with
      | true => some (ndQ 15 (nmQ E (tkQ E 16 (avQ Q))).1 0 (nmQ E (tkQ E 16 (avQ Q))).2)
      | false => match isQ E Q 22 || isQ E Q 23 with
        | true => match isQ E (avQ Q) 49 with
          | true => mB (rc 3 0 (dpQ (avQ Q))) (fun l Q2 => mB (rc 3 0 (tkQ E 54 Q2)) (fun r Q3 => some (ndQ (kQ E Q) l r (upQ (tkQ E 50 Q3)))))
          | false => some (0, wrQ (avQ Q))
        | false => match isQ E Q 49 with
          | true => mB (rc 3 0 (dpQ Q)) (fun i Q1 => some (i, upQ (tkQ E 50 Q1)))
          | false => match isQ E Q 41 with
            | true => mB (rc 0 0 (dpQ Q)) (fun i Q1 => some (ndQ 60 i 0 (upQ Q1)))
            | false => some (0, wrQ Q)
def mm1 (E : PE) (rc : Nat → Nat → QS → QR) (lf : Nat) (Q : QS) : QR := mB (rc 0 0 Q) (fun i Q1 => rc 2 i Q1)
def mm2 (E : PE) (rc : Nat → Nat → QS → QR) (lf : Nat) (Q : QS) : QR := match isQ E Q 42 || isQ E Q 43 with
  | true => mB (rc 0 0 (avQ Q)) (fun v Q1 => rc 2 (ndQ (kQ E Q) lf v Q1).1 (ndQ (kQ E Q) lf v Q1).2)
  | false => some (lf, Q)
def mm3 (E : PE) (rc : Nat → Nat → QS → QR) (lf : Nat) (Q : QS) : QR := mB (rc 1 0 Q) (fun i Q1 => rc 4 i Q1)
def mm4 (E : PE) (rc : Nat → Nat → QS → QR) (lf : Nat) (Q : QS) : QR := match isQ E Q 40 || isQ E Q 41 with
  | true => mB (rc 1 0 (avQ Q)) (fun v Q1 => rc 4 (ndQ (kQ E Q) lf v Q1).1 (ndQ (kQ E Q) lf v Q1).2)
  | false => some (lf, Q)
def mm5 (E : PE) (rc : Nat → Nat → QS → QR) (lf : Nat) (Q : QS) : QR := match isQ E Q 19 with
  | true => mB (rc 5 0 (dpQ Q)) (fun i Q1 => some (ndQ 19 i 0 (upQ Q1)))
  | false => match isQ E Q 51 with
    | true => mB (rc 8 0 (dpQ Q)) (fun i Q1 => some (i, upQ (tkQ E 52 Q1)))
    | false => match isQ E Q 17 with
      | true => some (ndQ 17 (nmQ E (avQ Q)).1 0 (nmQ E (avQ Q)).2)
      | false => match isQ E Q 18 with
        | true => some (ndQ 18 (nmQ E (avQ Q)).1 0 (nmQ E (avQ Q)).2)
        | false => mB (rc 3 0 Q) (fun l Q1 => match qw Q1 || !(decide (44 ≤ kQ E Q1) && decide (kQ E Q1 ≤ 48)) with
          | true => some (0, wrQ Q1)
          | false => mB (rc 3 0 (avQ Q1)) (fun r Q2 => some (ndQ (kQ E Q1) l r Q2)))
def mm6 (E : PE) (rc : Nat → Nat → QS → QR) (lf : Nat) (Q : QS) : QR := mB (rc 5 0 Q) (fun i Q1 => rc 7 i Q1)
def mm7 (E : PE) (rc : Nat → Nat → QS → QR) (lf : Nat) (Q : QS) : QR := match isQ E Q 20 with
  | true => mB (rc 5 0 (avQ Q)) (fun v Q1 => rc 7 (ndQ 20 lf v Q1).1 (ndQ 20 lf v Q1).2)
  | false => some (lf, Q)
def mm8 (E : PE) (rc : Nat → Nat → QS → QR) (lf : Nat) (Q : QS) : QR := mB (rc 6 0 Q) (fun i Q1 => rc 9 i Q1)
def mm9 (E : PE) (rc : Nat → Nat → QS → QR) (lf : Nat) (Q : QS) : QR := match isQ E Q 21 with
  | true => mB (rc 6 0 (avQ Q)) (fun v Q1 => rc 9 (ndQ 21 lf v Q1).1 (ndQ 21 lf v Q1).2)
  | false => some (lf, Q)
def mm (E : PE) : Nat → Nat → Nat → QS → QR
  | 0, _, _, _ => none
  | f + 1, nt, lf, Q => match nt with
    | 0 => mm0 E (mm E f) lf Q
    | 1 => mm1 E (mm E f) lf Q
    | 2 => mm2 E (mm E f) lf Q
    | 3 => mm3 E (mm E f) lf Q
    | 4 => mm4 E (mm E f) lf Q
    | 5 => mm5 E (mm E f) lf Q
    | 6 => mm6 E (mm E f) lf Q
    | 7 => mm7 E (mm E f) lf Q
    | 8 => mm8 E (mm E f) lf Q
    | _ => mm9 E (mm E f) lf Q
theorem mB_s {x : QR} {f : Nat → QS → QR} {r : Nat × QS} (h : mB x f = some r) : ∃ i Q, x = some (i, Q) ∧ f i Q = some r := by
  cases x with
  | none => cases h
  | some y => obtain ⟨i, Q⟩ := y; exact ⟨i, Q, rfl, h⟩
/-- what every step keeps -/
def qK (n : Nat) (Q Q' : QS) : Prop := qt Q ≤ qt Q' ∧ qt Q' ≤ n ∧ qn Q ≤ qn Q' ∧ qd Q' = qd Q ∧ Q'.2.2 = Q.2.2 ∧ qo Q' = qo Q ∧ (qw Q = true → qw Q' = true)
theorem qK.rf {n : Nat} {Q : QS} (h : qt Q ≤ n) : qK n Q Q := ⟨Nat.le_refl _, h, Nat.le_refl _, rfl, rfl, rfl, id⟩
theorem qK.tr {n : Nat} {Q Q1 Q2 : QS} (a : qK n Q Q1) (b : qK n Q1 Q2) : qK n Q Q2 := by
  obtain ⟨a1, a2, a3, a4, a5, a6, a7⟩ := a
  obtain ⟨b1, b2, b3, b4, b5, b6, b7⟩ := b
  exact ⟨by omega, b2, by omega, b4.trans a4, b5.trans a5, b6.trans a6, fun q => b7 (a7 q)⟩
theorem qK.av {n : Nat} {Q : QS} (h : qt Q < n) : qK n Q (avQ Q) := ⟨Nat.le_succ _, h, Nat.le_refl _, rfl, rfl, rfl, id⟩
theorem qK.wr {n : Nat} {Q : QS} (h : qt Q ≤ n) : qK n Q (wrQ Q) := by
  unfold wrQ
  split
  · exact qK.rf h
  · exact ⟨Nat.le_refl _, h, Nat.le_refl _, rfl, rfl, rfl, fun _ => rfl⟩
theorem isQ_t {E : PE} {Q : QS} {k : Nat} (h : isQ E Q k = true) : qw Q = false ∧ E.1 (qt Q) = k := by
  unfold isQ at h
  rw [Bool.and_eq_true, decide_eq_true_eq] at h
  exact ⟨by cases hq : qw Q with | false => rfl | true => rw [hq] at h; exact absurd h.1 (by decide), h.2⟩
theorem isQ_lt {E : PE} {n : Nat} (hK : KOk E.1 n) {Q : QS} {k : Nat} (hq : qt Q ≤ n) (hk : k ≠ 32 ∧ k ≠ 33) (h : isQ E Q k = true) : qt Q < n := hK.lt hq (by rw [(isQ_t h).2]; exact hk)
theorem qK.tk {n : Nat} {E : PE} (hK : KOk E.1 n) {Q : QS} {k : Nat} (hk : k ≠ 32 ∧ k ≠ 33) (h : qt Q ≤ n) : qK n Q (tkQ E k Q) := by
  unfold tkQ
  split
  · rename_i q; exact qK.av (isQ_lt hK h hk q)
  · exact qK.wr h
theorem qK.mk {n : Nat} {Q : QS} {c : Nat} (h : qt Q ≤ n) : qK n Q (mkQ c Q) := by
  unfold mkQ
  split
  · exact qK.rf h
  · exact ⟨Nat.le_refl _, h, Nat.le_refl _, rfl, rfl, rfl, id⟩
theorem qK.nm {n : Nat} {E : PE} (hK : KOk E.1 n) {Q : QS} (h : qt Q ≤ n) : qK n Q (nmQ E Q).2 := by
  unfold nmQ
  split
  · show qK n Q (tkQ E 30 _)
    split
    · exact (qK.mk h).tr (qK.tk hK (by decide) (qK.mk h).2.1)
    · exact qK.tk hK (by decide) h
  · exact qK.tk hK (by decide) h
theorem qK.nd {n : Nat} {Q : QS} {s l r : Nat} (h : qt Q ≤ n) : qK n Q (ndQ s l r Q).2 := ⟨Nat.le_refl _, h, Nat.le_succ _, rfl, rfl, rfl, id⟩
/-- deeper, a step, and up again -/
def qD (n : Nat) (Q Q' : QS) : Prop := qt Q ≤ qt Q' ∧ qt Q' ≤ n ∧ qn Q ≤ qn Q' ∧ qd Q' = qd Q + 1 ∧ Q'.2.2 = Q.2.2 ∧ qo Q' = qo Q ∧ (qw Q = true → qw Q' = true)
theorem qD.dp {n : Nat} {Q : QS} (h : qt Q < n) : qD n Q (dpQ Q) := by
  unfold dpQ
  split
  · have := qK.wr (Nat.le_of_lt h)
    obtain ⟨a1, a2, a3, a4, a5, a6, a7⟩ := this
    exact ⟨a1, a2, a3, by show qd (wrQ Q) + 1 = _; rw [a4], a5, a6, a7⟩
  · exact ⟨Nat.le_succ _, h, Nat.le_refl _, rfl, rfl, rfl, id⟩
theorem qD.tr {n : Nat} {Q Q1 Q2 : QS} (a : qD n Q Q1) (b : qK n Q1 Q2) : qD n Q Q2 := by
  obtain ⟨a1, a2, a3, a4, a5, a6, a7⟩ := a
  obtain ⟨b1, b2, b3, b4, b5, b6, b7⟩ := b
  exact ⟨by omega, b2, by omega, b4.trans a4, b5.trans a5, b6.trans a6, fun q => b7 (a7 q)⟩
theorem qD.up {n : Nat} {Q Q1 : QS} (a : qD n Q Q1) : qK n Q (upQ Q1) := by
  obtain ⟨a1, a2, a3, a4, a5, a6, a7⟩ := a
  exact ⟨a1, a2, a3, by show qd Q1 - 1 = qd Q; omega, a5, a6, a7⟩
theorem mm_k {E : PE} {n : Nat} (hK : KOk E.1 n) : ∀ f nt lf Q, qt Q ≤ n → ∀ i Q', mm E f nt lf Q = some (i, Q') → qK n Q Q'
  | 0, _, _, _, _, _, _, h => by cases h
  | f + 1, nt, lf, Q, hQ, i, Q', h => by
    have ih := mm_k hK f
    have tail : ∀ (k c g : Nat), qt Q < n → mB (mm E f c 0 (avQ Q)) (fun v Q1 => mm E f g (ndQ k lf v Q1).1 (ndQ k lf v Q1).2) = some (i, Q') → qK n Q Q' := by
      intro k c g hlt h
      obtain ⟨v, Q1, e1, h⟩ := mB_s h
      have k1 := (qK.av hlt).tr (ih _ _ (avQ Q) hlt _ _ e1)
      exact (k1.tr (qK.nd k1.2.1)).tr (ih _ _ (ndQ k lf v Q1).2 k1.2.1 _ _ h)
    have seq : ∀ (c g : Nat), mB (mm E f c 0 Q) (fun i Q1 => mm E f g i Q1) = some (i, Q') → qK n Q Q' := by
      intro c g h
      obtain ⟨v, Q1, e1, h⟩ := mB_s h
      have k1 := ih _ _ _ hQ _ _ e1
      exact k1.tr (ih _ _ _ k1.2.1 _ _ h)
    unfold mm at h
    split at h
    · unfold mm0 at h
      split at h
      · rename_i q
        have hlt := isQ_lt hK hQ (by decide) q
        cases h
        exact (qK.av hlt).tr (qK.nd hlt)
      · split at h
        · rename_i q
          rw [Bool.and_eq_true, Bool.and_eq_true, decide_eq_true_eq, decide_eq_true_eq] at q
          have hlt : qt Q < n := hK.lt hQ (by have q1 := q.2; show kQ E Q ≠ 32 ∧ kQ E Q ≠ 33; omega)
          cases h
          exact (qK.av hlt).tr (qK.nd hlt)
        · split at h
          · rename_i q
            have hlt := isQ_lt hK hQ (by decide) q
            cases h
            have k1 := (qK.av hlt).tr (qK.tk hK (k := 16) (by decide) (qK.av hlt).2.1)
            have k2 := k1.tr (qK.nm hK k1.2.1)
            exact k2.tr (qK.nd k2.2.1)
          · split at h
            · rename_i q
              have hlt : qt Q < n := by
                rw [Bool.or_eq_true] at q
                rcases q with q | q
                · exact isQ_lt hK hQ (by decide) q
                · exact isQ_lt hK hQ (by decide) q
              have k0 := qK.av hlt
              split at h
              · rename_i q2
                have hl2 := isQ_lt hK k0.2.1 (by decide) q2
                obtain ⟨l, Q2, e1, h⟩ := mB_s h
                obtain ⟨r, Q3, e2, h⟩ := mB_s h
                cases h
                have d1 := qD.dp hl2
                have d2 := d1.tr (ih _ _ _ d1.2.1 _ _ e1)
                have d3 := d2.tr (qK.tk hK (k := 54) (by decide) d2.2.1)
                have d4 := d3.tr (ih _ _ _ d3.2.1 _ _ e2)
                have d5 := d4.tr (qK.tk hK (k := 50) (by decide) d4.2.1)
                exact (k0.tr d5.up).tr (qK.nd d5.up.2.1)
              · cases h
                exact k0.tr (qK.wr k0.2.1)
            · split at h
              · rename_i q
                have hlt := isQ_lt hK hQ (by decide) q
                obtain ⟨j, Q1, e1, h⟩ := mB_s h
                cases h
                have d1 := qD.dp hlt
                have d2 := d1.tr (ih _ _ _ d1.2.1 _ _ e1)
                exact (d2.tr (qK.tk hK (k := 50) (by decide) d2.2.1)).up
              · split at h
                · rename_i q
                  have hlt := isQ_lt hK hQ (by decide) q
                  obtain ⟨j, Q1, e1, h⟩ := mB_s h
                  cases h
                  have d1 := qD.dp hlt
                  have d2 := d1.tr (ih _ _ _ d1.2.1 _ _ e1)
                  exact d2.up.tr (qK.nd d2.up.2.1)
                · cases h
                  exact qK.wr hQ
    · unfold mm1 at h
      exact seq _ _ h
    · unfold mm2 at h
      split at h
      · rename_i q
        rw [Bool.or_eq_true] at q
        refine tail _ _ _ ?_ h
        rcases q with q | q
        · exact isQ_lt hK hQ (by decide) q
        · exact isQ_lt hK hQ (by decide) q
      · cases h; exact qK.rf hQ
    · unfold mm3 at h
      exact seq _ _ h
    · unfold mm4 at h
      split at h
      · rename_i q
        rw [Bool.or_eq_true] at q
        refine tail _ _ _ ?_ h
        rcases q with q | q
        · exact isQ_lt hK hQ (by decide) q
        · exact isQ_lt hK hQ (by decide) q
      · cases h; exact qK.rf hQ
    · unfold mm5 at h
      split at h
      · rename_i q
        have hlt := isQ_lt hK hQ (by decide) q
        obtain ⟨j, Q1, e1, h⟩ := mB_s h
        cases h
        have d1 := qD.dp hlt
        have d2 := d1.tr (ih _ _ _ d1.2.1 _ _ e1)
        exact d2.up.tr (qK.nd d2.up.2.1)
      · split at h
        · rename_i q
          have hlt := isQ_lt hK hQ (by decide) q
          obtain ⟨j, Q1, e1, h⟩ := mB_s h
          cases h
          have d1 := qD.dp hlt
          have d2 := d1.tr (ih _ _ _ d1.2.1 _ _ e1)
          exact (d2.tr (qK.tk hK (k := 52) (by decide) d2.2.1)).up
        · split at h
          · rename_i q
            have hlt := isQ_lt hK hQ (by decide) q
            cases h
            have k2 := (qK.av hlt).tr (qK.nm hK (qK.av hlt).2.1)
            exact k2.tr (qK.nd k2.2.1)
          · split at h
            · rename_i q
              have hlt := isQ_lt hK hQ (by decide) q
              cases h
              have k2 := (qK.av hlt).tr (qK.nm hK (qK.av hlt).2.1)
              exact k2.tr (qK.nd k2.2.1)
            · obtain ⟨l, Q1, e1, h⟩ := mB_s h
              have k1 := ih _ _ _ hQ _ _ e1
              split at h
              · cases h; exact k1.tr (qK.wr k1.2.1)
              · rename_i q
                rw [Bool.or_eq_false_iff] at q
                have q2 : (decide (44 ≤ kQ E Q1) && decide (kQ E Q1 ≤ 48)) = true := by
                  cases hq : (decide (44 ≤ kQ E Q1) && decide (kQ E Q1 ≤ 48)) with
                  | true => rfl
                  | false => rw [hq] at q; exact absurd q.2 (by decide)
                rw [Bool.and_eq_true, decide_eq_true_eq, decide_eq_true_eq] at q2
                have hlt : qt Q1 < n := hK.lt k1.2.1 (by show kQ E Q1 ≠ 32 ∧ kQ E Q1 ≠ 33; omega)
                obtain ⟨r, Q2, e2, h⟩ := mB_s h
                cases h
                have k2 := (k1.tr (qK.av hlt)).tr (ih _ _ (avQ Q1) hlt _ _ e2)
                exact k2.tr (qK.nd k2.2.1)
    · unfold mm6 at h
      exact seq _ _ h
    · unfold mm7 at h
      split at h
      · rename_i q; exact tail _ _ _ (isQ_lt hK hQ (by decide) q) h
      · cases h; exact qK.rf hQ
    · unfold mm8 at h
      exact seq _ _ h
    · unfold mm9 at h
      split at h
      · rename_i q; exact tail _ _ _ (isQ_lt hK hQ (by decide) q) h
      · cases h; exact qK.rf hQ
end PB19
