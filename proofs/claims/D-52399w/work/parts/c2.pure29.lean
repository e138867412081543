/-! ===== the nodes that the grammar makes are sound ===== -/
section PB29
set_option maxRecDepth 100000
def kOk (k : Nat) : Prop := (9 ≤ k ∧ k ≤ 15) ∨ k = 17 ∨ k = 18 ∨ k = 19 ∨ k = 31 ∨ k = 60 ∨ isJ k = true
/-- a sound node j with what it points to from fr on -/
def ndO (N fr j k l r : Nat) : Prop := kOk k ∧ ((k = 15 ∨ k = 17 ∨ k = 18) → l < N) ∧ (isU k = true ∨ isJ k = true → fr ≤ l ∧ l < j) ∧ (isJ k = true → fr ≤ r ∧ r < j) ∧ (l < 10 ^ 6 ∨ l < j ∨ l < N) ∧ (r = 0 ∨ r < j)
def nG (N fr : Nat) (T : TD) (j : Nat) : Prop := ndO N fr j (T.2.1 27 j) (T.2.1 28 j) (T.2.1 29 j)
def Gd (N fr : Nat) (T : TD) : Prop := fr ≤ T.1.2 ∧ ∀ j, fr ≤ j → j < T.1.2 → nG N fr T j
theorem Gd.nd {N fr : Nat} {T : TD} (h : Gd N fr T) {s l r : Nat} (g : ndO N fr T.1.2 s l r) : Gd N fr (ndA T s l r) := by
  refine ⟨Nat.le_succ_of_le h.1, fun j h1 h2 => ?_⟩
  have h2 : j < T.1.2 + 1 := h2
  rcases Nat.lt_or_ge j T.1.2 with q | q
  · unfold nG
    rw [ndA_i q, ndA_i q, ndA_i q]
    exact h.2 j h1 q
  · have e : j = T.1.2 := by omega
    subst e
    obtain ⟨e1, e2, e3⟩ := ndA_n (T := T) (s := s) (l := l) (r := r)
    unfold nG
    rw [e1, e2, e3]
    exact g
def nR (N fr : Nat) (S : PS) (r : PR) : Prop := match r with
  | none => True
  | some (.inl _) => True
  | some (.inr (i, S')) => S'.1.2 = none → S.1.2 = none ∧ S.2.1.2 ≤ S'.2.1.2 ∧ fr ≤ i ∧ i < S'.2.1.2 ∧ Gd N fr S'.2
variable {N fr : Nat}
theorem nR.W {S : PS} {t : Nat} : nR N fr S (pW t) := trivial
theorem nR.B {S S0 : PS} {x : PR} {f : Nat → PS → PR} (hx : nR N fr S0 x) (k : ∀ i S1, (S1.1.2 = none → S0.1.2 = none ∧ S0.2.1.2 ≤ S1.2.1.2 ∧ fr ≤ i ∧ i < S1.2.1.2 ∧ Gd N fr S1.2) → nR N fr S (f i S1)) : nR N fr S (pB x f) := by
  cases x with
  | none => trivial
  | some y =>
    cases y with
    | inl t => trivial
    | inr p => exact k p.1 p.2 hx
theorem nR.tr {S S1 : PS} {r : PR} (h : S1.1.2 = none → S.1.2 = none ∧ S.2.1.2 ≤ S1.2.1.2) (g : nR N fr S1 r) : nR N fr S r := by
  cases r with
  | none => trivial
  | some y =>
    cases y with
    | inl t => trivial
    | inr p => exact fun q => (g q).elim (fun a b => ⟨(h a).1, Nat.le_trans (h a).2 b.1, b.2⟩)
theorem nR.A {S S1 : PS} {s l r : Nat} (h : S1.1.2 = none → S.1.2 = none ∧ S.2.1.2 ≤ S1.2.1.2 ∧ Gd N fr S1.2 ∧ ndO N fr S1.2.1.2 s l r) : nR N fr S (pA s l r S1) := fun q => by
  obtain ⟨h1, h2, h3, h4⟩ := h q
  refine ⟨h1, ?_, h3.1, ?_, h3.nd h4⟩
  · show S.2.1.2 ≤ S1.2.1.2 + 1; omega
  · show S1.2.1.2 < S1.2.1.2 + 1; omega
theorem nR.T {E : PE} {k : Nat} {S S1 : PS} {f : PS → PR} (h : kd E S1 = k → nR N fr S (f (adv S1))) : nR N fr S (pT E k S1 f) := by
  unfold pT
  split
  · rename_i q; exact h q
  · trivial
theorem mrk_n {e : Option (Nat × Nat)} {c t : Nat} : mrk e c t ≠ none := by
  unfold mrk
  cases e <;> (intro q; cases q)
theorem pN_e {E : PE} {S1 S2 : PS} {i : Nat} (hE : ∀ k v, E.2.2 k = some v → v < N) (h : pN E S1 = pO i S2) (q : S2.1.2 = none) : S1.1.2 = none ∧ i < N ∧ S2.2 = S1.2 ∧ E.2.2 S1.1.1 = some i ∧ S2.1.1 = S1.1.1 + 1 := by
  unfold pN at h
  split at h
  · cases h
    cases he : E.2.2 S1.1.1 with
    | none =>
      have q : (match E.2.2 S1.1.1 with | none => mrk S1.1.2 3 S1.1.1 | some _ => S1.1.2) = none := q
      rw [he] at q
      exact absurd q mrk_n
    | some v =>
      have q : (match E.2.2 S1.1.1 with | none => mrk S1.1.2 3 S1.1.1 | some _ => S1.1.2) = none := q
      rw [he] at q
      exact ⟨q, hE _ _ he, rfl, rfl, rfl⟩
  · cases h
theorem nR.nm {E : PE} (hE : ∀ k v, E.2.2 k = some v → v < N) {S S1 : PS} {f : Nat → PS → PR} (k : ∀ i S2, (S2.1.2 = none → S1.1.2 = none ∧ i < N ∧ S2.2 = S1.2) → nR N fr S (f i S2)) : nR N fr S (pB (pN E S1) f) := by
  cases hx : pN E S1 with
  | none => trivial
  | some y =>
    cases y with
    | inl t => trivial
    | inr p => exact k p.1 p.2 (fun q => by have := pN_e hE hx q; exact ⟨this.1, this.2.1, this.2.2.1⟩)
theorem pp_n {E : PE} (hE : ∀ k v, E.2.2 k = some v → v < N) (hu : ∀ k, E.1 k = 31 → E.2.1 k < 10 ^ 6) : ∀ f dp nt lf S, (S.1.2 = none → Gd N fr S.2 ∧ (tlB nt = true → fr ≤ lf ∧ lf < S.2.1.2)) → nR N fr S (pp E f dp nt lf S)
  | 0, _, _, _, _, _ => trivial
  | f + 1, dp, nt, lf, S, hS => by
    have ih := pp_n hE hu f
    have nn : ∀ (c : Nat), tlB c = false → ∀ d (S1 : PS), (S1.1.2 = none → Gd N fr S1.2) → nR N fr S1 (pp E f d c 0 S1) := fun c hc d S1 h1 => ih d c 0 S1 (fun q => ⟨h1 q, fun w => by rw [hc] at w; cases w⟩)
    have tail : ∀ (c g : Nat), tlB c = false → isJ (kd E S) = true → tlB nt = true → nR N fr S (pB (pp E f dp c 0 (adv S)) (fun v S1 => pB (pA (kd E S) lf v S1) (fun i S2 => pp E f dp g i S2))) := by
      intro c g hc hj ht
      refine nR.B (nn c hc dp (adv S) (fun q => (hS q).1)) (fun v S1 k1 => ?_)
      have hA : nR N fr S (pA (kd E S) lf v S1) := nR.A (fun q => by
        obtain ⟨a1, a2, a3, a4, a5⟩ := k1 q
        obtain ⟨b1, b2⟩ := (hS a1).2 ht
        exact ⟨a1, a2, a5, by unfold kOk; simp [hj], fun w => by rcases w with w | w | w <;> (rw [w] at hj; exact absurd hj (by decide)), fun _ => ⟨b1, Nat.lt_of_lt_of_le b2 a2⟩, fun _ => ⟨a3, a4⟩, Or.inr (Or.inl (Nat.lt_of_lt_of_le b2 a2)), Or.inr a4⟩)
      refine nR.B hA (fun i S2 k2 => ?_)
      exact nR.tr (fun q => ⟨(k2 q).1, (k2 q).2.1⟩) (ih dp g i S2 (fun q => by obtain ⟨a1, a2, a3, a4, a5⟩ := k2 q; exact ⟨a5, fun _ => ⟨a3, a4⟩⟩))
    have seq : ∀ (c g : Nat), tlB c = false → nR N fr S (pB (pp E f dp c 0 S) (fun i S1 => pp E f dp g i S1)) := by
      intro c g hc
      refine nR.B (nn c hc dp S (fun q => (hS q).1)) (fun i S1 k1 => ?_)
      exact nR.tr (fun q => ⟨(k1 q).1, (k1 q).2.1⟩) (ih dp g i S1 (fun q => by obtain ⟨a1, a2, a3, a4, a5⟩ := k1 q; exact ⟨a5, fun _ => ⟨a3, a4⟩⟩))
    have stop : ∀ {g : Nat}, tlB nt = true → nR N fr S (pO lf S) := fun ht q => ⟨q, Nat.le_refl _, ((hS q).2 ht).1, ((hS q).2 ht).2, (hS q).1⟩
    unfold pp
    split
    · unfold pp0
      split
      · rename_i q
        exact nR.A (fun w => ⟨w, Nat.le_refl _, (hS w).1, Or.inr (Or.inr (Or.inr (Or.inr (Or.inl rfl)))), fun w => by omega, fun w => by rcases w with w | w <;> exact absurd w (by decide), fun w => absurd w (by decide), Or.inl (hu _ q), Or.inl rfl⟩)
      · split
        · rename_i q
          refine nR.A (fun w => ⟨w, Nat.le_refl _, (hS w).1, Or.inl ⟨q.1, by omega⟩, fun w => by omega, fun w => ?_, fun w => ?_, Or.inl (by decide), Or.inl rfl⟩)
          · unfold isU isJ at w; simp only [decide_eq_true_eq] at w; omega
          · unfold isJ at w; simp only [decide_eq_true_eq] at w; omega
        · split
          · refine nR.T (fun _ => ?_)
            refine nR.nm hE (fun i S2 k2 => ?_)
            exact nR.A (fun q => by
              obtain ⟨a1, a2, a3⟩ := k2 q
              have a1 : S.1.2 = none := a1
              have a3 : S2.2 = S.2 := a3
              refine ⟨a1, by rw [a3]; exact Nat.le_refl _, by rw [a3]; exact (hS a1).1, Or.inl ⟨by decide, by decide⟩, fun _ => a2, fun w => by rcases w with w | w <;> exact absurd w (by decide), fun w => absurd w (by decide), Or.inr (Or.inr a2), Or.inl rfl⟩)
          · split
            · rename_i q
              have hj : isJ (kd E S) = true := by rcases q with q | q <;> (rw [q]; rfl)
              split
              · refine nR.B (nn 3 rfl (dp + 1) (adv (adv S)) (fun w => (hS w).1)) (fun l S1 k1 => ?_)
                refine nR.T (fun _ => ?_)
                refine nR.B (nn 3 rfl (dp + 1) (adv S1) (fun w => (k1 w).2.2.2.2)) (fun r S3 k3 => ?_)
                refine nR.T (fun _ => ?_)
                exact nR.A (fun q => by
                  obtain ⟨a1, a2, a3, a4, a5⟩ := k3 q
                  obtain ⟨b1, b2, b3, b4, b5⟩ := k1 a1
                  have a2 : S1.2.1.2 ≤ S3.2.1.2 := a2
                  have b2 : S.2.1.2 ≤ S1.2.1.2 := b2
                  exact ⟨b1, Nat.le_trans b2 a2, a5, by unfold kOk; simp [hj], fun w => by rcases w with w | w | w <;> (rw [w] at hj; exact absurd hj (by decide)), fun _ => ⟨b3, Nat.lt_of_lt_of_le b4 a2⟩, fun _ => ⟨a3, a4⟩, Or.inr (Or.inl (Nat.lt_of_lt_of_le b4 a2)), Or.inr a4⟩)
              · trivial
            · split
              · split
                · refine nR.B (nn 3 rfl (dp + 1) (adv S) (fun w => (hS w).1)) (fun i S1 k1 => ?_)
                  refine nR.T (fun _ => ?_)
                  exact k1
                · trivial
              · split
                · split
                  · refine nR.B (nn 0 rfl (dp + 1) (adv S) (fun w => (hS w).1)) (fun i S1 k1 => ?_)
                    exact nR.A (fun q => by
                      obtain ⟨a1, a2, a3, a4, a5⟩ := k1 q
                      exact ⟨a1, a2, a5, Or.inr (Or.inr (Or.inr (Or.inr (Or.inr (Or.inl rfl))))), fun w => by omega, fun _ => ⟨a3, a4⟩, fun w => absurd w (by decide), Or.inr (Or.inl a4), Or.inl rfl⟩)
                  · trivial
                · trivial
    · unfold pp1; exact seq 0 2 rfl
    · unfold pp2
      split
      · rename_i q
        exact tail 0 2 rfl (by rcases q with q | q <;> (rw [q]; rfl)) rfl
      · exact stop (g := 0) rfl
    · unfold pp3; exact seq 1 4 rfl
    · unfold pp4
      split
      · rename_i q
        exact tail 1 4 rfl (by rcases q with q | q <;> (rw [q]; rfl)) rfl
      · exact stop (g := 0) rfl
    · unfold pp5
      split
      · split
        · refine nR.B (nn 5 rfl (dp + 1) (adv S) (fun w => (hS w).1)) (fun i S1 k1 => ?_)
          exact nR.A (fun q => by
            obtain ⟨a1, a2, a3, a4, a5⟩ := k1 q
            exact ⟨a1, a2, a5, Or.inr (Or.inr (Or.inr (Or.inl rfl))), fun w => by omega, fun _ => ⟨a3, a4⟩, fun w => absurd w (by decide), Or.inr (Or.inl a4), Or.inl rfl⟩)
        · trivial
      · split
        · split
          · refine nR.B (nn 8 rfl (dp + 1) (adv S) (fun w => (hS w).1)) (fun i S1 k1 => ?_)
            refine nR.T (fun _ => ?_)
            exact k1
          · trivial
        · split
          · rename_i q
            refine nR.nm hE (fun i S2 k2 => ?_)
            exact nR.A (fun w => by
              obtain ⟨a1, a2, a3⟩ := k2 w
              have a1 : S.1.2 = none := a1
              have a3 : S2.2 = S.2 := a3
              refine ⟨a1, by rw [a3]; exact Nat.le_refl _, by rw [a3]; exact (hS a1).1, ?_, fun _ => a2, fun w => ?_, fun w => ?_, Or.inr (Or.inr a2), Or.inl rfl⟩
              · rcases q with q | q <;> rw [q]
                · exact Or.inr (Or.inl rfl)
                · exact Or.inr (Or.inr (Or.inl rfl))
              · rcases q with q | q <;> rw [q] at w <;> exact absurd w (by decide)
              · rcases q with q | q <;> rw [q] at w <;> exact absurd w (by decide))
          · refine nR.B (nn 3 rfl dp S (fun w => (hS w).1)) (fun l S1 k1 => ?_)
            split
            · rename_i q
              have hj : isJ (kd E S1) = true := by unfold isJ; rw [decide_eq_true_eq]; omega
              refine nR.B (nn 3 rfl dp (adv S1) (fun w => (k1 w).2.2.2.2)) (fun r S2 k2 => ?_)
              exact nR.A (fun q => by
                obtain ⟨a1, a2, a3, a4, a5⟩ := k2 q
                obtain ⟨b1, b2, b3, b4, b5⟩ := k1 a1
                have a2 : S1.2.1.2 ≤ S2.2.1.2 := a2
                exact ⟨b1, Nat.le_trans b2 a2, a5, by unfold kOk; simp [hj], fun w => by rcases w with w | w | w <;> (rw [w] at hj; exact absurd hj (by decide)), fun _ => ⟨b3, Nat.lt_of_lt_of_le b4 a2⟩, fun _ => ⟨a3, a4⟩, Or.inr (Or.inl (Nat.lt_of_lt_of_le b4 a2)), Or.inr a4⟩)
            · trivial
    · unfold pp6; exact seq 5 7 rfl
    · unfold pp7
      split
      · rename_i q
        rw [show (20 : Nat) = kd E S from q.symm]
        exact tail 5 7 rfl (by rw [q]; rfl) rfl
      · exact stop (g := 0) rfl
    · unfold pp8; exact seq 6 9 rfl
    · rename_i h0 h1 h2 h3 h4 h5 h6 h7 h8
      have g0 : nt ≠ 0 := h0
      have g1 : nt ≠ 1 := h1
      have g2 : nt ≠ 2 := h2
      have g3 : nt ≠ 3 := h3
      have g4 : nt ≠ 4 := h4
      have g5 : nt ≠ 5 := h5
      have g6 : nt ≠ 6 := h6
      have g7 : nt ≠ 7 := h7
      have g8 : nt ≠ 8 := h8
      have ht : tlB nt = true := by unfold tlB; rw [decide_eq_true_eq]; omega
      unfold pp9
      split
      · rename_i q
        rw [show (21 : Nat) = kd E S from q.symm]
        exact tail 6 9 rfl (by rw [q]; rfl) ht
      · exact stop (g := 0) ht
end PB29
