/-! ===== the grammar: what its walks keep; it comes to an end ===== -/
section PB18
set_option maxRecDepth 100000
/-- an outcome from S on; b: with a token taken -/
def pG (n : Nat) (S : PS) (b : Bool) (r : PR) : Prop := match r with
  | none => True
  | some (.inl t) => S.1.1 ≤ t ∧ t ≤ n
  | some (.inr (i, S')) => pK n S S' ∧ i < S'.2.1.2 ∧ (b = true → S.1.1 < S'.1.1)
theorem pG.W {n : Nat} {S : PS} {b : Bool} {t : Nat} (h1 : S.1.1 ≤ t) (h2 : t ≤ n) : pG n S b (pW t) := ⟨h1, h2⟩
theorem pJ.lt {n : Nat} {S S' : PS} (h : pJ n S S') : S.1.1 < S'.1.1 := by have := h.2; have := h.1.2.2.1; omega
theorem pG.A {n : Nat} {S S1 : PS} {b : Bool} {s l r : Nat} (h : pJ n S S1) : pG n S b (pA s l r S1) :=
  ⟨h.nd, Nat.lt_succ_self _, fun _ => h.lt⟩
theorem pG.O {n : Nat} {S S1 : PS} {b : Bool} {i : Nat} (h : pK n S S1) (hi : i < S1.2.1.2) (hb : b = true → S.1.1 < S1.1.1) : pG n S b (pO i S1) := ⟨h, hi, hb⟩
theorem pG.B {n : Nat} {S S1 : PS} {b b1 : Bool} {x : PR} {f : Nat → PS → PR} (hx : pG n S1 b1 x) (h : pK n S S1) (k : ∀ i S2, x = pO i S2 → pK n S1 S2 → i < S2.2.1.2 → (b1 = true → S1.1.1 < S2.1.1) → pG n S b (f i S2)) : pG n S b (pB x f) := by
  cases x with
  | none => trivial
  | some y =>
    cases y with
    | inl t => exact ⟨Nat.le_trans h.1 hx.1, hx.2⟩
    | inr p => obtain ⟨i, S2⟩ := p; exact k i S2 rfl hx.1 hx.2.1 hx.2.2
theorem pG.T {n : Nat} {E : PE} (hK : KOk E.1 n) {S S1 : PS} {b : Bool} {k : Nat} {f : PS → PR} (h : pK n S S1) (hk : k ≠ 32 ∧ k ≠ 33) (g : S1.1.1 < n → kd E S1 = k → pG n S b (f (adv S1))) : pG n S b (pT E k S1 f) := by
  unfold pT
  split
  · rename_i q
    exact g (hK.lt h.2.1 (by rw [show E.1 S1.1.1 = k from q]; exact hk)) q
  · exact ⟨h.1, h.2.1⟩
theorem pG.N {n : Nat} {E : PE} (hK : KOk E.1 n) {S S1 : PS} {b : Bool} {f : Nat → PS → PR} (h : pK n S S1) (k : ∀ i S2, pN E S1 = pO i S2 → pJ n S1 S2 → pG n S b (f i S2)) : pG n S b (pB (pN E S1) f) := by
  cases hx : pN E S1 with
  | none => trivial
  | some y =>
    cases y with
    | inl t =>
      rcases pN_s hx with ⟨-, q⟩ | ⟨-, q⟩
      · cases q; exact ⟨h.1, h.2.1⟩
      · cases q
    | inr p => obtain ⟨i, S2⟩ := p; exact k i S2 hx (pK.nm hK h.2.1 hx).1
def tlB (nt : Nat) : Bool := decide (nt = 2 ∨ nt = 4 ∨ nt = 7 ∨ nt ≥ 9)
theorem pK.nb {n : Nat} {S S1 : PS} (h : pJ n S S1) : pK n S S1 := h.1
/-- what every walk keeps -/
theorem pp_g {E : PE} {n : Nat} (hK : KOk E.1 n) : ∀ f dp nt lf S, S.1.1 ≤ n → (tlB nt = true → lf < S.2.1.2) → pG n S (!(tlB nt)) (pp E f dp nt lf S)
  | 0, _, _, _, _, _, _ => trivial
  | f + 1, dp, nt, lf, S, hS, hl => by
    have ih := pp_g hK f
    have hlt : ∀ {S1 : PS}, S1.1.1 ≤ n → (kd E S1 ≠ 32 ∧ kd E S1 ≠ 33) → S1.1.1 < n := fun h1 h2 => hK.lt h1 h2
    have tail : ∀ (c : Nat) (g : Nat) (hc : tlB g = true) (lf0 : Nat), (∀ S1 : PS, S1.1.1 ≤ n → pG n S1 true (pp E f dp c 0 S1)) → lf0 < S.2.1.2 → (kd E S ≠ 32 ∧ kd E S ≠ 33) → pG n S false (pB (pp E f dp c 0 (adv S)) (fun v S1 => pB (pA (kd E S) lf0 v S1) (fun i S2 => pp E f dp g i S2))) := by
      intro c g hc lf0 hh hlf hkd
      have h1 := hlt hS hkd
      refine pG.B (hh _ h1) (pK.adv h1) (fun v S1 _ k1 _ _ => ?_)
      refine pG.B (S1 := S) (b1 := true) (pG.A ((pJ.adv h1).tr k1)) (pK.rf hS) (fun i S2 _ k2 hi _ => ?_)
      have := ih dp g i S2 k2.2.1 (fun _ => hi)
      rw [hc] at this
      cases hx : pp E f dp g i S2 with
      | none => trivial
      | some y =>
        rw [hx] at this
        cases y with
        | inl t => exact ⟨Nat.le_trans k2.1 this.1, this.2⟩
        | inr p => exact ⟨k2.tr this.1, this.2.1, fun q => by cases q⟩
    have seq : ∀ (c g : Nat), tlB c = false → tlB g = true → pG n S true (pB (pp E f dp c 0 S) (fun i S1 => pp E f dp g i S1)) := by
      intro c g hc hg
      have h0 := ih dp c 0 S hS (fun q => by rw [hc] at q; cases q)
      rw [hc] at h0
      refine pG.B h0 (pK.rf hS) (fun i S1 _ k1 hi ht => ?_)
      have := ih dp g i S1 k1.2.1 (fun _ => hi)
      cases hx : pp E f dp g i S1 with
      | none => trivial
      | some y =>
        rw [hx] at this
        cases y with
        | inl t => exact ⟨Nat.le_trans k1.1 this.1, this.2⟩
        | inr p => exact ⟨k1.tr this.1, this.2.1, fun _ => Nat.lt_of_lt_of_le (ht rfl) this.1.1⟩
    have nn : ∀ (c : Nat), tlB c = false → ∀ d S1, S1.1.1 ≤ n → pG n S1 true (pp E f d c 0 S1) := fun c hc d S1 h1 => by
      have := ih d c 0 S1 h1 (fun q => by rw [hc] at q; cases q)
      rwa [hc] at this
    unfold pp
    split
    · unfold pp0
      show pG n S true _
      split
      · rename_i q; exact pG.A (pJ.adv (hlt hS (by rw [q]; decide)))
      · split
        · rename_i q; exact pG.A (pJ.adv (hlt hS (by omega)))
        · split
          · rename_i q
            have h1 := hlt hS (by rw [q]; decide)
            refine pG.T hK (pK.adv h1) (by decide) (fun h2 _ => ?_)
            have j := (pJ.adv h1).tr (pK.adv h2)
            exact pG.N hK j.1 (fun i S2 _ k2 => pG.A (j.tr k2.1))
          · split
            · rename_i q
              have h1 := hlt hS (by rcases q with q | q <;> rw [q] <;> decide)
              split
              · rename_i q2
                have h2 : (adv S).1.1 < n := hlt (S1 := adv S) h1 (by rw [show kd E (adv S) = 49 from q2.1]; decide)
                have j := (pJ.adv h1).tr (pK.adv h2)
                refine pG.B (nn 3 rfl _ _ h2) j.1 (fun l S1 _ k1 _ _ => ?_)
                refine pG.T hK (j.1.tr k1) (by decide) (fun h3 _ => ?_)
                refine pG.B (nn 3 rfl _ _ h3) ((j.1.tr k1).tr (pK.adv h3)) (fun r S3 _ k3 _ _ => ?_)
                refine pG.T hK (((j.1.tr k1).tr (pK.adv h3)).tr k3) (by decide) (fun h4 _ => ?_)
                exact pG.A ((((j.tr k1).tr (pK.adv h3)).tr k3).tr (pK.adv h4))
              · exact pG.W (Nat.le_succ _) h1
            · split
              · rename_i q
                have h1 := hlt hS (by rw [q]; decide)
                split
                · have j := pJ.adv h1
                  refine pG.B (nn 3 rfl _ _ h1) j.1 (fun i S1 _ k1 hi _ => ?_)
                  refine pG.T hK (j.1.tr k1) (by decide) (fun h2 _ => ?_)
                  have j2 := (j.tr k1).tr (pK.adv h2)
                  exact pG.O j2.1 hi (fun _ => j2.lt)
                · exact pG.W (Nat.le_refl _) hS
              · split
                · rename_i q
                  have h1 := hlt hS (by rw [q]; decide)
                  split
                  · have j := pJ.adv h1
                    exact pG.B (nn 0 rfl _ _ h1) j.1 (fun i S1 _ k1 _ _ => pG.A (j.tr k1))
                  · exact pG.W (Nat.le_refl _) hS
                · exact pG.W (Nat.le_refl _) hS
    · unfold pp1
      exact seq 0 2 rfl rfl
    · unfold pp2
      show pG n S false _
      split
      · rename_i q; exact tail 0 2 rfl lf (fun S1 h => nn 0 rfl _ _ h) (hl rfl) (by omega)
      · exact pG.O (pK.rf hS) (hl rfl) (fun q => by cases q)
    · unfold pp3
      exact seq 1 4 rfl rfl
    · unfold pp4
      show pG n S false _
      split
      · rename_i q; exact tail 1 4 rfl lf (fun S1 h => nn 1 rfl _ _ h) (hl rfl) (by omega)
      · exact pG.O (pK.rf hS) (hl rfl) (fun q => by cases q)
    · unfold pp5
      show pG n S true _
      split
      · rename_i q
        have h1 := hlt hS (by rw [q]; decide)
        split
        · have j := pJ.adv h1
          exact pG.B (nn 5 rfl _ _ h1) j.1 (fun i S1 _ k1 _ _ => pG.A (j.tr k1))
        · exact pG.W (Nat.le_refl _) hS
      · split
        · rename_i q
          have h1 := hlt hS (by rw [q]; decide)
          split
          · have j := pJ.adv h1
            refine pG.B (nn 8 rfl _ _ h1) j.1 (fun i S1 _ k1 hi _ => ?_)
            refine pG.T hK (j.1.tr k1) (by decide) (fun h2 _ => ?_)
            have j2 := (j.tr k1).tr (pK.adv h2)
            exact pG.O j2.1 hi (fun _ => j2.lt)
          · exact pG.W (Nat.le_refl _) hS
        · split
          · rename_i q
            have h1 := hlt hS (by omega)
            have j := pJ.adv h1
            exact pG.N hK j.1 (fun i S2 _ k2 => pG.A (j.tr k2.1))
          · refine pG.B (nn 3 rfl _ _ hS) (pK.rf hS) (fun l S1 _ k1 _ ht => ?_)
            split
            · rename_i q
              have h2 := hlt k1.2.1 (by omega)
              have j := pJ.adv h2
              refine pG.B (nn 3 rfl _ _ h2) (k1.tr j.1) (fun r S2 _ k2 _ _ => ?_)
              have j2 := j.tr k2
              exact pG.A ⟨k1.tr j2.1, by have := j2.2; have := k1.2.2.2.1; omega⟩
            · exact pG.W k1.1 k1.2.1
    · unfold pp6
      exact seq 5 7 rfl rfl
    · unfold pp7
      show pG n S false _
      split
      · rename_i q
        have := tail 5 7 rfl lf (fun S1 h => nn 5 rfl _ _ h) (hl rfl) (by omega)
        rwa [q] at this
      · exact pG.O (pK.rf hS) (hl rfl) (fun q => by cases q)
    · unfold pp8
      exact seq 6 9 rfl rfl
    · unfold pp9
      rename_i h0 h1 h2 h3 h4 h5 h6 h7 h8
      have e : tlB nt = true := by
        unfold tlB
        refine decide_eq_true ?_
        have g0 : nt ≠ 0 := h0
        have g1 : nt ≠ 1 := h1
        have g2 : nt ≠ 2 := h2
        have g3 : nt ≠ 3 := h3
        have g4 : nt ≠ 4 := h4
        have g5 : nt ≠ 5 := h5
        have g6 : nt ≠ 6 := h6
        have g7 : nt ≠ 7 := h7
        have g8 : nt ≠ 8 := h8
        omega
      rw [e]
      show pG n S false _
      split
      · rename_i q
        have := tail 6 9 rfl lf (fun S1 h => nn 6 rfl _ _ h) (hl e) (by omega)
        rwa [q] at this
      · exact pG.O (pK.rf hS) (hl e) (fun q => by cases q)
theorem pp_o {E : PE} {n : Nat} (hK : KOk E.1 n) {f dp nt lf : Nat} {S : PS} {i : Nat} {S' : PS} (hS : S.1.1 ≤ n) (hl : tlB nt = true → lf < S.2.1.2) (h : pp E f dp nt lf S = pO i S') : pK n S S' ∧ i < S'.2.1.2 ∧ (tlB nt = false → S.1.1 < S'.1.1) := by
  have := pp_g hK f dp nt lf S hS hl
  rw [h] at this
  exact ⟨this.1, this.2.1, fun q => this.2.2 (by rw [q]; rfl)⟩
theorem pp_w {E : PE} {n : Nat} (hK : KOk E.1 n) {f dp nt lf : Nat} {S : PS} {t : Nat} (hS : S.1.1 ≤ n) (hl : tlB nt = true → lf < S.2.1.2) (h : pp E f dp nt lf S = pW t) : S.1.1 ≤ t ∧ t ≤ n := by
  have := pp_g hK f dp nt lf S hS hl
  rw [h] at this
  exact this
/-- it comes to an end -/
def rkN (nt : Nat) : Nat := match nt with
  | 0 => 0
  | 1 => 1
  | 2 => 1
  | 3 => 2
  | 4 => 2
  | 5 => 3
  | 6 => 4
  | 7 => 4
  | 8 => 5
  | _ => 5
theorem pB_n {x : PR} {f : Nat → PS → PR} (hx : x ≠ none) (k : ∀ i S, x = pO i S → f i S ≠ none) : pB x f ≠ none := by
  cases x with
  | none => exact absurd rfl hx
  | some y =>
    cases y with
    | inl t => intro q; cases q
    | inr p => obtain ⟨i, S⟩ := p; exact k i S rfl
theorem pT_n {E : PE} {k : Nat} {S : PS} {f : PS → PR} (h : kd E S = k → f (adv S) ≠ none) : pT E k S f ≠ none := by
  unfold pT
  split
  · rename_i q; exact h q
  · intro q; cases q
theorem pN_n {E : PE} {S : PS} : pN E S ≠ none := by
  unfold pN
  split <;> (intro q; cases q)
theorem pA_n {s l r : Nat} {S : PS} : pA s l r S ≠ none := fun q => by cases q
theorem pp_t {E : PE} {n : Nat} (hK : KOk E.1 n) : ∀ f dp nt lf S, dp ≤ 8 → S.1.1 ≤ n → (tlB nt = true → lf < S.2.1.2) → (n - S.1.1) + 8 * (8 - dp) + rkN nt < f → pp E f dp nt lf S ≠ none
  | 0, _, _, _, _, _, _, _, hf => by omega
  | f + 1, dp, nt, lf, S, hd, hS, hl, hf => by
    have ih := pp_t hK f
    have hlt : ∀ {S1 : PS}, S1.1.1 ≤ n → (kd E S1 ≠ 32 ∧ kd E S1 ≠ 33) → S1.1.1 < n := fun h1 h2 => hK.lt h1 h2
    have ol : ∀ {d c : Nat} {S1 : PS} {i : Nat} {S2 : PS}, tlB c = false → S1.1.1 ≤ n → pp E f d c 0 S1 = pO i S2 → S1.1.1 < S2.1.1 ∧ S2.1.1 ≤ n ∧ i < S2.2.1.2 := fun hc h1 h => by
      have := pp_o hK h1 (fun q => by rw [hc] at q; cases q) h
      exact ⟨this.2.2 hc, this.1.2.1, this.2.1⟩
    have a1 : (adv S).1.1 = S.1.1 + 1 := rfl
    have tail : ∀ (c g : Nat), tlB c = false → tlB g = true → rkN c + 0 < rkN nt + 1 → rkN g ≤ rkN nt → (kd E S ≠ 32 ∧ kd E S ≠ 33) → ∀ k, pB (pp E f dp c 0 (adv S)) (fun v S1 => pB (pA k lf v S1) (fun i S2 => pp E f dp g i S2)) ≠ none := by
      intro c g hc hg r1 r2 hkd k
      have h1 := hlt hS hkd
      refine pB_n (ih dp c 0 _ hd h1 (fun q => by rw [hc] at q; cases q) (by rw [a1]; omega)) (fun v S1 e => ?_)
      have o := ol (S1 := adv S) hc h1 e
      rw [a1] at o
      refine pB_n pA_n (fun i S2 e2 => ?_)
      cases e2
      refine ih dp g _ _ hd o.2.1 (fun _ => Nat.lt_succ_self _) ?_
      show n - S1.1.1 + 8 * (8 - dp) + rkN g < f
      omega
    have seq : ∀ (c g : Nat), tlB c = false → tlB g = true → rkN c + 1 ≤ rkN nt → rkN g ≤ rkN nt → pB (pp E f dp c 0 S) (fun i S1 => pp E f dp g i S1) ≠ none := by
      intro c g hc hg r1 r2
      refine pB_n (ih dp c 0 _ hd hS (fun q => by rw [hc] at q; cases q) (by omega)) (fun i S1 e => ?_)
      have o := ol hc hS e
      exact ih dp g _ _ hd o.2.1 (fun _ => o.2.2) (by omega)
    have w : ∀ t, (pW t : PR) ≠ none := fun t q => by cases q
    have oo : ∀ i S1, (pO i S1 : PR) ≠ none := fun i S1 q => by cases q
    unfold pp
    split
    · unfold pp0
      split
      · exact pA_n
      · split
        · exact pA_n
        · split
          · exact pT_n (fun _ => pB_n pN_n (fun _ _ _ => pA_n))
          · split
            · rename_i q
              have h1 := hlt hS (by rcases q with q | q <;> rw [q] <;> decide)
              split
              · rename_i q2
                have h2 : (adv S).1.1 < n := hlt (S1 := adv S) h1 (by rw [show kd E (adv S) = 49 from q2.1]; decide)
                have a2 : (adv (adv S)).1.1 = S.1.1 + 2 := rfl
                have h2' : (adv (adv S)).1.1 ≤ n := h2
                have hr : rkN 3 = 2 := rfl
                refine pB_n (ih (dp + 1) 3 0 _ (by omega) h2' (fun q => by cases q) (by rw [a2]; omega)) (fun l S1 e => ?_)
                have o := ol (c := 3) rfl h2' e
                rw [a2] at o
                refine pT_n (fun q3 => ?_)
                have h3 := hlt o.2.1 (by rw [q3]; decide)
                have a3 : (adv S1).1.1 = S1.1.1 + 1 := rfl
                refine pB_n (ih (dp + 1) 3 0 _ (by omega) h3 (fun q => by cases q) (by rw [a3]; omega)) (fun r S3 e3 => ?_)
                exact pT_n (fun _ => pA_n)
              · exact w _
            · split
              · rename_i q
                have h1 := hlt hS (by rw [q]; decide)
                split
                · have hr : rkN 3 = 2 := rfl
                  exact pB_n (ih (dp + 1) 3 0 _ (by omega) h1 (fun q => by cases q) (by rw [a1]; omega)) (fun _ _ _ => pT_n (fun _ => oo _ _))
                · exact w _
              · split
                · rename_i q
                  have h1 := hlt hS (by rw [q]; decide)
                  split
                  · have hr : rkN 0 = 0 := rfl
                    exact pB_n (ih (dp + 1) 0 0 _ (by omega) h1 (fun q => by cases q) (by rw [a1]; omega)) (fun _ _ _ => pA_n)
                  · exact w _
                · exact w _
    · unfold pp1
      exact seq 0 2 rfl rfl (by decide) (by decide)
    · unfold pp2
      split
      · exact tail 0 2 rfl rfl (by decide) (by decide) (by omega) _
      · exact oo _ _
    · unfold pp3
      exact seq 1 4 rfl rfl (by decide) (by decide)
    · unfold pp4
      split
      · exact tail 1 4 rfl rfl (by decide) (by decide) (by omega) _
      · exact oo _ _
    · unfold pp5
      have hr : rkN 5 = 3 := rfl
      have hr3 : rkN 3 = 2 := rfl
      have hr8 : rkN 8 = 5 := rfl
      split
      · rename_i q
        have h1 := hlt hS (by rw [q]; decide)
        split
        · exact pB_n (ih (dp + 1) 5 0 _ (by omega) h1 (fun q => by cases q) (by rw [a1]; omega)) (fun _ _ _ => pA_n)
        · exact w _
      · split
        · rename_i q
          have h1 := hlt hS (by rw [q]; decide)
          split
          · exact pB_n (ih (dp + 1) 8 0 _ (by omega) h1 (fun q => by cases q) (by rw [a1]; omega)) (fun _ _ _ => pT_n (fun _ => oo _ _))
          · exact w _
        · split
          · exact pB_n pN_n (fun _ _ _ => pA_n)
          · refine pB_n (ih dp 3 0 _ hd hS (fun q => by cases q) (by omega)) (fun l S1 e => ?_)
            have o := ol (c := 3) rfl hS e
            split
            · rename_i q
              have h2 := hlt o.2.1 (by omega)
              have a3 : (adv S1).1.1 = S1.1.1 + 1 := rfl
              exact pB_n (ih dp 3 0 _ hd h2 (fun q => by cases q) (by rw [a3]; omega)) (fun _ _ _ => pA_n)
            · exact w _
    · unfold pp6
      exact seq 5 7 rfl rfl (by decide) (by decide)
    · unfold pp7
      split
      · exact tail 5 7 rfl rfl (by decide) (by decide) (by omega) _
      · exact oo _ _
    · unfold pp8
      exact seq 6 9 rfl rfl (by decide) (by decide)
    · unfold pp9
      rename_i h0 h1 h2 h3 h4 h5 h6 h7 h8
      have e : rkN nt = 5 := by
        unfold rkN
        split <;> first | rfl | (exact absurd rfl (by assumption))
      split
      · exact tail 6 9 rfl rfl (by rw [e]; decide) (by rw [e]; decide) (by omega) _
      · exact oo _ _
end PB18
