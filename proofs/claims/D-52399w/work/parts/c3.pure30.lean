/-! ===== the lines come to an end, and are sound ===== -/
section PB30
set_option maxRecDepth 100000
def orG (N : Nat) (T : TD) (k : Nat) : Prop := T.2.1 23 k ≤ T.2.1 24 k ∧ T.2.1 24 k ≤ T.1.2 ∧ T.2.1 22 k < N ∧ T.2.1 21 k ≤ 2 ∧ (∀ j, T.2.1 23 k ≤ j → j < T.2.1 24 k → nG N (T.2.1 23 k) T j) ∧ (∀ t, T.2.2 k = some t → T.2.1 23 k ≤ t ∧ t < T.2.1 24 k) ∧ (T.2.1 21 k = 0 → ∀ p, p < 3 → T.2.1 23 k ≤ T.2.1 25 (3 * k + p) ∧ T.2.1 25 (3 * k + p) < T.2.1 24 k)
theorem ndO.m {N N' fr j k l r : Nat} (h : ndO N fr j k l r) (hN : N ≤ N') : ndO N' fr j k l r := by
  obtain ⟨h1, h2, h3, h4, h5, h6⟩ := h
  exact ⟨h1, fun q => Nat.lt_of_lt_of_le (h2 q) hN, h3, h4, by omega, h6⟩
theorem orG.ext {N N' : Nat} {T T' : TD} {k : Nat} (h : orG N T k) (hN : N ≤ N') (h1 : ∀ i, i = 21 ∨ i = 22 ∨ i = 23 ∨ i = 24 → T'.2.1 i k = T.2.1 i k) (h2 : ∀ p, p < 3 → T'.2.1 25 (3 * k + p) = T.2.1 25 (3 * k + p)) (h3 : T'.2.2 k = T.2.2 k) (h4 : T.1.2 ≤ T'.1.2) (h5 : ∀ i j, i = 27 ∨ i = 28 ∨ i = 29 → j < T.1.2 → T'.2.1 i j = T.2.1 i j) : orG N' T' k := by
  obtain ⟨a1, a2, a3, a4, a5, a6, a7⟩ := h
  unfold orG
  rw [h1 21 (by omega), h1 22 (by omega), h1 23 (by omega), h1 24 (by omega), h3]
  refine ⟨a1, by omega, by omega, a4, fun j j1 j2 => ?_, a6, fun q p hp => by rw [h2 p hp]; exact a7 q p hp⟩
  unfold nG
  rw [h5 27 j (by omega) (by omega), h5 28 j (by omega) (by omega), h5 29 j (by omega) (by omega)]
  exact (a5 j j1 j2).m hN
/-- sound lines -/
def GzI (Z : GZ) : Prop := Z.1.2.1.1 ≤ 16 ∧ Z.2.1.2.2 ≤ 16 ∧ Z.1.2.1.2 ≤ Z.1.1.1 ∧ (∀ k, k < Z.1.2.1.1 → orG Z.2.1.2.2 Z.1.2 k) ∧ (∀ k, k < Z.2.1.2.2 → ∀ p, p < 3 → Z.2.2.1 k p ≤ 9) ∧ 3 ≤ Z.2.1.1 ∧ Z.2.1.1 ≤ 7 ∧ 3 ≤ Z.2.1.2.1 ∧ Z.2.1.2.1 ≤ 7
def gR (n : Nat) (S : PS) (P : GZ → Prop) (r : GR) : Prop := match r with
  | none => False
  | some (.inl t) => S.1.1 ≤ t ∧ t ≤ n
  | some (.inr Z) => P Z
variable {n : Nat}
theorem gR.B {S : PS} {P : GZ → Prop} {x : PR} {f : Nat → PS → GR} (h0 : x ≠ none) (hw : ∀ t, x = pW t → S.1.1 ≤ t ∧ t ≤ n) (k : ∀ i S2, x = pO i S2 → gR n S P (f i S2)) : gR n S P (gB x f) := by
  cases x with
  | none => exact absurd rfl h0
  | some y =>
    cases y with
    | inl t => exact hw t rfl
    | inr p => exact k p.1 p.2 rfl
theorem gR.T {E : PE} {S S1 : PS} {P : GZ → Prop} {k : Nat} {f : PS → GR} (h1 : S.1.1 ≤ S1.1.1) (h2 : S1.1.1 ≤ n) (g : kd E S1 = k → gR n S P (f (adv S1))) : gR n S P (gT E k S1 f) := by
  unfold gT
  split
  · rename_i q; exact g q
  · exact ⟨h1, h2⟩
/-- what stays of the tokens, the first soft error, the nodes -/
def sK (n : Nat) (S S' : PS) : Prop := S.1.1 ≤ S'.1.1 ∧ S'.1.1 ≤ n ∧ (∀ x, S.1.2 = some x → S'.1.2 = some x) ∧ S'.2.1.2 + S.1.1 ≤ S.2.1.2 + S'.1.1
theorem sK.tr {S S1 S2 : PS} (a : sK n S S1) (b : sK n S1 S2) : sK n S S2 := ⟨Nat.le_trans a.1 b.1, b.2.1, fun x q => b.2.2.1 x (a.2.2.1 x q), by have := a.2.2.2; have := b.2.2.2; omega⟩
theorem sK.nb {S S1 : PS} (a : sK n S S1) (h : S1.1.2 = none) : S.1.2 = none := by
  cases q : S.1.2 with
  | none => rfl
  | some x => rw [a.2.2.1 x q] at h; cases h
theorem pK.s {S S' : PS} (a : pK n S S') : sK n S S' := ⟨a.1, a.2.1, a.2.2.2.2.2.2.2.2, a.2.2.2.1⟩
theorem mrk_s {e : Option (Nat × Nat)} {c t : Nat} {x : Nat × Nat} (h : e = some x) : mrk e c t = some x := by rw [h]; rfl
theorem pU_n {E : PE} {lo hi : Nat} {S : PS} : pU E lo hi S ≠ none := by
  unfold pU
  split <;> (intro q; cases q)
theorem pU_w {E : PE} {lo hi : Nat} {S : PS} {t : Nat} (h : pU E lo hi S = pW t) : t = S.1.1 := by
  unfold pU at h
  split at h
  · cases h
  · cases h; rfl
theorem pU_o {E : PE} (hK : KOk E.1 n) {lo hi : Nat} {S S1 : PS} {v : Nat} (hS : S.1.1 ≤ n) (h : pU E lo hi S = pO v S1) : sK n S S1 ∧ S1.1.1 = S.1.1 + 1 ∧ S1.2 = S.2 ∧ v = E.2.1 S.1.1 ∧ kd E S = 31 ∧ (S1.1.2 = none → inB v lo hi = true) := by
  unfold pU at h
  split at h
  · rename_i q
    have hl : S.1.1 < n := hK.lt hS (by rw [show E.1 S.1.1 = 31 from q]; decide)
    cases h
    refine ⟨⟨Nat.le_succ _, hl, fun x w => ?_, by show S.2.1.2 + S.1.1 ≤ S.2.1.2 + (S.1.1 + 1); omega⟩, rfl, rfl, rfl, q, fun w => ?_⟩
    · show (if inB (E.2.1 S.1.1) lo hi = true then S.1.2 else mrk S.1.2 5 S.1.1) = some x
      split
      · exact w
      · exact mrk_s w
    · have w : (if inB (E.2.1 S.1.1) lo hi = true then S.1.2 else mrk S.1.2 5 S.1.1) = none := w
      split at w
      · assumption
      · exact absurd w mrk_n
  · cases h
theorem inB_le {v lo hi : Nat} (h : inB v lo hi = true) : lo ≤ v ∧ v ≤ hi := by
  unfold inB at h
  simpa using h
/-- a step of the lines -/
def lK (n : Nat) (S : PS) (G : GX) (Z : GZ) : Prop := sK n S Z.1 ∧ S.1.1 < Z.1.1.1 ∧ (Z.1.1.2 = none → GzI (S, G) → GzI Z)
theorem tiE_s {E : PE} {S : PS} {k : Nat} {x : Nat × Nat} (h : S.1.2 = some x) : tiE E S k = some x := by
  unfold tiE
  split
  · split
    · exact mrk_s (mrk_s h)
    · exact mrk_s h
  · split
    · exact mrk_s h
    · exact h
theorem tiE_n {E : PE} {S : PS} {k : Nat} (h : tiE E S k = none) : k ≠ 16 ∧ E.2.2 S.1.1 = none ∧ S.1.2 = none := by
  unfold tiE at h
  split at h
  · exact absurd h mrk_n
  · rename_i q
    split at h
    · exact absurd h mrk_n
    · rename_i w
      exact ⟨q, by cases he : E.2.2 S.1.1 with | none => rfl | some v => (rw [he] at w; exact absurd rfl w), h⟩
theorem gTi_k {E : PE} (hK : KOk E.1 n) {S : PS} {G : GX} (hS : S.1.1 ≤ n) : gR n S (lK n S G) (gTi E S G) := by
  unfold gTi
  split
  · rename_i q
    have hl : S.1.1 < n := hK.lt hS (by rw [show E.1 S.1.1 = 30 from q]; decide)
    have s0 : sK n S ((S.1.1 + 1, tiE E S (min 16 G.1.2.2)), S.2) := ⟨Nat.le_succ _, hl, fun x w => tiE_s w, by show S.2.1.2 + S.1.1 ≤ S.2.1.2 + (S.1.1 + 1); omega⟩
    refine gR.B pU_n (fun t w => ?_) (fun a S1 w => ?_)
    · have := pU_w w; subst this; exact ⟨s0.1, s0.2.1⟩
    obtain ⟨k1, p1, e1, v1, -, r1⟩ := pU_o hK s0.2.1 w
    refine gR.B pU_n (fun t w => ?_) (fun b S2 w => ?_)
    · have := pU_w w; subst this; exact ⟨(s0.tr k1).1, k1.2.1⟩
    obtain ⟨k2, p2, e2, v2, -, r2⟩ := pU_o hK k1.2.1 w
    refine gR.B pU_n (fun t w => ?_) (fun c S3 w => ?_)
    · have := pU_w w; subst this; exact ⟨((s0.tr k1).tr k2).1, k2.2.1⟩
    obtain ⟨k3, p3, e3, v3, -, r3⟩ := pU_o hK k2.2.1 w
    have s3 := ((s0.tr k1).tr k2).tr k3
    refine ⟨s3, ?_, fun hn hI => ?_⟩
    · show S.1.1 < S3.1.1
      have : ((S.1.1 + 1, tiE E S (min 16 G.1.2.2)), S.2).1.1 = S.1.1 + 1 := rfl
      omega
    · have hn : S3.1.2 = none := hn
      have n2 := k3.nb hn
      have n1 := k2.nb n2
      have n0 : tiE E S (min 16 G.1.2.2) = none := k1.nb n1
      obtain ⟨g1, g2, g3⟩ := tiE_n n0
      have ra := (inB_le (r1 n1)).2
      have rb := (inB_le (r2 n2)).2
      have rc := (inB_le (r3 hn)).2
      obtain ⟨i1, i2, i3, i4, i5, i6⟩ := hI
      have i2 : G.1.2.2 ≤ 16 := i2
      have hm : min 16 G.1.2.2 = G.1.2.2 := by omega
      have hm2 : min 16 (min 16 G.1.2.2 + 1) = G.1.2.2 + 1 := by omega
      have eS : S3.2 = S.2 := e3.trans (e2.trans e1)
      have hN : G.1.2.2 ≤ min 16 (min 16 G.1.2.2 + 1) := by omega
      refine ⟨by show S3.2.1.1 ≤ 16; rw [eS]; exact i1, by show min 16 (min 16 G.1.2.2 + 1) ≤ 16; omega, ?_, ?_, ?_, i6⟩
      · show S3.2.1.2 ≤ S3.1.1
        have i3 : S.2.1.2 ≤ S.1.1 := i3
        have := s3.2.2.2
        omega
      · show ∀ k, k < S3.2.1.1 → orG (min 16 (min 16 G.1.2.2 + 1)) S3.2 k
        rw [eS]
        exact fun k hk => (i4 k hk).ext hN (fun _ _ => rfl) (fun _ _ => rfl) rfl (Nat.le_refl _) (fun _ _ _ _ => rfl)
      · show ∀ k, k < min 16 (min 16 G.1.2.2 + 1) → ∀ p, p < 3 → va_up G.2.1 (min 16 G.1.2.2) (fun p => if p = 0 then a else if p = 1 then b else c) k p ≤ 9
        intro k hk p hp
        by_cases hk2 : k = min 16 G.1.2.2
        · rw [hk2, va_eq]
          show (if p = 0 then a else if p = 1 then b else c) ≤ 9
          split
          · exact ra
          · split
            · exact rb
            · exact rc
        · rw [va_ne hk2]
          exact i5 k (by show k < G.1.2.2; omega) p hp
  · exact ⟨Nat.le_refl _, hS⟩
end PB30
