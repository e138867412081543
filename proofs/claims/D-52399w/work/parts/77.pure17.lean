/-! ===== the grammar, in plain numbers ===== -/
section PB17
set_option maxRecDepth 100000
/-- kinds, numbers, the tile that a name names -/
abbrev PE : Type := (Nat → Nat) × (Nat → Nat) × (Nat → Option Nat)
/-- the token of now, the first soft error (what, where), the orders and nodes -/
abbrev PS : Type := (Nat × Option (Nat × Nat)) × TD
abbrev PR : Type := Option (Nat ⊕ (Nat × PS))
abbrev kd (E : PE) (S : PS) : Nat := E.1 S.1.1
abbrev adv (S : PS) : PS := ((S.1.1 + 1, S.1.2), S.2)
def ndA (T : TD) (s l r : Nat) : TD := ((T.1.1, T.1.2 + 1), va_up (va_up (va_up T.2.1 27 (va_up (T.2.1 27) T.1.2 s)) 28 (va_up (T.2.1 28) T.1.2 l)) 29 (va_up (T.2.1 29) T.1.2 r), T.2.2)
abbrev pW (t : Nat) : PR := some (.inl t)
abbrev pO (i : Nat) (S : PS) : PR := some (.inr (i, S))
def pA (s l r : Nat) (S : PS) : PR := pO S.2.1.2 (S.1, ndA S.2 s l r)
def pB (x : PR) (f : Nat → PS → PR) : PR := match x with
  | none => none
  | some (.inl t) => some (.inl t)
  | some (.inr (i, S)) => f i S
def mrk (e : Option (Nat × Nat)) (c t : Nat) : Option (Nat × Nat) := match e with
  | none => some (c, t)
  | some x => some x
/-- a token of a kind -/
def pT (E : PE) (k : Nat) (S : PS) (f : PS → PR) : PR := if kd E S = k then f (adv S) else pW S.1.1
def pN (E : PE) (S : PS) : PR := if kd E S = 30 then pO ((E.2.2 S.1.1).getD 0) ((S.1.1 + 1, match E.2.2 S.1.1 with | none => mrk S.1.2 3 S.1.1 | some _ => S.1.2), S.2) else pW S.1.1
/-- value, product (and its rest), sum (and its rest), single, both (and its rest), test (and its rest) -/
def pp0 (E : PE) (rc : Nat → Nat → Nat → PS → PR) (dp lf : Nat) (S : PS) : PR := if kd E S = 31 then pA 31 (E.2.1 S.1.1) 0 (adv S)
  else if 9 ≤ kd E S ∧ kd E S ≤ 14 then pA (kd E S) 0 0 (adv S)
  else if kd E S = 15 then pT E 16 (adv S) (fun S1 => pB (pN E S1) (fun i S2 => pA 15 i 0 S2))
  else if kd E S = 22 ∨ kd E S = 23 then (if E.1 (S.1.1 + 1) = 49 ∧ dp ≠ 8 then pB (rc (dp + 1) 3 0 (adv (adv S))) (fun l S1 => pT E 54 S1 (fun S2 => pB (rc (dp + 1) 3 0 S2) (fun r S3 => pT E 50 S3 (fun S4 => pA (kd E S) l r S4)))) else pW (S.1.1 + 1))
  else if kd E S = 49 then (if dp ≠ 8 then pB (rc (dp + 1) 3 0 (adv S)) (fun i S1 => pT E 50 S1 (fun S2 => pO i S2)) else pW S.1.1)
  else if kd E S = 41 then (if dp ≠ 8 then pB (rc (dp + 1) 0 0 (adv S)) (fun i S1 => pA 60 i 0 S1) else pW S.1.1)
  else pW S.1.1
def pp1 (E : PE) (rc : Nat → Nat → Nat → PS → PR) (dp lf : Nat) (S : PS) : PR := pB (rc dp 0 0 S) (fun i S1 => rc dp 2 i S1)
def pp2 (E : PE) (rc : Nat → Nat → Nat → PS → PR) (dp lf : Nat) (S : PS) : PR := if kd E S = 42 ∨ kd E S = 43 then pB (rc dp 0 0 (adv S)) (fun v S1 => pB (pA (kd E S) lf v S1) (fun i S2 => rc dp 2 i S2)) else pO lf S
def pp3 (E : PE) (rc : Nat → Nat → Nat → PS → PR) (dp lf : Nat) (S : PS) : PR := pB (rc dp 1 0 S) (fun i S1 => rc dp 4 i S1)
def pp4 (E : PE) (rc : Nat → Nat → Nat → PS → PR) (dp lf : Nat) (S : PS) : PR := if kd E S = 40 ∨ kd E S = 41 then pB (rc dp 1 0 (adv S)) (fun v S1 => pB (pA (kd E S) lf v S1) (fun i S2 => rc dp 4 i S2)) else pO lf S
def pp5 (E : PE) (rc : Nat → Nat → Nat → PS → PR) (dp lf : Nat) (S : PS) : PR := if kd E S = 19 then (if dp ≠ 8 then pB (rc (dp + 1) 5 0 (adv S)) (fun i S1 => pA 19 i 0 S1) else pW S.1.1)
  else if kd E S = 51 then (if dp ≠ 8 then pB (rc (dp + 1) 8 0 (adv S)) (fun i S1 => pT E 52 S1 (fun S2 => pO i S2)) else pW S.1.1)
  else if kd E S = 17 ∨ kd E S = 18 then pB (pN E (adv S)) (fun i S1 => pA (kd E S) i 0 S1)
  else pB (rc dp 3 0 S) (fun l S1 => if 44 ≤ kd E S1 ∧ kd E S1 ≤ 48 then pB (rc dp 3 0 (adv S1)) (fun r S2 => pA (kd E S1) l r S2) else pW S1.1.1)
def pp6 (E : PE) (rc : Nat → Nat → Nat → PS → PR) (dp lf : Nat) (S : PS) : PR := pB (rc dp 5 0 S) (fun i S1 => rc dp 7 i S1)
def pp7 (E : PE) (rc : Nat → Nat → Nat → PS → PR) (dp lf : Nat) (S : PS) : PR := if kd E S = 20 then pB (rc dp 5 0 (adv S)) (fun v S1 => pB (pA 20 lf v S1) (fun i S2 => rc dp 7 i S2)) else pO lf S
def pp8 (E : PE) (rc : Nat → Nat → Nat → PS → PR) (dp lf : Nat) (S : PS) : PR := pB (rc dp 6 0 S) (fun i S1 => rc dp 9 i S1)
def pp9 (E : PE) (rc : Nat → Nat → Nat → PS → PR) (dp lf : Nat) (S : PS) : PR := if kd E S = 21 then pB (rc dp 6 0 (adv S)) (fun v S1 => pB (pA 21 lf v S1) (fun i S2 => rc dp 9 i S2)) else pO lf S
def pp (E : PE) : Nat → Nat → Nat → Nat → PS → PR
  | 0, _, _, _, _ => none
  | f + 1, dp, nt, lf, S => match nt with
    | 0 => pp0 E (pp E f) dp lf S
    | 1 => pp1 E (pp E f) dp lf S
    | 2 => pp2 E (pp E f) dp lf S
    | 3 => pp3 E (pp E f) dp lf S
    | 4 => pp4 E (pp E f) dp lf S
    | 5 => pp5 E (pp E f) dp lf S
    | 6 => pp6 E (pp E f) dp lf S
    | 7 => pp7 E (pp E f) dp lf S
    | 8 => pp8 E (pp E f) dp lf S
    | _ => pp9 E (pp E f) dp lf S
theorem pB_s {x : PR} {f : Nat → PS → PR} {r : Nat ⊕ (Nat × PS)} (h : pB x f = some r) : (∃ t, x = some (.inl t) ∧ r = .inl t) ∨ ∃ i S, x = some (.inr (i, S)) ∧ f i S = some r := by
  cases x with
  | none => cases h
  | some y =>
    cases y with
    | inl t => left; exact ⟨t, rfl, (Option.some.inj h).symm⟩
    | inr p => obtain ⟨i, S⟩ := p; right; exact ⟨i, S, rfl, h⟩
theorem pB_o {i : Nat} {S : PS} {f : Nat → PS → PR} : pB (pO i S) f = f i S := rfl
theorem pT_s {E : PE} {k : Nat} {S : PS} {f : PS → PR} {r : Nat ⊕ (Nat × PS)} (h : pT E k S f = some r) : (kd E S ≠ k ∧ r = .inl S.1.1) ∨ (kd E S = k ∧ f (adv S) = some r) := by
  unfold pT at h
  split at h
  · rename_i q; right; exact ⟨q, h⟩
  · rename_i q; left; exact ⟨q, (Option.some.inj h).symm⟩
theorem pN_s {E : PE} {S : PS} {r : Nat ⊕ (Nat × PS)} (h : pN E S = some r) : (kd E S ≠ 30 ∧ r = .inl S.1.1) ∨ (kd E S = 30 ∧ r = .inr ((E.2.2 S.1.1).getD 0, ((S.1.1 + 1, match E.2.2 S.1.1 with | none => mrk S.1.2 3 S.1.1 | some _ => S.1.2), S.2))) := by
  unfold pN at h
  split at h
  · rename_i q; right; exact ⟨q, (Option.some.inj h).symm⟩
  · rename_i q; left; exact ⟨q, (Option.some.inj h).symm⟩
/-- what a walk over a good text keeps: tokens go on, at most as many nodes as tokens, nodes stay, a soft error stays -/
def pK (n : Nat) (S S' : PS) : Prop := S.1.1 ≤ S'.1.1 ∧ S'.1.1 ≤ n ∧ S.2.1.2 ≤ S'.2.1.2 ∧ S'.2.1.2 + S.1.1 ≤ S.2.1.2 + S'.1.1 ∧ (∀ i k, i = 27 ∨ i = 28 ∨ i = 29 → k < S.2.1.2 → S'.2.2.1 i k = S.2.2.1 i k) ∧ (∀ i, i ≠ 27 → i ≠ 28 → i ≠ 29 → S'.2.2.1 i = S.2.2.1 i) ∧ S'.2.1.1 = S.2.1.1 ∧ S'.2.2.2 = S.2.2.2 ∧ ∀ x, S.1.2 = some x → S'.1.2 = some x
theorem pK.rf {n : Nat} {S : PS} (h : S.1.1 ≤ n) : pK n S S := ⟨Nat.le_refl _, h, Nat.le_refl _, Nat.le_refl _, fun _ _ _ _ => rfl, fun _ _ _ _ => rfl, rfl, rfl, fun _ q => q⟩
theorem pK.tr {n : Nat} {S S1 S2 : PS} (a : pK n S S1) (b : pK n S1 S2) : pK n S S2 := by
  obtain ⟨a1, a2, a3, a4, a5, a6, a7, a8, a9⟩ := a
  obtain ⟨b1, b2, b3, b4, b5, b6, b7, b8, b9⟩ := b
  exact ⟨by omega, b2, by omega, by omega, fun i k hi hk => (b5 i k hi (by omega)).trans (a5 i k hi hk), fun i h1 h2 h3 => (b6 i h1 h2 h3).trans (a6 i h1 h2 h3), b7.trans a7, b8.trans a8, fun x q => b9 x (a9 x q)⟩
theorem pK.adv {n : Nat} {S : PS} (h : S.1.1 < n) : pK n S (adv S) := ⟨Nat.le_succ _, h, Nat.le_refl _, by show S.2.1.2 + S.1.1 ≤ S.2.1.2 + (S.1.1 + 1); omega, fun _ _ _ _ => rfl, fun _ _ _ _ => rfl, rfl, rfl, fun _ q => q⟩
/-- .. with a node: a token more than nodes has been taken -/
def pJ (n : Nat) (S S' : PS) : Prop := pK n S S' ∧ S'.2.1.2 + S.1.1 < S.2.1.2 + S'.1.1
theorem pJ.tr {n : Nat} {S S1 S2 : PS} (a : pJ n S S1) (b : pK n S1 S2) : pJ n S S2 := ⟨a.1.tr b, by have := a.2; have := b.2.2.2.1; omega⟩
theorem pJ.adv {n : Nat} {S : PS} (h : S.1.1 < n) : pJ n S (adv S) := ⟨pK.adv h, by show S.2.1.2 + S.1.1 < S.2.1.2 + (S.1.1 + 1); omega⟩
theorem ndA_i {T : TD} {s l r i k : Nat} (hk : k < T.1.2) : (ndA T s l r).2.1 i k = T.2.1 i k := by
  show va_up (va_up (va_up T.2.1 27 _) 28 _) 29 _ i k = _
  by_cases h9 : i = 29
  · rw [h9, va_eq, va_ne (by omega)]
  · rw [va_ne h9]
    by_cases h8 : i = 28
    · rw [h8, va_eq, va_ne (by omega)]
    · rw [va_ne h8]
      by_cases h7 : i = 27
      · rw [h7, va_eq, va_ne (by omega)]
      · rw [va_ne h7]
theorem ndA_o {T : TD} {s l r i : Nat} (h7 : i ≠ 27) (h8 : i ≠ 28) (h9 : i ≠ 29) : (ndA T s l r).2.1 i = T.2.1 i := by
  show va_up (va_up (va_up T.2.1 27 _) 28 _) 29 _ i = _
  rw [va_ne h9, va_ne h8, va_ne h7]
theorem ndA_n {T : TD} {s l r : Nat} : (ndA T s l r).2.1 27 T.1.2 = s ∧ (ndA T s l r).2.1 28 T.1.2 = l ∧ (ndA T s l r).2.1 29 T.1.2 = r := by
  refine ⟨?_, ?_, ?_⟩
  · show (va_up (va_up (va_up T.2.1 27 (va_up (T.2.1 27) T.1.2 s)) 28 (va_up (T.2.1 28) T.1.2 l)) 29 (va_up (T.2.1 29) T.1.2 r)) 27 T.1.2 = _; rw [va_ne (by decide), va_ne (by decide), va_eq, va_eq]
  · show (va_up (va_up (va_up T.2.1 27 (va_up (T.2.1 27) T.1.2 s)) 28 (va_up (T.2.1 28) T.1.2 l)) 29 (va_up (T.2.1 29) T.1.2 r)) 28 T.1.2 = _; rw [va_ne (by decide), va_eq, va_eq]
  · show (va_up (va_up (va_up T.2.1 27 (va_up (T.2.1 27) T.1.2 s)) 28 (va_up (T.2.1 28) T.1.2 l)) 29 (va_up (T.2.1 29) T.1.2 r)) 29 T.1.2 = _; rw [va_eq, va_eq]
theorem pA_s {s l r : Nat} {S : PS} {x : Nat ⊕ (Nat × PS)} (h : pA s l r S = some x) : x = .inr (S.2.1.2, (S.1, ndA S.2 s l r)) := (Option.some.inj h).symm
theorem pJ.nd {n : Nat} {S S1 : PS} {s l r : Nat} (a : pJ n S S1) : pK n S (S1.1, ndA S1.2 s l r) := by
  obtain ⟨⟨a1, a2, a3, a4, a5, a6, a7, a8, a9⟩, a0⟩ := a
  refine ⟨a1, a2, ?_, ?_, fun i k hi hk => (ndA_i (by omega)).trans (a5 i k hi hk), fun i h1 h2 h3 => (ndA_o h1 h2 h3).trans (a6 i h1 h2 h3), a7, a8, a9⟩
  · show S.2.1.2 ≤ S1.2.1.2 + 1; omega
  · show S1.2.1.2 + 1 + S.1.1 ≤ S.2.1.2 + S1.1.1; omega
theorem pK.nm {n : Nat} {E : PE} (hK : KOk E.1 n) {S : PS} (hS : S.1.1 ≤ n) {i : Nat} {S' : PS} (h : pN E S = pO i S') : pJ n S S' ∧ kd E S = 30 ∧ i = (E.2.2 S.1.1).getD 0 := by
  rcases pN_s h with ⟨-, q⟩ | ⟨q1, q⟩
  · cases q
  · cases q
    have hlt : S.1.1 < n := by
      rcases Nat.lt_or_ge S.1.1 n with q | q
      · exact q
      · have e : S.1.1 = n := by omega
        have := hK.2.1
        rw [← e] at this
        have q1 : E.1 S.1.1 = 30 := q1
        omega
    refine ⟨⟨⟨Nat.le_succ _, hlt, Nat.le_refl _, ?_, fun _ _ _ _ => rfl, fun _ _ _ _ => rfl, rfl, rfl, fun x q => ?_⟩, ?_⟩, q1, rfl⟩
    · show S.2.1.2 + S.1.1 ≤ S.2.1.2 + (S.1.1 + 1); omega
    · show (match E.2.2 S.1.1 with | none => mrk S.1.2 3 S.1.1 | some _ => S.1.2) = some x
      split
      · rw [q]; rfl
      · exact q
    · show S.2.1.2 + S.1.1 < S.2.1.2 + (S.1.1 + 1); omega
theorem KOk.lt {K : Nat → Nat} {n k : Nat} (hK : KOk K n) (hk : k ≤ n) (h : K k ≠ 32 ∧ K k ≠ 33) : k < n := by
  rcases Nat.lt_or_ge k n with q | q
  · exact q
  · have e : k = n := by omega
    have := hK.2.1
    rw [← e] at this
    omega
end PB17
