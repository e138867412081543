/-! ===== orders ===== -/
section PB14
set_option maxRecDepth 100000
/-- orders, nodes; rows by their places (21 does, 22 tile, 23 from, 24 to, 25 sums, 27 sort, 28 left, 29 right); tests -/
abbrev TD : Type := (Nat × Nat) × (Nat → Nat → Nat) × (Nat → Option Nat)
def TdP (M : MS) (T : TD) : Prop := M.1 23 = nI T.1.1 ∧ (∀ i k, i = 21 ∨ i = 22 ∨ i = 23 ∨ i = 24 → k < T.1.1 → M.2.1 i k = nI (T.2.1 i k)) ∧ (∀ k p, k < T.1.1 → T.2.1 21 k = 0 → p < 3 → M.2.1 25 (3 * k + p) = nI (T.2.1 25 (3 * k + p))) ∧ (∀ k, k < T.1.1 → M.2.1 26 k = oI (T.2.2 k)) ∧ ∀ i k, i = 27 ∨ i = 28 ∨ i = 29 → k < T.1.2 → M.2.1 i k = nI (T.2.1 i k)
/-- sound orders for boards with so many tiles -/
def TdS (B : GB) (T : TD) : Prop := T.1.1 ≤ 16 ∧ T.1.2 ≤ 800 ∧ ∀ k, k < T.1.1 → T.2.1 23 k ≤ T.2.1 24 k ∧ T.2.1 24 k ≤ T.1.2 ∧ T.2.1 22 k < Bt B ∧ T.2.1 21 k ≤ 2 ∧ (∀ i, T.2.1 23 k ≤ i → i < T.2.1 24 k → rkP B (T.2.1 27 i) (T.2.1 28 i) (T.2.1 29 i) ∧ T.2.1 28 i < 2 ^ 31 ∧ T.2.1 29 i < 2 ^ 31) ∧ (∀ t, T.2.2 k = some t → t < 800) ∧ (T.2.1 21 k = 0 → ∀ p, p < 3 → T.2.1 25 (3 * k + p) < 800)
/-- the values after n nodes from f on -/
def ndV (B : GB) (rn : Int32) (T : TD) (vl : Nat → Int32) (f : Nat) : Nat → Nat → Int32
  | 0 => vl
  | n + 1 => upd (ndV B rn T vl f n) (f + n) (rkI B rn (ndV B rn T vl f n) (T.2.1 27 (f + n)) (T.2.1 28 (f + n)) (T.2.1 29 (f + n)))
def coV (B : GB) (rn : Int32) (T : TD) (vl : Nat → Int32) (k : Nat) : Nat → Int32 := ndV B rn T vl (T.2.1 23 k) (T.2.1 24 k - T.2.1 23 k)
def teB (T : TD) (v : Nat → Int32) (k : Nat) : Bool := match T.2.2 k with
  | none => true
  | some t => decide (¬ v t = 0)
def coB (B : GB) (T : TD) (v : Nat → Int32) (k : Nat) : Bool × GB := match teB T v k with
  | false => (false, B)
  | true => match T.2.1 21 k with
    | 2 => match fwN B (T.2.1 22 k) with
      | none => (false, B)
      | some w => (true, putB B (T.2.1 22 k) (w / 6) (w % 6))
    | 0 => match ftN B (T.2.1 22 k) (fmN (v (T.2.1 25 (3 * k + 1))) (Br B) * Bc B + fmN (v (T.2.1 25 (3 * k))) (Bc B)) (fmN (v (T.2.1 25 (3 * k + 2))) 6) with
      | false => (false, B)
      | true => (true, putB B (T.2.1 22 k) (fmN (v (T.2.1 25 (3 * k + 1))) (Br B) * Bc B + fmN (v (T.2.1 25 (3 * k))) (Bc B)) (fmN (v (T.2.1 25 (3 * k + 2))) 6))
    | _ => match Bp B (T.2.1 22 k) with
      | none => (false, B)
      | some _ => (true, takB B (T.2.1 22 k))
/-- only a state and the values have changed -/
def Mst (b a : Nat) (M M' : MS) : Prop := (∀ j, j ≠ b → M'.1 j = M.1 j) ∧ ∀ i, i ≠ 9 → i ≠ a → i ≠ a + 1 → i ≠ a + 2 → M'.2.1 i = M.2.1 i
theorem Mst.rf {b a : Nat} {M : MS} : Mst b a M M := ⟨fun _ _ => rfl, fun _ _ _ _ _ => rfl⟩
theorem Mst.tr {b a : Nat} {M M1 M2 : MS} (h1 : Mst b a M M1) (h2 : Mst b a M1 M2) : Mst b a M M2 := ⟨fun j hj => (h2.1 j hj).trans (h1.1 j hj), fun i h9 ha hb hc => (h2.2 i h9 ha hb hc).trans (h1.2 i h9 ha hb hc)⟩
theorem Mst.v {b a : Nat} {M : MS} {f : Nat → Int32} : Mst b a M (M.1, va_up M.2.1 9 f, M.2.2) := ⟨fun _ _ => rfl, fun i h9 _ _ _ => va_ne h9⟩
theorem Mst.p {b a : Nat} {M : MS} {k x t : Nat} : Mst b a M (putM M b a k x t) := ⟨fun j hj => upd_ne hj, fun i _ ha hb hc => by
  show va_up (va_up (va_up M.2.1 a _) (a + 1) _) (a + 2) _ i = _
  rw [va_ne hc, va_ne hb, va_ne ha]⟩
theorem Mst.k {b a : Nat} {M : MS} {k x : Nat} : Mst b a M (takM M b a k x) := ⟨fun j hj => upd_ne hj, fun i _ ha hb _ => by
  show va_up (va_up M.2.1 a _) (a + 1) _ i = _
  rw [va_ne hb, va_ne ha]⟩
theorem MBd.v {M : MS} {b a : Nat} {B : GB} {f : Nat → Int32} (hb : MBd M b a B) (ha : a = 40 ∨ a = 43) : MBd (M.1, va_up M.2.1 9 f, M.2.2) b a B := by
  obtain ⟨h1, h2, h3, h4, h5, h6, h7, h8⟩ := hb
  refine ⟨h1, h2, h3, fun k p hk hp => ?_, h5, ?_, ?_, fun k x hk => ?_⟩
  · show va_up M.2.1 9 f 20 _ = _; rw [va_ne (by decide)]; exact h4 k p hk hp
  · show va_up M.2.1 9 f a = _; rw [va_ne (by omega)]; exact h6
  · show va_up M.2.1 9 f (a + 1) = _; rw [va_ne (by omega)]; exact h7
  · show va_up M.2.1 9 f (a + 2) k = _; rw [va_ne (by omega)]; exact h8 k x hk
theorem TdP.v {M : MS} {T : TD} {f : Nat → Int32} (h : TdP M T) : TdP (M.1, va_up M.2.1 9 f, M.2.2) T := by
  obtain ⟨h1, h2, h3, h4, h5⟩ := h
  refine ⟨h1, fun i k hi hk => ?_, fun k p hk hd hp => ?_, fun k hk => ?_, fun i k hi hk => ?_⟩
  · show va_up M.2.1 9 f i k = _; rw [va_ne (by omega)]; exact h2 i k hi hk
  · show va_up M.2.1 9 f 25 _ = _; rw [va_ne (by decide)]; exact h3 k p hk hd hp
  · show va_up M.2.1 9 f 26 k = _; rw [va_ne (by decide)]; exact h4 k hk
  · show va_up M.2.1 9 f i k = _; rw [va_ne (by omega)]; exact h5 i k hi hk
theorem TdP.st {M M' : MS} {T : TD} {b a : Nat} (h : TdP M T) (hs : Mst b a M M') (hb : b ≠ 23) (ha : a = 40 ∨ a = 43) : TdP M' T := by
  obtain ⟨h1, h2, h3, h4, h5⟩ := h
  refine ⟨(hs.1 23 (Ne.symm hb)).trans h1, fun i k hi hk => ?_, fun k p hk hd hp => ?_, fun k hk => ?_, fun i k hi hk => ?_⟩
  · rw [hs.2 i (by omega) (by omega) (by omega) (by omega)]; exact h2 i k hi hk
  · rw [hs.2 25 (by omega) (by omega) (by omega) (by omega)]; exact h3 k p hk hd hp
  · rw [hs.2 26 (by omega) (by omega) (by omega) (by omega)]; exact h4 k hk
  · rw [hs.2 i (by omega) (by omega) (by omega) (by omega)]; exact h5 i k hi hk
end PB14
