/-! ===== how a StringBuilder grows ===== -/
section PB34
set_option maxRecDepth 100000
/-- capacity, cells, slots behind m chars -/
def sbP : Nat → Nat × Nat × Nat
  | 0 => (16, 0, 0)
  | m + 1 => (sbN m (sbP m).1, (sbP m).2.1 + (if m < (sbP m).1 then 0 else 1), (sbP m).2.2 + (if m < (sbP m).1 then 0 else 2 * (sbP m).1 + 2))
theorem sbP_b : ∀ m, m ≤ (sbP m).1 ∧ (sbP m).1 ≤ 2 * m + 16 ∧ (sbP m).2.2 ≤ 4 * m ∧ (sbP m).2.2 + 16 ≤ 2 * (sbP m).1 ∧ (sbP m).2.1 ≤ m
  | 0 => by decide
  | m + 1 => by
    have ih := sbP_b m
    show m + 1 ≤ sbN m (sbP m).1 ∧ sbN m (sbP m).1 ≤ 2 * (m + 1) + 16 ∧ (sbP m).2.2 + _ ≤ 4 * (m + 1) ∧ (sbP m).2.2 + _ + 16 ≤ 2 * sbN m (sbP m).1 ∧ (sbP m).2.1 + _ ≤ m + 1
    unfold sbN
    split <;> rename_i q
    · omega
    · omega
/-- short texts make no new row -/
theorem sbP_s : ∀ m, m ≤ 16 → sbP m = (16, 0, 0)
  | 0, _ => rfl
  | m + 1, h => by
    have ih := sbP_s m (by omega)
    show (sbN m (sbP m).1, _, _) = _
    rw [ih]
    unfold sbN
    rw [if_pos (by omega), if_pos (by omega), if_pos (by omega)]
theorem sbP_mono {m : Nat} : ∀ k, (sbP m).2.1 ≤ (sbP (m + k)).2.1 ∧ (sbP m).2.2 ≤ (sbP (m + k)).2.2
  | 0 => ⟨Nat.le_refl _, Nat.le_refl _⟩
  | k + 1 => by
    have ih := sbP_mono (m := m) k
    exact ⟨Nat.le_trans ih.1 (Nat.le_add_right _ _), Nat.le_trans ih.2 (Nat.le_add_right _ _)⟩
end PB34
