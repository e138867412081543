/-! ===== texts in their order ===== -/
section PB36
set_option maxRecDepth 100000
def tlU (m : Nat) (u : Nat → Nat) : List Nat := (List.range m).map u
theorem tlU_len {m : Nat} {u : Nat → Nat} : (tlU m u).length = m := by simp [tlU]
theorem tlU_get {m i : Nat} {u : Nat → Nat} (h : i < (tlU m u).length) : (tlU m u)[i] = u i := by simp [tlU]
theorem tlU_eq {m m2 : Nat} {u v : Nat → Nat} : tlU m u = tlU m2 v ↔ m = m2 ∧ ∀ j, j < m → u j = v j := by
  refine ⟨fun h => ?_, fun h => ?_⟩
  · have hl : m = m2 := by rw [← tlU_len (m := m) (u := u), ← tlU_len (m := m2) (u := v), h]
    refine ⟨hl, fun j hj => ?_⟩
    have h1 : (tlU m u)[j]? = (tlU m2 v)[j]? := by rw [h]
    rw [List.getElem?_eq_getElem (by rw [tlU_len]; exact hj), List.getElem?_eq_getElem (by rw [tlU_len]; omega), tlU_get, tlU_get] at h1
    exact Option.some.inj h1
  · obtain ⟨rfl, h2⟩ := h
    apply List.ext_getElem (by rw [tlU_len, tlU_len])
    intro i h3 h4
    rw [tlU_get, tlU_get]
    exact h2 i (by rw [tlU_len] at h3; exact h3)
/-- what compareTo answers -/
def cmU (u : Nat → Nat) (m : Nat) (v : Nat → Nat) (m2 : Nat) : Int32 := match ff (fun j => decide (¬ u j = v j)) (min m m2) 0 with
  | some k => nI (u k) - nI (v k)
  | none => nI m - nI m2
theorem sub_neg {a b : Nat} (ha : a < 2 ^ 20) (hb : b < 2 ^ 20) : (nI a - nI b < 0 ↔ a < b) ∧ (nI a - nI b = 0 ↔ a = b) := by
  have e : (nI a - nI b).toInt = (a : Int) - (b : Int) := by
    rw [Int32.toInt_sub, nI_toInt (by omega), nI_toInt (by omega)]
    exact Int.bmod_eq_of_le (by omega) (by omega)
  constructor
  · rw [Int32.lt_iff_toInt_lt, e]
    show (a : Int) - b < 0 ↔ _
    omega
  · rw [← Int32.toInt_inj, e]
    show (a : Int) - b = 0 ↔ _
    omega
theorem cmU_lt {u v : Nat → Nat} {m m2 : Nat} (hm : m ≤ 10) (hm2 : m2 ≤ 10) (hu : ∀ i, i < m → u i < 256) (hv : ∀ i, i < m2 → v i < 256) : (cmU u m v m2 < 0 ↔ tlU m u < tlU m2 v) ∧ (cmU u m v m2 = 0 ↔ tlU m u = tlU m2 v) := by
  unfold cmU
  cases h : ff (fun j => decide (¬ u j = v j)) (min m m2) 0 with
  | some k =>
    have h1 := ff_lt _ _ _ h
    have h2 := ff_min _ _ _ h
    have hk : u k ≠ v k := by simpa using h1.2
    have hlt : k < m ∧ k < m2 := by have := h1.1; omega
    have heq : ∀ j, j < k → u j = v j := fun j hj => by simpa using h2 j (Nat.zero_le _) hj
    have hs := sub_neg (a := u k) (b := v k) (by have := hu k hlt.1; omega) (by have := hv k hlt.2; omega)
    dsimp only
    rw [hs.1, hs.2]
    refine ⟨⟨fun q => ?_, fun q => ?_⟩, ⟨fun q => absurd q hk, fun q => absurd ((tlU_eq.mp q).2 k hlt.1) hk⟩⟩
    · rw [List.lt_iff_exists]
      right
      refine ⟨k, by rw [tlU_len]; exact hlt.1, by rw [tlU_len]; exact hlt.2, fun j hj => ?_, ?_⟩
      · rw [tlU_get, tlU_get]; exact heq j hj
      · rw [tlU_get, tlU_get]; exact q
    · rw [List.lt_iff_exists] at q
      rcases q with ⟨q1, q2⟩ | ⟨i, h3, h4, q3, q4⟩
      · exfalso
        rw [tlU_len, tlU_len] at q2
        have h5 : (tlU m u)[k]? = ((tlU m2 v).take (tlU m u).length)[k]? := by rw [← q1]
        rw [List.getElem?_take, tlU_len, if_pos hlt.1, List.getElem?_eq_getElem (by rw [tlU_len]; exact hlt.1), List.getElem?_eq_getElem (by rw [tlU_len]; exact hlt.2), tlU_get, tlU_get] at h5
        exact hk (Option.some.inj h5)
      · rw [tlU_get, tlU_get] at q4
        rcases Nat.lt_trichotomy i k with w | w | w
        · have := heq i w; omega
        · rw [← w]; exact q4
        · have := q3 k w
          rw [tlU_get, tlU_get] at this
          exact absurd this hk
  | none =>
    have h2 := ff_no _ _ h
    have heq : ∀ j, j < m → j < m2 → u j = v j := fun j hj hj2 => by simpa using h2 j (Nat.zero_le _) (by omega)
    have hs := sub_neg (a := m) (b := m2) (by omega) (by omega)
    dsimp only
    rw [hs.1, hs.2]
    refine ⟨⟨fun q => ?_, fun q => ?_⟩, ⟨fun q => tlU_eq.mpr ⟨q, fun j hj => heq j hj (by omega)⟩, fun q => (tlU_eq.mp q).1⟩⟩
    · rw [List.lt_iff_exists]
      left
      refine ⟨?_, by rw [tlU_len, tlU_len]; exact q⟩
      apply List.ext_getElem
      · rw [List.length_take, tlU_len, tlU_len]; omega
      · intro i h3 h4
        rw [tlU_len] at h3
        rw [List.getElem_take, tlU_get, tlU_get]
        exact heq i h3 (by omega)
    · rw [List.lt_iff_exists] at q
      rcases q with ⟨q1, q2⟩ | ⟨i, h3, h4, q3, q4⟩
      · rw [tlU_len, tlU_len] at q2; exact q2
      · rw [tlU_get, tlU_get] at q4
        rw [tlU_len] at h3 h4
        have := heq i h3 h4
        omega
/-- nodes in their order: by hash, then by text -/
def ltN (H : Nat → Int32) (tx : Nat → List Nat) (i j : Nat) : Prop := H i < H j ∨ (H i = H j ∧ tx i < tx j)
theorem ltN_o {H : Nat → Int32} {tx : Nat → List Nat} : LtO (ltN H tx) := by
  refine ⟨fun i h => ?_, fun i j k a b => ?_⟩
  · rcases h with q | q
    · rw [Int32.lt_iff_toInt_lt] at q; omega
    · exact List.lt_irrefl _ q.2
  · unfold ltN at *
    simp only [Int32.lt_iff_toInt_lt, ← Int32.toInt_inj] at *
    rcases a with a | a
    · rcases b with b | b
      · left; omega
      · left; omega
    · rcases b with b | b
      · left; omega
      · exact Or.inr ⟨by omega, List.lt_trans a.2 b.2⟩
/-- what compares as not less and not equal is greater -/
theorem tl_tri {l1 l2 : List Nat} (h1 : ¬ l1 < l2) (h2 : l1 ≠ l2) : l2 < l1 := by
  rcases Std.lt_trichotomy (a := l1) (b := l2) with q | q | q
  · exact absurd q h1
  · exact absurd q h2
  · exact q
end PB36
