section NEQ
set_option maxRecDepth 100000
def neqT : List (Nat × Nat × Nat) := [(252, 1, 2), (255, 1, 3), (259, 1, 4), (264, 1, 5), (270, 1, 6), (256, 2, 3), (260, 2, 4), (265, 2, 5), (271, 2, 6), (261, 3, 4), (266, 3, 5), (272, 3, 6), (267, 4, 5), (273, 4, 6), (274, 5, 6), (661, 12, 29), (465, 10, 20), (482, 10, 21), (408, 17, 18), (377, 15, 16), (350, 13, 14)]
def neqC (i j : Nat) : Option Cond := match cnL[i]?, cnL[j]? with
  | some a, some b => some (.not (.eq (.static a.1 a.2.1 a.2.2) (.static b.1 b.2.1 b.2.2)))
  | _, _ => none
theorem neqT_ok : ∀ t ∈ neqT, flatL[t.1]? = neqC t.2.1 t.2.2 ∧ (neqC t.2.1 t.2.2).isSome = true := by decide +kernel
theorem gE_ne {Γ : Gm} (hΓ : GOK Γ) {i j p : Nat} (h : (p, i, j) ∈ neqT) : gE Γ i ≠ gE Γ j := by
  obtain ⟨a0, hT, -, -, -, hN, hS, -⟩ := hΓ
  obtain ⟨h1, h2⟩ := neqT_ok _ h
  intro e
  unfold neqC at h1 h2
  dsimp only at h1 h2
  cases hi : cnL[i]? with
  | none => rw [hi] at h2; cases h2
  | some a =>
    cases hj : cnL[j]? with
    | none => rw [hi, hj] at h2; cases h2
    | some b =>
      rw [hi, hj] at h1
      dsimp only at h1
      have hb := flat_of_before _ hN _ (List.mem_of_getElem? h1)
      have ea := hS i a hi
      have eb := hS j b hj
      simp [Cond.before, Cond.holds, Cond.value, ea, eb, e] at hb
theorem ne_1_2 {Γ : Gm} (hΓ : GOK Γ) : gE Γ 1 ≠ gE Γ 2 := gE_ne hΓ (p := 252) (by decide)
theorem ne_2_1 {Γ : Gm} (hΓ : GOK Γ) : gE Γ 2 ≠ gE Γ 1 := Ne.symm (ne_1_2 hΓ)
theorem ne_1_3 {Γ : Gm} (hΓ : GOK Γ) : gE Γ 1 ≠ gE Γ 3 := gE_ne hΓ (p := 255) (by decide)
theorem ne_3_1 {Γ : Gm} (hΓ : GOK Γ) : gE Γ 3 ≠ gE Γ 1 := Ne.symm (ne_1_3 hΓ)
theorem ne_1_4 {Γ : Gm} (hΓ : GOK Γ) : gE Γ 1 ≠ gE Γ 4 := gE_ne hΓ (p := 259) (by decide)
theorem ne_4_1 {Γ : Gm} (hΓ : GOK Γ) : gE Γ 4 ≠ gE Γ 1 := Ne.symm (ne_1_4 hΓ)
theorem ne_1_5 {Γ : Gm} (hΓ : GOK Γ) : gE Γ 1 ≠ gE Γ 5 := gE_ne hΓ (p := 264) (by decide)
theorem ne_5_1 {Γ : Gm} (hΓ : GOK Γ) : gE Γ 5 ≠ gE Γ 1 := Ne.symm (ne_1_5 hΓ)
theorem ne_1_6 {Γ : Gm} (hΓ : GOK Γ) : gE Γ 1 ≠ gE Γ 6 := gE_ne hΓ (p := 270) (by decide)
theorem ne_6_1 {Γ : Gm} (hΓ : GOK Γ) : gE Γ 6 ≠ gE Γ 1 := Ne.symm (ne_1_6 hΓ)
theorem ne_2_3 {Γ : Gm} (hΓ : GOK Γ) : gE Γ 2 ≠ gE Γ 3 := gE_ne hΓ (p := 256) (by decide)
theorem ne_3_2 {Γ : Gm} (hΓ : GOK Γ) : gE Γ 3 ≠ gE Γ 2 := Ne.symm (ne_2_3 hΓ)
theorem ne_2_4 {Γ : Gm} (hΓ : GOK Γ) : gE Γ 2 ≠ gE Γ 4 := gE_ne hΓ (p := 260) (by decide)
theorem ne_4_2 {Γ : Gm} (hΓ : GOK Γ) : gE Γ 4 ≠ gE Γ 2 := Ne.symm (ne_2_4 hΓ)
theorem ne_2_5 {Γ : Gm} (hΓ : GOK Γ) : gE Γ 2 ≠ gE Γ 5 := gE_ne hΓ (p := 265) (by decide)
theorem ne_5_2 {Γ : Gm} (hΓ : GOK Γ) : gE Γ 5 ≠ gE Γ 2 := Ne.symm (ne_2_5 hΓ)
theorem ne_2_6 {Γ : Gm} (hΓ : GOK Γ) : gE Γ 2 ≠ gE Γ 6 := gE_ne hΓ (p := 271) (by decide)
theorem ne_6_2 {Γ : Gm} (hΓ : GOK Γ) : gE Γ 6 ≠ gE Γ 2 := Ne.symm (ne_2_6 hΓ)
theorem ne_3_4 {Γ : Gm} (hΓ : GOK Γ) : gE Γ 3 ≠ gE Γ 4 := gE_ne hΓ (p := 261) (by decide)
theorem ne_4_3 {Γ : Gm} (hΓ : GOK Γ) : gE Γ 4 ≠ gE Γ 3 := Ne.symm (ne_3_4 hΓ)
theorem ne_3_5 {Γ : Gm} (hΓ : GOK Γ) : gE Γ 3 ≠ gE Γ 5 := gE_ne hΓ (p := 266) (by decide)
theorem ne_5_3 {Γ : Gm} (hΓ : GOK Γ) : gE Γ 5 ≠ gE Γ 3 := Ne.symm (ne_3_5 hΓ)
theorem ne_3_6 {Γ : Gm} (hΓ : GOK Γ) : gE Γ 3 ≠ gE Γ 6 := gE_ne hΓ (p := 272) (by decide)
theorem ne_6_3 {Γ : Gm} (hΓ : GOK Γ) : gE Γ 6 ≠ gE Γ 3 := Ne.symm (ne_3_6 hΓ)
theorem ne_4_5 {Γ : Gm} (hΓ : GOK Γ) : gE Γ 4 ≠ gE Γ 5 := gE_ne hΓ (p := 267) (by decide)
theorem ne_5_4 {Γ : Gm} (hΓ : GOK Γ) : gE Γ 5 ≠ gE Γ 4 := Ne.symm (ne_4_5 hΓ)
theorem ne_4_6 {Γ : Gm} (hΓ : GOK Γ) : gE Γ 4 ≠ gE Γ 6 := gE_ne hΓ (p := 273) (by decide)
theorem ne_6_4 {Γ : Gm} (hΓ : GOK Γ) : gE Γ 6 ≠ gE Γ 4 := Ne.symm (ne_4_6 hΓ)
theorem ne_5_6 {Γ : Gm} (hΓ : GOK Γ) : gE Γ 5 ≠ gE Γ 6 := gE_ne hΓ (p := 274) (by decide)
theorem ne_6_5 {Γ : Gm} (hΓ : GOK Γ) : gE Γ 6 ≠ gE Γ 5 := Ne.symm (ne_5_6 hΓ)
theorem ne_12_29 {Γ : Gm} (hΓ : GOK Γ) : gE Γ 12 ≠ gE Γ 29 := gE_ne hΓ (p := 661) (by decide)
theorem ne_29_12 {Γ : Gm} (hΓ : GOK Γ) : gE Γ 29 ≠ gE Γ 12 := Ne.symm (ne_12_29 hΓ)
theorem ne_10_20 {Γ : Gm} (hΓ : GOK Γ) : gE Γ 10 ≠ gE Γ 20 := gE_ne hΓ (p := 465) (by decide)
theorem ne_20_10 {Γ : Gm} (hΓ : GOK Γ) : gE Γ 20 ≠ gE Γ 10 := Ne.symm (ne_10_20 hΓ)
theorem ne_10_21 {Γ : Gm} (hΓ : GOK Γ) : gE Γ 10 ≠ gE Γ 21 := gE_ne hΓ (p := 482) (by decide)
theorem ne_21_10 {Γ : Gm} (hΓ : GOK Γ) : gE Γ 21 ≠ gE Γ 10 := Ne.symm (ne_10_21 hΓ)
theorem ne_17_18 {Γ : Gm} (hΓ : GOK Γ) : gE Γ 17 ≠ gE Γ 18 := gE_ne hΓ (p := 408) (by decide)
theorem ne_18_17 {Γ : Gm} (hΓ : GOK Γ) : gE Γ 18 ≠ gE Γ 17 := Ne.symm (ne_17_18 hΓ)
theorem ne_15_16 {Γ : Gm} (hΓ : GOK Γ) : gE Γ 15 ≠ gE Γ 16 := gE_ne hΓ (p := 377) (by decide)
theorem ne_16_15 {Γ : Gm} (hΓ : GOK Γ) : gE Γ 16 ≠ gE Γ 15 := Ne.symm (ne_15_16 hΓ)
theorem ne_13_14 {Γ : Gm} (hΓ : GOK Γ) : gE Γ 13 ≠ gE Γ 14 := gE_ne hΓ (p := 350) (by decide)
theorem ne_14_13 {Γ : Gm} (hΓ : GOK Γ) : gE Γ 14 ≠ gE Γ 13 := Ne.symm (ne_13_14 hΓ)
end NEQ
