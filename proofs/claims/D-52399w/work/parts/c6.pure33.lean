section PB33
set_option maxRecDepth 100000
/-- the new board -/
def gzB (G : GX) : GB := (G.1, G.2.1, (fun _ => 0), (fun _ => none), fun _ => 0)
theorem gzB_n {Q : QS} {G : GX} (h : Q.2.2 = G) : nwB Q = gzB G := by subst h; rfl
theorem ndO.r {B : GB} {fr j k l r : Nat} (h : ndO (Bt B) fr j k l r) (hj : j < 800) (hB : Bt B ≤ 16) : rkP B k l r ∧ l < 2 ^ 31 ∧ r < 2 ^ 31 := by
  obtain ⟨h1, h2, h3, h4, h5, h6⟩ := h
  unfold kOk isJ at h1
  unfold isU isJ at h3
  unfold isJ at h4
  simp only [decide_eq_true_eq] at h1 h3 h4
  refine ⟨⟨by omega, h2, fun q => ?_, fun q => ?_⟩, by omega, by omega⟩
  · have := h3 (by omega); omega
  · have := h4 (by omega); omega
theorem GzI.td {Z : GZ} (h : GzI Z) (hn : Z.1.1.1 ≤ 400) : TdS (gzB Z.2) Z.1.2 ∧ TdR Z.1.2 ∧ BC (gzB Z.2) := by
  obtain ⟨i1, i2, i3, i4, i5, i6, i7, i8, i9⟩ := h
  refine ⟨⟨i1, by omega, fun k hk => ?_⟩, fun k hk => ?_, ⟨⟨⟨i6, i7⟩, i8, i9⟩, i2, fun x => Nat.zero_le _, fun k _ => by show (0 : Nat) < 6; decide, fun k y q => (by cases q), i5⟩, fun k _ _ => rfl, fun x k q => (by cases q), fun k x q => (by cases q)⟩
  · obtain ⟨o1, o2, o3, o4, o5, o6, o7⟩ := i4 k hk
    refine ⟨o1, o2, o3, o4, fun i h1 h2 => (o5 i h1 h2).r (B := gzB Z.2) (by omega) i2, fun t ht => ?_, fun q p hp => ?_⟩
    · have := o6 t ht; omega
    · have := o7 q p hp; omega
  · obtain ⟨o1, o2, o3, o4, o5, o6, o7⟩ := i4 k hk
    exact ⟨fun i h1 h2 => ⟨(o5 i h1 h2).2.2.1, (o5 i h1 h2).2.2.2.1⟩, o6, o7⟩
/-- what the model answers to a text, and what it learns -/
theorem ga_all (t : TP) : ∃ Q', gaQ t 488 403 q0Q = some Q' ∧ qn Q' ≤ 800 ∧ ((∃ u, gGa t 480 402 s00 g00 = gW u ∧ u ≤ tl t ∧ qe Q' = 1 ∧ qf Q' = u) ∨ ∃ S G, gGa t 480 402 s00 g00 = gO (S, G) ∧ S.1.1 ≤ tl t ∧ Q'.2.1 = S.2 ∧ Q'.2.2 = G ∧ ((∃ c u, S.1.2 = some (c, u) ∧ qe Q' = c ∧ qf Q' = u ∧ c ≠ 0) ∨ (S.1.2 = none ∧ qe Q' = 0 ∧ TdS (gzB G) S.2 ∧ TdR S.2 ∧ BC (gzB G)))) := by
  have h1 := ga_k t
  have h2 := ga_r t
  have ht := tl_le t
  cases hg : gGa t 480 402 s00 g00 with
  | none => rw [hg] at h1; exact h1.elim
  | some y =>
    rw [hg] at h1 h2
    cases y with
    | inl u =>
      obtain ⟨Q', q1, q2, q3, q4, q5, q6⟩ := h2
      have := ga_n q1
      exact ⟨Q', q1, by omega, Or.inl ⟨u, rfl, h1.2, q3, q4⟩⟩
    | inr Z =>
      obtain ⟨S, G⟩ := Z
      obtain ⟨Q', q1, ⟨q2, q3, q4, q5, q6⟩, q7⟩ := h2
      obtain ⟨m1, m2⟩ := h1
      have m1 : sK (tl t) s00 S := m1
      have := ga_n q1
      refine ⟨Q', q1, by omega, Or.inr ⟨S, G, rfl, m1.2.1, q5, q7, ?_⟩⟩
      have q6 : eRl Q' S.1.2 := q6
      cases he : S.1.2 with
      | some x =>
        rw [he] at q6
        exact Or.inl ⟨x.1, x.2, rfl, q6.1, q6.2.1, q6.2.2⟩
      | none =>
        rw [he] at q6
        have g := GzI.td (m2 he GzI.q0) (Nat.le_trans m1.2.1 ht)
        exact Or.inr ⟨rfl, q6, g.1, g.2.1, g.2.2⟩
end PB33
