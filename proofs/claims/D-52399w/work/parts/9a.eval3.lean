/-! ===== objects that stand for nodes ===== -/
section EV3
set_option maxRecDepth 100000
abbrev h0H : AH := fun _ => none
theorem h0_le {h : AH} : hle h0H h := fun _ _ q => by cases q
def wh (s2 : Bool) (k : Nat) : Int32 := if s2 then nI k else nI 0
def sgE (k : Nat) : Nat := if k = 40 then 17 else if k = 41 then 18 else if k = 42 then 15 else if k = 43 then 16 else if k = 22 then 13 else 14
def isSg (k : Nat) : Prop := k = 40 ∨ k = 41 ∨ k = 42 ∨ k = 43 ∨ k = 22 ∨ k = 23
abbrev nso (T : TD) (i : Nat) : Nat := T.2.1 27 i
abbrev nle (T : TD) (i : Nat) : Nat := T.2.1 28 i
abbrev nri (T : TD) (i : Nat) : Nat := T.2.1 29 i
/-- the Sum a stands for the node i -/
def SuO (Γ : Gm) (z : ZR) (s2 : Bool) (T : TD) : Nat → Nat → Nat → Prop
  | 0, _, _ => False
  | n + 1, a, i => (nso T i = 31 ∧ z a (.inr (11, [.int (nI (nle T i))]))) ∨
    (9 ≤ nso T i ∧ nso T i ≤ 14 ∧ z a (.inr (12, [.ref (gE Γ (13 + nso T i)), .int (-1)]))) ∨
    (nso T i = 15 ∧ z a (.inr (12, [.ref (gE Γ 28), .int (wh s2 (nle T i))]))) ∨
    (nso T i = 60 ∧ ∃ b, z a (.inr (13, [.ref b])) ∧ SuO Γ z s2 T n b (nle T i)) ∨
    (isSg (nso T i) ∧ ∃ b c, z a (.inr (14, [.ref (gE Γ (sgE (nso T i))), .ref b, .ref c])) ∧ SuO Γ z s2 T n b (nle T i) ∧ SuO Γ z s2 T n c (nri T i))
/-- the sign's text -/
def sgT (k c0 c1 : Nat) : Prop := (k = 44 ∧ c0 = 60 ∧ c1 = 60) ∨ (k = 45 ∧ c0 = 62 ∧ c1 = 62) ∨ (k = 46 ∧ c0 = 61 ∧ c1 = 61) ∨ (k = 47 ∧ c0 = 60 ∧ c1 = 61) ∨ (k = 48 ∧ c0 = 62 ∧ c1 = 61)
/-- nodes js 0 .. joined from the left: i the last -/
def chN (T : TD) (k : Nat) (js : Nat → Nat) : Nat → Nat → Prop
  | 0, i => i = js 0
  | m + 1, i => nso T i = k ∧ nri T i = js (m + 1) ∧ chN T k js m (nle T i)
/-- the Test a stands for the node i -/
def TeO (Γ : Gm) (z : ZR) (s2 : Bool) (T : TD) : Nat → Nat → Nat → Prop
  | 0, _, _ => False
  | n + 1, a, i => (∃ sg m u b c, z a (.inr (20, [.ref sg, .ref b, .ref c])) ∧ StU Γ z h0H sg m u ∧ 0 < m ∧ sgT (nso T i) (u 0) (u (m - 1)) ∧ SuO Γ z s2 T n b (nle T i) ∧ SuO Γ z s2 T n c (nri T i)) ∨
    (nso T i = 19 ∧ ∃ c, z a (.inr (17, [.ref c])) ∧ TeO Γ z s2 T n c (nle T i)) ∨
    (nso T i = 17 ∧ z a (.inr (18, [.int (wh s2 (nle T i))]))) ∨
    (nso T i = 18 ∧ z a (.inr (19, [.int (wh s2 (nle T i))]))) ∨
    (∃ (al : Bool) (L arr m : Nat) (xs js : Nat → Nat), z a (.inr (16, [.int (bI al), .ref L])) ∧ ALp Γ z h0H L arr (m + 1) xs ∧ m + 1 < 2 ^ 20 ∧ (∀ k, k < m + 1 → TeO Γ z s2 T n (xs k) (js k)) ∧ chN T (if al then 20 else 21) js m i)
theorem SuO.mono {Γ : Gm} {z z' : ZR} (hz : zle z z') {s2 : Bool} {T T' : TD} : ∀ n a i, (∀ r j, (r = 27 ∨ r = 28 ∨ r = 29) → j ≤ i → T'.2.1 r j = T.2.1 r j) → (∀ j, j ≤ i → (nso T j = 60 ∨ isSg (nso T j) → nle T j < j) ∧ (isSg (nso T j) → nri T j < j)) → SuO Γ z s2 T n a i → SuO Γ z' s2 T' n a i
  | 0, _, _, _, _, h => h
  | n + 1, a, i, hT, hr, h => by
    have e1 : nso T' i = nso T i := hT 27 i (by omega) (Nat.le_refl _)
    have e2 : nle T' i = nle T i := hT 28 i (by omega) (Nat.le_refl _)
    have e3 : nri T' i = nri T i := hT 29 i (by omega) (Nat.le_refl _)
    have sub : ∀ b j, j < i → SuO Γ z s2 T n b j → SuO Γ z' s2 T' n b j := fun b j hj q => SuO.mono hz n b j (fun r k hk hl => hT r k hk (by omega)) (fun k hk => hr k (by omega)) q
    unfold SuO at h ⊢
    rw [e1, e2, e3]
    rcases h with ⟨q1, q2⟩ | ⟨q1, q2, q3⟩ | ⟨q1, q2⟩ | ⟨q1, b, q2, q3⟩ | ⟨q1, b, c, q2, q3, q4⟩
    · exact Or.inl ⟨q1, hz _ _ q2⟩
    · exact Or.inr (Or.inl ⟨q1, q2, hz _ _ q3⟩)
    · exact Or.inr (Or.inr (Or.inl ⟨q1, hz _ _ q2⟩))
    · exact Or.inr (Or.inr (Or.inr (Or.inl ⟨q1, b, hz _ _ q2, sub b _ ((hr i (Nat.le_refl _)).1 (Or.inl q1)) q3⟩)))
    · exact Or.inr (Or.inr (Or.inr (Or.inr ⟨q1, b, c, hz _ _ q2, sub b _ ((hr i (Nat.le_refl _)).1 (Or.inr q1)) q3, sub c _ ((hr i (Nat.le_refl _)).2 q1) q4⟩)))
/-- what is asked of nodes: their values, what they point to -/
def EvP (B : GB) (rn : Int32) (T : TD) (V : Nat → Int32) (fr to : Nat) : Prop := ∀ i, fr ≤ i → i < to → V i = rkI B rn V (nso T i) (nle T i) (nri T i) ∧ ((nso T i = 15 ∨ nso T i = 17 ∨ nso T i = 18) → nle T i < Bt B) ∧ (isU (nso T i) = true ∨ isJ (nso T i) = true → fr ≤ nle T i ∧ nle T i < i) ∧ (isJ (nso T i) = true → fr ≤ nri T i ∧ nri T i < i)
theorem sg_J {k : Nat} (h : isSg k) : isJ k = true := by
  rcases h with rfl | rfl | rfl | rfl | rfl | rfl <;> rfl
theorem SmC.of {l : Launch} {Γ : Gm} (hl : l.flags = flags0) (hΓ : GOK Γ) {z : ZR} {h : AH} {g : Nat} {A : Nat → Nat} {B : GB} {rn dn : Int32} (hz : zle (cst Γ) z) (hG : GmP Γ z h g A B rn dn) (hC : BC B) {T : TD} {V : Nat → Int32} {fr to : Nat} (hV : EvP B rn T V fr to) :
    ∀ n a i, fr ≤ i → i < to → SuO Γ z true T n a i → SmC l Γ (3 * n + 10) z h a g (V i)
  | 0, _, _, _, _, q => q.elim
  | n + 1, a, i, h1, h2, q => by
    obtain ⟨v1, v2, v3, v4⟩ := hV i h1 h2
    have ih := SmC.of hl hΓ hz hG hC hV n
    unfold SuO at q
    rcases q with ⟨q1, q2⟩ | ⟨q1, q2, q3⟩ | ⟨q1, q2⟩ | ⟨q1, b, q2, q3⟩ | ⟨q1, b, c, q2, q3, q4⟩
    · left
      rw [q1] at v1
      have e : V i = nI (nle T i) := by rw [v1]; simp only [rkI]
      rw [e]
      exact ⟨rc_X13 hΓ (Or.inr q2), ct_X13_of hl hΓ (Or.inr q2) (by omega)⟩
    · right; left
      refine ⟨rc_X14 hΓ (Or.inr q3), ?_⟩
      rcases (show nso T i = 9 ∨ nso T i = 10 ∨ nso T i = 11 ∨ nso T i = 12 ∨ nso T i = 13 ∨ nso T i = 14 by omega) with e | e | e | e | e | e
      · rw [e] at q3 v1
        rw [show V i = rn by rw [v1]; simp only [rkI]]
        exact ct_X14_of_9 hl hΓ hz hG hC (Or.inr q3) (by omega)
      · rw [e] at q3 v1
        rw [show V i = nI (plN B) by rw [v1]; simp only [rkI]]
        exact ct_X14_of_10 hl hΓ hz hG hC (Or.inr q3) (by omega)
      · rw [e] at q3 v1
        rw [show V i = nI (maN B) by rw [v1]; simp only [rkI]]
        exact ct_X14_of_11 hl hΓ hz hG hC (Or.inr q3) (by omega)
      · rw [e] at q3 v1
        rw [show V i = nI (poN B) by rw [v1]; simp only [rkI]]
        exact ct_X14_of_12 hl hΓ hz hG hC (Or.inr q3) (by omega)
      · rw [e] at q3 v1
        rw [show V i = nI (rgN B) by rw [v1]; simp only [rkI]]
        exact ct_X14_of_13 hl hΓ hz hG hC (Or.inr q3) (by omega)
      · rw [e] at q3 v1
        rw [show V i = nI (Bz B - plN B) by rw [v1]; simp only [rkI]]
        exact ct_X14_of_14 hl hΓ hz hG hC (Or.inr q3) (by omega)
    · right; left
      rw [q1] at v1
      rw [show V i = nI (wyN B (nle T i)) by rw [v1]; simp only [rkI]]
      exact ⟨rc_X14 hΓ (Or.inr q2), ct_X14_of_15 hl hΓ hz hG hC (v2 (Or.inl q1)) (Or.inr q2) (by omega)⟩
    · right; right; left
      have hU := v3 (Or.inl (by rw [q1]; rfl))
      rw [q1] at v1
      rw [show V i = -(V (nle T i)) by rw [v1]; simp only [rkI]]
      exact ⟨rc_X15 hΓ (Or.inr q2), ct_X15_of hl hΓ (Or.inr q2) (ih b _ hU.1 (by omega) q3) (by omega)⟩
    · right; right; right
      have hJ := sg_J q1
      have hU := v3 (Or.inr hJ)
      have hW := v4 hJ
      have s1 := ih b _ hU.1 (by omega) q3
      have s2 := ih c _ hW.1 (by omega) q4
      refine ⟨rc_X16 hΓ (Or.inr q2), ?_⟩
      rcases q1 with e | e | e | e | e | e
      · rw [e] at q2 v1
        rw [show V i = jnI 40 (V (nle T i)) (V (nri T i)) by rw [v1]; simp only [rkI]]
        exact ct_X16_of_40 hl hΓ (Or.inr q2) s1 s2 (by omega)
      · rw [e] at q2 v1
        rw [show V i = jnI 41 (V (nle T i)) (V (nri T i)) by rw [v1]; simp only [rkI]]
        exact ct_X16_of_41 hl hΓ (Or.inr q2) s1 s2 (by omega)
      · rw [e] at q2 v1
        rw [show V i = jnI 42 (V (nle T i)) (V (nri T i)) by rw [v1]; simp only [rkI]]
        exact ct_X16_of_42 hl hΓ (Or.inr q2) s1 s2 (by omega)
      · rw [e] at q2 v1
        rw [show V i = jnI 43 (V (nle T i)) (V (nri T i)) by rw [v1]; simp only [rkI]]
        exact ct_X16_of_43 hl hΓ (Or.inr q2) s1 s2 (by omega)
      · rw [e] at q2 v1
        rw [show V i = jnI 22 (V (nle T i)) (V (nri T i)) by rw [v1]; simp only [rkI]]
        exact ct_X16_of_22 hl hΓ (Or.inr q2) s1 s2 (by omega)
      · rw [e] at q2 v1
        rw [show V i = jnI 23 (V (nle T i)) (V (nri T i)) by rw [v1]; simp only [rkI]]
        exact ct_X16_of_23 hl hΓ (Or.inr q2) s1 s2 (by omega)
end EV3
