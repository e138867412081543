/-! ===== search trees by pointers: fields 0 next, 1 parent, 2 left, 3 right, 4 prev ===== -/
section PB35
set_option maxRecDepth 100000
abbrev PT : Type := Nat → Nat → Option Nat
def pst (p : PT) (f i : Nat) (o : Option Nat) : PT := fun g j => if g = f ∧ j = i then o else p g j
theorem pst_e {p : PT} {f i : Nat} {o : Option Nat} : pst p f i o f i = o := by unfold pst; rw [if_pos ⟨rfl, rfl⟩]
theorem pst_n {p : PT} {f i g j : Nat} {o : Option Nat} (h : ¬ (g = f ∧ j = i)) : pst p f i o g j = p g j := by unfold pst; rw [if_neg h]
theorem pst_f {p : PT} {f i g j : Nat} {o : Option Nat} (h : g ≠ f) : pst p f i o g j = p g j := pst_n (fun q => h q.1)
theorem pst_i {p : PT} {f i g j : Nat} {o : Option Nat} (h : j ≠ i) : pst p f i o g j = p g j := pst_n (fun q => h q.2)
def dO (D : Nat → List Nat) : Option Nat → List Nat
  | none => []
  | some j => D j
def LtO (lt : Nat → Nat → Prop) : Prop := (∀ i, ¬ lt i i) ∧ ∀ i j k, lt i j → lt j k → lt i k
/-- a good search tree of the nodes G: D the nodes below each, in order; rt the root -/
def TrG (G : Nat → Prop) (lt : Nat → Nat → Prop) (p : PT) (D : Nat → List Nat) (rt : Nat) : Prop :=
  (∀ i, G i → D i = dO D (p 2 i) ++ i :: dO D (p 3 i)) ∧
  (∀ i j, G i → (p 2 i = some j ∨ p 3 i = some j) → G j ∧ p 1 j = some i) ∧
  (∀ i, G i → (i = rt ∧ p 1 i = none) ∨ ∃ j, G j ∧ p 1 i = some j ∧ (p 2 j = some i ∨ p 3 j = some i)) ∧
  G rt ∧ p 1 rt = none ∧ (∀ i, G i → (D i).Sublist (D rt)) ∧ (∀ i, i ∈ D rt → G i) ∧
  (∀ i, G i → (∀ j, j ∈ dO D (p 2 i) → lt j i) ∧ (∀ j, j ∈ dO D (p 3 i) → lt i j))
theorem TrG.self {G lt p D rt} (h : TrG G lt p D rt) {i : Nat} (hi : G i) : i ∈ D i := by
  rw [h.1 i hi]; simp
theorem TrG.len {G lt p D rt} (h : TrG G lt p D rt) {i j : Nat} (hi : G i) (hj : p 2 i = some j ∨ p 3 i = some j) : (D j).length < (D i).length := by
  have := h.1 i hi
  rcases hj with q | q
  · rw [this, q]; simp only [dO, List.length_append, List.length_cons]; omega
  · rw [this, q]; simp only [dO, List.length_append, List.length_cons]; omega
theorem TrG.len1 {G lt p D rt} (h : TrG G lt p D rt) {i j : Nat} (hi : G i) (hj : p 1 i = some j) : G j ∧ (D i).length < (D j).length := by
  rcases h.2.2.1 i hi with q | ⟨k, hk, q1, q2⟩
  · rw [q.2] at hj; cases hj
  · rw [q1] at hj
    cases hj
    exact ⟨hk, h.len hk q2⟩
theorem TrG.le {G lt p D rt} (h : TrG G lt p D rt) {i : Nat} (hi : G i) : (D i).length ≤ (D rt).length := (h.2.2.2.2.2.1 i hi).length_le
theorem TrG.top {G lt p D rt} (h : TrG G lt p D rt) {i : Nat} (hi : G i) (hn : p 1 i = none) : i = rt := by
  rcases h.2.2.1 i hi with q | ⟨k, hk, q1, q2⟩
  · exact q.1
  · rw [hn] at q1; cases q1
theorem TrG.in {G lt p D rt} (h : TrG G lt p D rt) {i : Nat} (hi : G i) : i ∈ D rt := (h.2.2.2.2.2.1 i hi).subset (h.self hi)
theorem TrG.sub {G lt p D rt} (h : TrG G lt p D rt) : ∀ (n c j : Nat), (D c).length ≤ n → G c → j ∈ D c → j = c ∨ ∃ k, p 1 j = some k ∧ k ∈ D c ∧ G k := by
  intro n
  induction n with
  | zero =>
    intro c j hn hc hj
    have := List.length_pos_of_mem hj
    omega
  | succ n ih =>
    intro c j hn hc hj
    have e := h.1 c hc
    have hc2 := hj
    rw [e, List.mem_append, List.mem_cons] at hj
    have go : ∀ o, (p 2 c = o ∨ p 3 c = o) → j ∈ dO D o → ∃ k, p 1 j = some k ∧ k ∈ D c ∧ G k := by
      intro o ho hj
      cases o with
      | none => cases hj
      | some k =>
        have hk := h.2.1 c k hc (by rcases ho with q | q <;> simp [q])
        have hl := h.len hc (j := k) (by rcases ho with q | q <;> simp [q])
        rcases ih k j (by omega) hk.1 hj with q | ⟨m, q1, q2, q3⟩
        · rw [q]; exact ⟨c, hk.2, h.self hc, hc⟩
        · refine ⟨m, q1, ?_, q3⟩
          rw [e, List.mem_append, List.mem_cons]
          rcases ho with q | q
          · left; rw [q]; exact q2
          · right; right; rw [q]; exact q2
    rcases hj with q | q | q
    · exact Or.inr (go _ (Or.inl rfl) q)
    · exact Or.inl q
    · exact Or.inr (go _ (Or.inr rfl) q)
theorem TrG.sub' {G lt p D rt} (h : TrG G lt p D rt) {c j : Nat} (hc : G c) (hj : j ∈ D c) : j = c ∨ ∃ k, p 1 j = some k ∧ k ∈ D c ∧ G k := h.sub _ c j (Nat.le_refl _) hc hj
theorem TrG.two {G lt p D rt} (h : TrG G lt p D rt) (hl : LtO lt) {i j : Nat} (hi : G i) (h2 : p 2 i = some j) : p 3 i ≠ some j := fun h3 => by
  have hj := (h.2.1 i j hi (Or.inl h2)).1
  have hb := h.2.2.2.2.2.2.2 i hi
  rw [h2, h3] at hb
  exact hl.1 i (hl.2 _ _ _ (hb.2 j (h.self hj)) (hb.1 j (h.self hj)))
/-! the mirror -/
def pm (p : PT) : PT := fun g => if g = 2 then p 3 else if g = 3 then p 2 else p g
theorem dO_rev {D : Nat → List Nat} {o : Option Nat} : dO (fun i => (D i).reverse) o = (dO D o).reverse := by cases o <;> rfl
theorem TrG.mir {G lt p D rt} (h : TrG G lt p D rt) : TrG G (fun a b => lt b a) (pm p) (fun i => (D i).reverse) rt := by
  obtain ⟨h1, h2, h3, h4, h5, h6, h7, h8⟩ := h
  refine ⟨fun i hi => ?_, fun i j hi hj => h2 i j hi (Or.symm hj), fun i hi => ?_, h4, h5, fun i hi => List.reverse_sublist.mpr (h6 i hi), fun i hi => h7 i (List.mem_reverse.mp hi), fun i hi => ⟨fun j hj => ?_, fun j hj => ?_⟩⟩
  · show (D i).reverse = dO (fun i => (D i).reverse) (p 3 i) ++ i :: dO (fun i => (D i).reverse) (p 2 i)
    rw [dO_rev, dO_rev, h1 i hi]
    simp
  · rcases h3 i hi with q | ⟨j, q1, q2, q3⟩
    · exact Or.inl q
    · exact Or.inr ⟨j, q1, q2, Or.symm q3⟩
  · have hj : j ∈ dO (fun i => (D i).reverse) (p 3 i) := hj
    rw [dO_rev, List.mem_reverse] at hj
    exact (h8 i hi).2 j hj
  · have hj : j ∈ dO (fun i => (D i).reverse) (p 2 i) := hj
    rw [dO_rev, List.mem_reverse] at hj
    exact (h8 i hi).1 j hj
theorem LtO.mir {lt : Nat → Nat → Prop} (h : LtO lt) : LtO (fun a b => lt b a) := ⟨h.1, fun i j k a b => h.2 k j i b a⟩
theorem pm_pm {p : PT} : pm (pm p) = p := by
  funext g j
  unfold pm
  by_cases h2 : g = 2
  · subst h2; rfl
  · by_cases h3 : g = 3
    · subst h3; rfl
    · simp [h2, h3]
theorem rev_rev {D : Nat → List Nat} : (fun i => ((fun i => (D i).reverse) i).reverse) = D := by
  funext i; simp
/-! rotation to the left at x, r its right child -/
def rotL (p : PT) (x r : Nat) : PT := fun f i =>
  if f = 3 ∧ i = x then p 2 r
  else if f = 2 ∧ i = r then some x
  else if f = 1 ∧ i = x then some r
  else if f = 1 ∧ i = r then p 1 x
  else if f = 1 ∧ p 2 r = some i then some x
  else if f = 2 ∧ p 1 x = some i ∧ p 2 i = some x then some r
  else if f = 3 ∧ p 1 x = some i ∧ p 2 i ≠ some x then some r
  else p f i
def rotD (D : Nat → List Nat) (p : PT) (x r : Nat) : Nat → List Nat := fun i => if i = r then D x else if i = x then dO D (p 2 x) ++ x :: dO D (p 2 r) else D i
def rotT (p : PT) (x r rt : Nat) : Nat := if p 1 x = none then r else rt
theorem TrG.rne {G lt p D rt} (h : TrG G lt p D rt) {x r : Nat} (hx : G x) (hr : p 3 x = some r) : x ≠ r ∧ p 1 x ≠ some r ∧ p 1 x ≠ some x ∧ p 2 r ≠ some x ∧ p 2 r ≠ some r := by
  have hG := h.2.1 x r hx (Or.inr hr)
  have hl := h.len hx (Or.inr hr)
  refine ⟨fun e => by rw [e] at hl; omega, fun e => ?_, fun e => ?_, fun e => ?_, fun e => ?_⟩
  · have := (h.len1 hx e).2; omega
  · have := (h.len1 hx e).2; omega
  · have := h.len hG.1 (Or.inl e); omega
  · have := h.len hG.1 (Or.inl e); omega
theorem rl_3x {p : PT} {x r : Nat} : rotL p x r 3 x = p 2 r := by unfold rotL; rw [if_pos ⟨rfl, rfl⟩]
theorem rl_2r {p : PT} {x r : Nat} : rotL p x r 2 r = some x := by unfold rotL; simp
theorem rl_1x {p : PT} {x r : Nat} : rotL p x r 1 x = some r := by unfold rotL; simp
theorem rl_1r {p : PT} {x r : Nat} (h : r ≠ x) : rotL p x r 1 r = p 1 x := by unfold rotL; simp [h]
theorem rl_1c {p : PT} {x r c : Nat} (h : p 2 r = some c) (h1 : c ≠ x) (h2 : c ≠ r) : rotL p x r 1 c = some x := by unfold rotL; simp [h, h1, h2]
theorem rl_1o {p : PT} {x r i : Nat} (h : p 2 r ≠ some i) (h1 : i ≠ x) (h2 : i ≠ r) : rotL p x r 1 i = p 1 i := by unfold rotL; simp [h, h1, h2]
theorem rl_2p {p : PT} {x r i : Nat} (h : p 1 x = some i) (h1 : p 2 i = some x) (h2 : i ≠ r) : rotL p x r 2 i = some r := by unfold rotL; simp [h, h1, h2]
theorem rl_2o {p : PT} {x r i : Nat} (h : ¬ (p 1 x = some i ∧ p 2 i = some x)) (h2 : i ≠ r) : rotL p x r 2 i = p 2 i := by unfold rotL; simp [h, h2]
theorem rl_3p {p : PT} {x r i : Nat} (h : p 1 x = some i) (h1 : p 2 i ≠ some x) (h2 : i ≠ x) : rotL p x r 3 i = some r := by unfold rotL; simp [h, h1, h2]
theorem rl_3o {p : PT} {x r i : Nat} (h : ¬ (p 1 x = some i ∧ p 2 i ≠ some x)) (h2 : i ≠ x) : rotL p x r 3 i = p 3 i := by
  unfold rotL
  rw [if_neg (by omega), if_neg (by omega), if_neg (by omega), if_neg (by omega), if_neg (by omega), if_neg (by omega), if_neg (fun q => h q.2)]
theorem rl_o {p : PT} {x r f i : Nat} (h : f = 0 ∨ f = 4) : rotL p x r f i = p f i := by
  unfold rotL
  rw [if_neg (by omega), if_neg (by omega), if_neg (by omega), if_neg (by omega), if_neg (by omega), if_neg (by omega), if_neg (by omega)]
theorem TrG.rl {G lt p D rt} (h : TrG G lt p D rt) (hl : LtO lt) {x r : Nat} (hx : G x) (hr : p 3 x = some r) : TrG G lt (rotL p x r) (rotD D p x r) (rotT p x r rt) := by
  obtain ⟨hxr, n1, n2, n3, n4⟩ := h.rne hx hr
  have htwo := fun i j hi => @TrG.two G lt p D rt h hl i j hi
  have hself := fun i hi => @TrG.self G lt p D rt h i hi
  have hG := h.2.1 x r hx (Or.inr hr)
  obtain ⟨h1, h2, h3, h4, h5, h6, h7, h8⟩ := h
  have hbx := (h8 x hx).2
  rw [hr] at hbx
  have Dr : D r = dO D (p 2 r) ++ r :: dO D (p 3 r) := h1 r hG.1
  have Dx : D x = dO D (p 2 x) ++ x :: D r := by rw [h1 x hx, hr]; rfl
  have dk : ∀ o, o ≠ some x → o ≠ some r → dO (rotD D p x r) o = dO D o := fun o a b => by
    cases o with
    | none => rfl
    | some j =>
      show rotD D p x r j = D j
      unfold rotD
      rw [if_neg (fun e => b (by rw [e])), if_neg (fun e => a (by rw [e]))]
  have dr : rotD D p x r r = D x := by unfold rotD; rw [if_pos rfl]
  have dx : rotD D p x r x = dO D (p 2 x) ++ x :: dO D (p 2 r) := by unfold rotD; rw [if_neg hxr, if_pos rfl]
  have dn : ∀ i, i ≠ x → i ≠ r → rotD D p x r i = D i := fun i a b => by unfold rotD; rw [if_neg b, if_neg a]
  have ch : ∀ i, G i → (p 2 i = some x ∨ p 3 i = some x) → p 1 x = some i := fun i hi q => (h2 i x hi q).2
  have cr : ∀ i, G i → (p 2 i = some r ∨ p 3 i = some r) → i = x := fun i hi q => by
    have := (h2 i r hi q).2; rw [hG.2] at this; exact (Option.some.inj this).symm
  have e2x : p 2 x ≠ some r := fun q => htwo x r hx q hr
  have c3r : p 3 r ≠ some x := fun q => n1 (ch r hG.1 (Or.inr q))
  have c3r' : p 3 r ≠ some r := fun q => hxr (cr r hG.1 (Or.inr q)).symm
  have c2x : p 2 x ≠ some x := fun q => n2 (ch x hx (Or.inl q))
  have pr2 : rotL p x r 2 x = p 2 x := rl_2o (fun q => n2 q.1) hxr
  have pr3 : rotL p x r 3 r = p 3 r := rl_3o (fun q => n1 q.1) (Ne.symm hxr)
  have hrx : r ≠ x := Ne.symm hxr
  -- the decomposition, node by node
  have dec : ∀ i, G i → rotD D p x r i = dO (rotD D p x r) (rotL p x r 2 i) ++ i :: dO (rotD D p x r) (rotL p x r 3 i) := by
    intro i hi
    by_cases e1 : i = r
    · rw [e1, dr, rl_2r, pr3, dk _ c3r c3r']
      show D x = rotD D p x r x ++ _
      rw [dx, Dx, Dr]
      simp
    · by_cases e2 : i = x
      · rw [e2, dx, pr2, rl_3x, dk _ c2x e2x, dk _ n3 n4]
      · rw [dn i e2 e1]
        by_cases e3 : p 1 x = some i
        · by_cases e4 : p 2 i = some x
          · have e5 : p 3 i ≠ some x := htwo i x hi e4
            have e6 : p 3 i ≠ some r := fun q => e2 (cr i hi (Or.inr q))
            rw [rl_2p e3 e4 e1, rl_3o (fun q => q.2 e4) e2, dk _ e5 e6]
            show D i = rotD D p x r r ++ _
            rw [dr, h1 i hi, e4]
            rfl
          · have e5 : p 3 i = some x := by
              rcases h3 x hx with q | ⟨j, q1, q2, q3⟩
              · rw [q.2] at e3; cases e3
              · rw [q2] at e3; cases e3
                exact q3.resolve_left e4
            have e6 : p 2 i ≠ some r := fun q => e2 (cr i hi (Or.inl q))
            rw [rl_3p e3 e4 e2, rl_2o (fun q => e4 q.2) e1, dk _ e4 e6]
            show D i = _ ++ i :: rotD D p x r r
            rw [dr, h1 i hi, e5]
            rfl
        · have a1 : p 2 i ≠ some x := fun q => e3 (ch i hi (Or.inl q))
          have a2 : p 3 i ≠ some x := fun q => e3 (ch i hi (Or.inr q))
          have a3 : p 2 i ≠ some r := fun q => e2 (cr i hi (Or.inl q))
          have a4 : p 3 i ≠ some r := fun q => e2 (cr i hi (Or.inr q))
          rw [rl_2o (fun q => e3 q.1) e1, rl_3o (fun q => e3 q.1) e2, dk _ a1 a3, dk _ a2 a4]
          exact h1 i hi
  have up1 : ∀ j, j ≠ x → j ≠ r → p 2 r ≠ some j → rotL p x r 1 j = p 1 j := fun j a b c => rl_1o c a b
  have rt1 : rotL p x r 1 (rotT p x r rt) = none := by
    unfold rotT
    split
    · rename_i q; rw [rl_1r hrx]; exact q
    · rename_i q
      rw [up1 rt (fun e => q (by rw [← e]; exact h5)) (fun e => by rw [e, hG.2] at h5; cases h5) (fun e => by rw [(h2 r rt hG.1 (Or.inl e)).2] at h5; cases h5)]
      exact h5
  have drt : rotD D p x r (rotT p x r rt) = D rt := by
    unfold rotT
    split
    · rename_i q
      rw [dr]
      rcases h3 x hx with g | ⟨j, g1, g2, g3⟩
      · rw [g.1]
      · rw [g2] at q; cases q
    · rename_i q
      exact dn rt (fun e => q (by rw [← e]; exact h5)) (fun e => by rw [e, hG.2] at h5; cases h5)
  refine ⟨dec, fun i j hi hj => ?_, fun i hi => ?_, ?_, rt1, fun i hi => ?_, fun i hi => h7 i (by rw [drt] at hi; exact hi), fun i hi => ?_⟩
  · -- children
    by_cases e1 : i = r
    · subst e1
      rw [rl_2r, pr3] at hj
      rcases hj with q | q
      · cases q; exact ⟨hx, rl_1x⟩
      · have g := h2 i j hG.1 (Or.inr q)
        refine ⟨g.1, ?_⟩
        rw [up1 j (fun e => c3r (by rw [← e]; exact q)) (fun e => c3r' (q.trans (by rw [e]))) (fun e => htwo i j hG.1 e q)]
        exact g.2
    · by_cases e2 : i = x
      · subst e2
        rw [pr2, rl_3x] at hj
        rcases hj with q | q
        · have g := h2 i j hx (Or.inl q)
          refine ⟨g.1, ?_⟩
          rw [up1 j (fun e => c2x (q.trans (by rw [e]))) (fun e => e2x (by rw [← e]; exact q)) (fun e => hxr (by have := (h2 r j hG.1 (Or.inl e)).2; rw [g.2] at this; exact Option.some.inj this))]
          exact g.2
        · exact ⟨(h2 r j hG.1 (Or.inl q)).1, rl_1c q (fun e => n3 (q.trans (by rw [e]))) (fun e => n4 (q.trans (by rw [e])))⟩
      · have old : (p 2 i = some j ∨ p 3 i = some j) → j ≠ x → G j ∧ rotL p x r 1 j = some i := fun q jx => by
          have g := h2 i j hi q
          refine ⟨g.1, ?_⟩
          rw [up1 j jx (fun e => e2 (cr i hi (by rw [← e]; exact q))) (fun e => e1 (by have := (h2 r j hG.1 (Or.inl e)).2; rw [g.2] at this; exact Option.some.inj this))]
          exact g.2
        by_cases e3 : p 1 x = some i
        · by_cases e4 : p 2 i = some x
          · rw [rl_2p e3 e4 e1, rl_3o (fun q => q.2 e4) e2] at hj
            rcases hj with q | q
            · cases q; exact ⟨hG.1, by rw [rl_1r hrx]; exact e3⟩
            · exact old (Or.inr q) (fun e => htwo i x hi e4 (by rw [← e]; exact q))
          · rw [rl_3p e3 e4 e2, rl_2o (fun q => e4 q.2) e1] at hj
            rcases hj with q | q
            · exact old (Or.inl q) (fun e => e4 (by rw [← e]; exact q))
            · cases q; exact ⟨hG.1, by rw [rl_1r hrx]; exact e3⟩
        · rw [rl_2o (fun q => e3 q.1) e1, rl_3o (fun q => e3 q.1) e2] at hj
          exact old hj (fun e => e3 (ch i hi (by rw [← e]; exact hj)))
  · -- parents
    by_cases e1 : i = r
    · rw [e1, rl_1r hrx]
      cases e3 : p 1 x with
      | none => left; exact ⟨by unfold rotT; rw [if_pos e3], rfl⟩
      | some k =>
        right
        rcases h3 x hx with q | ⟨j, q1, q2, q3⟩
        · rw [q.2] at e3; cases e3
        · rw [q2] at e3; cases e3
          have kr : k ≠ r := fun e => n1 (by rw [q2, e])
          have kx : k ≠ x := fun e => n2 (by rw [q2, e])
          refine ⟨k, q1, rfl, ?_⟩
          by_cases e4 : p 2 k = some x
          · left; exact rl_2p q2 e4 kr
          · right; exact rl_3p q2 e4 kx
    · by_cases e2 : i = x
      · rw [e2, rl_1x]
        exact Or.inr ⟨r, hG.1, rfl, Or.inl rl_2r⟩
      · by_cases e5 : p 2 r = some i
        · rw [rl_1c e5 e2 e1]
          exact Or.inr ⟨x, hx, rfl, Or.inr (by rw [rl_3x]; exact e5)⟩
        · rw [up1 i e2 e1 e5]
          rcases h3 i hi with q | ⟨j, q1, q2, q3⟩
          · left
            refine ⟨?_, q.2⟩
            unfold rotT
            split
            · rename_i g
              rcases h3 x hx with w | ⟨j, w1, w2, w3⟩
              · exact absurd (q.1.trans w.1.symm) e2
              · rw [w2] at g; cases g
            · exact q.1
          · right
            refine ⟨j, q1, q2, ?_⟩
            by_cases jr : j = r
            · subst jr
              rw [pr3]
              exact Or.inr (q3.resolve_left e5)
            · by_cases jx : j = x
              · subst jx
                rw [pr2]
                exact Or.inl (q3.resolve_right (fun g => e1 (by rw [hr] at g; exact (Option.some.inj g).symm)))
              · rcases q3 with g | g
                · left; rw [rl_2o (fun w => e2 (by have := w.2; rw [g] at this; exact Option.some.inj this)) jr]; exact g
                · by_cases w : p 1 x = some j ∧ p 2 j ≠ some x
                  · exfalso
                    have := (h3 x hx)
                    rcases this with v | ⟨k, v1, v2, v3⟩
                    · rw [v.2] at w; cases w.1
                    · rw [v2] at w
                      have ek : k = j := Option.some.inj w.1
                      rw [ek] at v3
                      have := v3.resolve_left w.2
                      rw [g] at this
                      exact e2 (Option.some.inj this)
                  · right; rw [rl_3o w jx]; exact g
  · unfold rotT
    split
    · exact hG.1
    · exact h4
  · rw [drt]
    by_cases e1 : i = r
    · rw [e1, dr]; exact h6 x hx
    · by_cases e2 : i = x
      · rw [e2, dx]
        refine List.Sublist.trans ?_ (h6 x hx)
        rw [Dx, Dr]
        refine List.Sublist.append (List.Sublist.refl _) (List.Sublist.cons_cons x ?_)
        exact List.sublist_append_left _ _
      · rw [dn i e2 e1]; exact h6 i hi
  · -- the order
    have hxr2 : lt x r := hbx r (hself r hG.1)
    by_cases e1 : i = r
    · rw [e1, rl_2r, pr3, dk _ c3r c3r']
      refine ⟨fun j hj => ?_, (h8 r hG.1).2⟩
      have hj : j ∈ rotD D p x r x := hj
      rw [dx, List.mem_append, List.mem_cons] at hj
      rcases hj with q | q | q
      · exact hl.2 _ _ _ ((h8 x hx).1 j q) hxr2
      · rw [q]; exact hxr2
      · exact (h8 r hG.1).1 j q
    · by_cases e2 : i = x
      · rw [e2, pr2, rl_3x, dk _ c2x e2x, dk _ n3 n4]
        refine ⟨(h8 x hx).1, fun j hj => hbx j ?_⟩
        show j ∈ D r
        rw [Dr, List.mem_append]; exact Or.inl hj
      · by_cases e3 : p 1 x = some i
        · by_cases e4 : p 2 i = some x
          · have e5 : p 3 i ≠ some x := htwo i x hi e4
            have e6 : p 3 i ≠ some r := fun q => e2 (cr i hi (Or.inr q))
            rw [rl_2p e3 e4 e1, rl_3o (fun q => q.2 e4) e2, dk _ e5 e6]
            refine ⟨fun j hj => (h8 i hi).1 j ?_, (h8 i hi).2⟩
            have hj : j ∈ rotD D p x r r := hj
            rw [dr] at hj
            rw [e4]; exact hj
          · have e5 : p 3 i = some x := by
              rcases h3 x hx with q | ⟨j, q1, q2, q3⟩
              · rw [q.2] at e3; cases e3
              · rw [q2] at e3; cases e3
                exact q3.resolve_left e4
            have e6 : p 2 i ≠ some r := fun q => e2 (cr i hi (Or.inl q))
            rw [rl_3p e3 e4 e2, rl_2o (fun q => e4 q.2) e1, dk _ e4 e6]
            refine ⟨(h8 i hi).1, fun j hj => (h8 i hi).2 j ?_⟩
            have hj : j ∈ rotD D p x r r := hj
            rw [dr] at hj
            rw [e5]; exact hj
        · have a1 : p 2 i ≠ some x := fun q => e3 (ch i hi (Or.inl q))
          have a2 : p 3 i ≠ some x := fun q => e3 (ch i hi (Or.inr q))
          have a3 : p 2 i ≠ some r := fun q => e2 (cr i hi (Or.inl q))
          have a4 : p 3 i ≠ some r := fun q => e2 (cr i hi (Or.inr q))
          rw [rl_2o (fun q => e3 q.1) e1, rl_3o (fun q => e3 q.1) e2, dk _ a1 a3, dk _ a2 a4]
          exact h8 i hi
/-! rotation to the right at x, r its left child -/
def rotR (p : PT) (x r : Nat) : PT := pm (rotL (pm p) x r)
def roRD (D : Nat → List Nat) (p : PT) (x r : Nat) : Nat → List Nat := fun i => (rotD (fun i => (D i).reverse) (pm p) x r i).reverse
theorem TrG.unmir {G : Nat → Prop} {lt : Nat → Nat → Prop} {p : PT} {D : Nat → List Nat} {rt : Nat} (h : TrG G (fun a b => lt b a) p D rt) : TrG G lt (pm p) (fun i => (D i).reverse) rt := h.mir
theorem TrG.rr {G lt p D rt} (h : TrG G lt p D rt) (hl : LtO lt) {x r : Nat} (hx : G x) (hr : p 2 x = some r) : TrG G lt (rotR p x r) (roRD D p x r) (rotT p x r rt) := by
  have h9 := (h.mir.rl hl.mir (x := x) (r := r) hx hr).unmir
  exact h9
/-! a new leaf -/
/-- where the leaf x may hang below q: all ancestors agree -/
def TrQ (G : Nat → Prop) (lt : Nat → Nat → Prop) (p : PT) (D : Nat → List Nat) (x q : Nat) : Prop := ∀ i, G i → (q ∈ dO D (p 2 i) → lt x i) ∧ (q ∈ dO D (p 3 i) → lt i x)
theorem TrG.q0 {G lt p D rt} (h : TrG G lt p D rt) {x : Nat} : TrQ G lt p D x rt := by
  have no : ∀ i, G i → ∀ o, (p 2 i = o ∨ p 3 i = o) → rt ∉ dO D o := fun i hi o ho hm => by
    cases o with
    | none => cases hm
    | some c =>
      have hc := h.2.1 i c hi (by rcases ho with q | q <;> simp [q])
      have h5 := h.2.2.2.2.1
      rcases h.sub' hc.1 hm with q | ⟨k, q1, -⟩
      · rw [q, hc.2] at h5; cases h5
      · rw [q1] at h5; cases h5
  exact fun i hi => ⟨fun q => absurd q (no i hi _ (Or.inl rfl)), fun q => absurd q (no i hi _ (Or.inr rfl))⟩
theorem TrG.qs {G lt p D rt} (h : TrG G lt p D rt) (hl : LtO lt) {x q c : Nat} (hQ : TrQ G lt p D x q) (hq : G q) (hc : (p 2 q = some c ∧ lt x q) ∨ (p 3 q = some c ∧ lt q x)) : TrQ G lt p D x c := by
  have hpc : G c ∧ p 1 c = some q := h.2.1 q c hq (by rcases hc with w | w; exact Or.inl w.1; exact Or.inr w.1)
  -- c below another child: so is q, or that child is c itself
  have up : ∀ i, G i → ∀ o, (p 2 i = o ∨ p 3 i = o) → c ∈ dO D o → (o = some c ∧ i = q) ∨ q ∈ dO D o := fun i hi o ho hm => by
    cases o with
    | none => cases hm
    | some k =>
      have hk := h.2.1 i k hi (by rcases ho with w | w <;> simp [w])
      rcases h.sub' hk.1 hm with w | ⟨m, w1, w2, -⟩
      · left
        refine ⟨by rw [w], ?_⟩
        have := hk.2; rw [← w, hpc.2] at this
        exact (Option.some.inj this).symm
      · right
        rw [hpc.2] at w1
        rw [Option.some.inj w1]; exact w2
  have sf : ∀ f, (f = 2 ∨ f = 3) → p f q = some c → c ∈ dO D (p f q) := fun f _ e => by rw [e]; exact h.self hpc.1
  refine fun i hi => ⟨fun w => ?_, fun w => ?_⟩
  · rcases up i hi _ (Or.inl rfl) w with ⟨e1, e2⟩ | e
    · subst e2
      rcases hc with g | g
      · exact g.2
      · -- both children
        exact absurd e1 (fun e => by
          have a := (h.2.2.2.2.2.2.2 i hi)
          have b1 := a.1 c (sf 2 (Or.inl rfl) e)
          have b2 := a.2 c (sf 3 (Or.inr rfl) g.1)
          exact hl.1 _ (hl.2 _ _ _ b1 b2))
    · exact (hQ i hi).1 e
  · rcases up i hi _ (Or.inr rfl) w with ⟨e1, e2⟩ | e
    · subst e2
      rcases hc with g | g
      · exact absurd e1 (fun e => by
          have a := (h.2.2.2.2.2.2.2 i hi)
          have b1 := a.1 c (sf 2 (Or.inl rfl) g.1)
          have b2 := a.2 c (sf 3 (Or.inr rfl) e)
          exact hl.1 _ (hl.2 _ _ _ b1 b2))
      · exact g.2
    · exact (hQ i hi).2 e
def insG (G : Nat → Prop) (x : Nat) : Nat → Prop := fun i => G i ∨ i = x
def insD (D : Nat → List Nat) (q x : Nat) : Nat → List Nat := fun i => if i = x then [x] else (D i).flatMap (fun j => if j = q then [x, q] else [j])
theorem sub_fm {f : Nat → List Nat} {l1 l2 : List Nat} (h : l1.Sublist l2) : (l1.flatMap f).Sublist (l2.flatMap f) := by
  induction h with
  | slnil => exact List.Sublist.refl _
  | cons a h ih => rw [List.flatMap_cons]; exact List.Sublist.trans ih (List.sublist_append_right _ _)
  | cons_cons a h ih => rw [List.flatMap_cons, List.flatMap_cons]; exact List.Sublist.append (List.Sublist.refl _) ih
theorem TrG.il {G lt p D rt} (h : TrG G lt p D rt) {x q : Nat} (hx : ¬ G x) (hq : G q) (hq2 : p 2 q = none) (hx2 : p 2 x = none) (hx3 : p 3 x = none) (hlt : lt x q) (hQ : TrQ G lt p D x q) : TrG (insG G x) lt (pst (pst p 2 q (some x)) 1 x (some q)) (insD D q x) rt := by
  have hin := fun i hi => @TrG.in G lt p D rt h i hi
  obtain ⟨h1, h2, h3, h4, h5, h6, h7, h8⟩ := h
  have hqx : q ≠ x := fun e => hx (by rw [← e]; exact hq)
  have gn : ∀ i, G i → i ≠ x := fun i hi e => hx (by rw [← e]; exact hi)
  have dx : insD D q x x = [x] := by unfold insD; rw [if_pos rfl]
  have dn : ∀ i, i ≠ x → insD D q x i = (D i).flatMap (fun j => if j = q then [x, q] else [j]) := fun i e => by unfold insD; rw [if_neg e]
  have dk : ∀ i, G i → ∀ o, (p 2 i = o ∨ p 3 i = o) → dO (insD D q x) o = (dO D o).flatMap (fun j => if j = q then [x, q] else [j]) := fun i hi o ho => by
    cases o with
    | none => rfl
    | some j => exact dn j (gn j (h2 i j hi (by rcases ho with w | w <;> simp [w])).1)
  have q2 : pst (pst p 2 q (some x)) 1 x (some q) 2 q = some x := by rw [pst_f (by decide), pst_e]
  have o2 : ∀ i, i ≠ q → pst (pst p 2 q (some x)) 1 x (some q) 2 i = p 2 i := fun i e => by rw [pst_f (by decide), pst_i e]
  have o3 : ∀ i, pst (pst p 2 q (some x)) 1 x (some q) 3 i = p 3 i := fun i => by rw [pst_f (by decide), pst_f (by decide)]
  have o1 : ∀ i, i ≠ x → pst (pst p 2 q (some x)) 1 x (some q) 1 i = p 1 i := fun i e => by rw [pst_i e, pst_f (by decide)]
  have x1 : pst (pst p 2 q (some x)) 1 x (some q) 1 x = some q := pst_e
  have mem : ∀ (l : List Nat) (j : Nat), j ∈ l.flatMap (fun j => if j = q then [x, q] else [j]) → j ∈ l ∨ (j = x ∧ q ∈ l) := fun l j hj => by
    rw [List.mem_flatMap] at hj
    obtain ⟨a, ha, hb⟩ := hj
    by_cases e : a = q
    · rw [if_pos e] at hb
      rw [List.mem_cons, List.mem_singleton] at hb
      rcases hb with w | w
      · exact Or.inr ⟨w, by rw [← e]; exact ha⟩
      · exact Or.inl (by rw [w, ← e]; exact ha)
    · rw [if_neg e, List.mem_singleton] at hb
      exact Or.inl (by rw [hb]; exact ha)
  refine ⟨fun i hi => ?_, fun i j hi hj => ?_, fun i hi => ?_, Or.inl h4, ?_, fun i hi => ?_, fun i hi => ?_, fun i hi => ?_⟩
  · rcases hi with hi | rfl
    · rw [dn i (gn i hi), o3, dk i hi _ (Or.inr rfl), h1 i hi, List.flatMap_append, List.flatMap_cons]
      by_cases e : i = q
      · rw [e, q2, hq2, if_pos rfl]
        show _ = insD D q x x ++ _
        rw [dx]; rfl
      · rw [o2 i e, dk i hi _ (Or.inl rfl), if_neg e]; rfl
    · rw [dx, o2 i (Ne.symm hqx), o3, hx2, hx3]; rfl
  · rcases hi with hi | rfl
    · by_cases e : i = q
      · rw [e, q2, o3] at hj
        rcases hj with w | w
        · cases w; exact ⟨Or.inr rfl, by rw [e]; exact x1⟩
        · have g := h2 q j hq (Or.inr w)
          exact ⟨Or.inl g.1, by rw [o1 j (gn j g.1), e]; exact g.2⟩
      · rw [o2 i e, o3] at hj
        have g := h2 i j hi hj
        exact ⟨Or.inl g.1, by rw [o1 j (gn j g.1)]; exact g.2⟩
    · rw [o2 i (Ne.symm hqx), o3, hx2, hx3] at hj
      rcases hj with w | w <;> cases w
  · rcases hi with hi | rfl
    · rw [o1 i (gn i hi)]
      rcases h3 i hi with w | ⟨j, w1, w2, w3⟩
      · exact Or.inl w
      · refine Or.inr ⟨j, Or.inl w1, w2, ?_⟩
        rw [o3]
        rcases w3 with g | g
        · left; rw [o2 j (fun e => by rw [e, hq2] at g; cases g)]; exact g
        · exact Or.inr g
    · exact Or.inr ⟨q, Or.inl hq, x1, Or.inl q2⟩
  · rw [o1 rt (gn rt h4)]; exact h5
  · rw [dn rt (gn rt h4)]
    rcases hi with hi | rfl
    · rw [dn i (gn i hi)]; exact sub_fm (h6 i hi)
    · rw [dx, List.singleton_sublist, List.mem_flatMap]
      exact ⟨q, hin q hq, by rw [if_pos rfl]; simp⟩
  · rw [dn rt (gn rt h4)] at hi
    rcases mem _ _ hi with w | w
    · exact Or.inl (h7 i w)
    · exact Or.inr w.1
  · rcases hi with hi | rfl
    · rw [o3, dk i hi _ (Or.inr rfl)]
      constructor
      · intro j hj
        by_cases e : i = q
        · rw [e, q2] at hj
          have hj : j ∈ insD D q x x := hj
          rw [dx, List.mem_singleton] at hj
          rw [hj, e]; exact hlt
        · rw [o2 i e, dk i hi _ (Or.inl rfl)] at hj
          rcases mem _ _ hj with w | w
          · exact (h8 i hi).1 j w
          · rw [w.1]; exact (hQ i hi).1 w.2
      · intro j hj
        rcases mem _ _ hj with w | w
        · exact (h8 i hi).2 j w
        · rw [w.1]; exact (hQ i hi).2 w.2
    · rw [o2 i (Ne.symm hqx), o3, hx2, hx3]
      exact ⟨fun j hj => (by cases hj), fun j hj => (by cases hj)⟩
theorem TrG.ir {G lt p D rt} (h : TrG G lt p D rt) {x q : Nat} (hx : ¬ G x) (hq : G q) (hq2 : p 3 q = none) (hx2 : p 2 x = none) (hx3 : p 3 x = none) (hlt : lt q x) (hQ : TrQ G lt p D x q) : TrG (insG G x) lt (pst (pst p 3 q (some x)) 1 x (some q)) (fun i => (insD (fun i => (D i).reverse) q x i).reverse) rt := by
  have hQ2 : TrQ G (fun a b => lt b a) (pm p) (fun i => (D i).reverse) x q := fun i hi => by
    have := hQ i hi
    refine ⟨fun w => ?_, fun w => ?_⟩
    · have w : q ∈ dO (fun i => (D i).reverse) (p 3 i) := w
      rw [dO_rev, List.mem_reverse] at w
      exact this.2 w
    · have w : q ∈ dO (fun i => (D i).reverse) (p 2 i) := w
      rw [dO_rev, List.mem_reverse] at w
      exact this.1 w
  have h9 := (h.mir.il hx hq hq2 hx3 hx2 hlt hQ2).unmir
  have e : pm (pst (pst (pm p) 2 q (some x)) 1 x (some q)) = pst (pst p 3 q (some x)) 1 x (some q) := by
    funext g j
    by_cases g2 : g = 2
    · subst g2
      have a : pst (pst (pm p) 2 q (some x)) 1 x (some q) 3 j = p 2 j := (pst_f (by decide)).trans (pst_f (by decide))
      have b : pst (pst p 3 q (some x)) 1 x (some q) 2 j = p 2 j := (pst_f (by decide)).trans (pst_f (by decide))
      exact a.trans b.symm
    · by_cases g3 : g = 3
      · subst g3
        have a : pst (pst (pm p) 2 q (some x)) 1 x (some q) 2 j = pst (pm p) 2 q (some x) 2 j := pst_f (by decide)
        have b : pst (pst p 3 q (some x)) 1 x (some q) 3 j = pst p 3 q (some x) 3 j := pst_f (by decide)
        refine a.trans (Eq.trans ?_ b.symm)
        by_cases e : j = q
        · rw [e, pst_e, pst_e]
        · rw [pst_i e, pst_i e]; rfl
      · have e1 : ∀ (P : PT), pm P g j = P g j := fun P => by unfold pm; rw [if_neg g2, if_neg g3]
        rw [e1]
        by_cases e : g = 1 ∧ j = x
        · rw [e.1, e.2, pst_e, pst_e]
        · rw [pst_n e, pst_n e, pst_f g2, pst_f g3, e1]
  rw [e] at h9
  exact h9
theorem TrG.go {G lt p D rt} (h : TrG G lt p D rt) {q i : Nat} (hq : G q) (hi : i ∈ D q) : i = q ∨ (i ∈ dO D (p 2 q) ∧ lt i q) ∨ (i ∈ dO D (p 3 q) ∧ lt q i) := by
  rw [h.1 q hq, List.mem_append, List.mem_cons] at hi
  have b := h.2.2.2.2.2.2.2 q hq
  rcases hi with w | w | w
  · exact Or.inr (Or.inl ⟨w, b.1 i w⟩)
  · exact Or.inl w
  · exact Or.inr (Or.inr ⟨w, b.2 i w⟩)
theorem TrG.cg {G lt p D rt} (h : TrG G lt p D rt) {p' : PT} (he : ∀ f i, G i → (f = 1 ∨ f = 2 ∨ f = 3) → p' f i = p f i) : TrG G lt p' D rt := by
  obtain ⟨h1, h2, h3, h4, h5, h6, h7, h8⟩ := h
  have e1 := fun i hi => he 1 i hi (Or.inl rfl)
  have e2 := fun i hi => he 2 i hi (Or.inr (Or.inl rfl))
  have e3 := fun i hi => he 3 i hi (Or.inr (Or.inr rfl))
  refine ⟨fun i hi => by rw [e2 i hi, e3 i hi]; exact h1 i hi, fun i j hi hj => ?_, fun i hi => ?_, h4, by rw [e1 rt h4]; exact h5, h6, h7, fun i hi => by rw [e2 i hi, e3 i hi]; exact h8 i hi⟩
  · rw [e2 i hi, e3 i hi] at hj
    have g := h2 i j hi hj
    exact ⟨g.1, by rw [e1 j g.1]; exact g.2⟩
  · rw [e1 i hi]
    rcases h3 i hi with w | ⟨j, w1, w2, w3⟩
    · exact Or.inl w
    · exact Or.inr ⟨j, w1, w2, by rw [e2 j w1, e3 j w1]; exact w3⟩
/-- one node -/
theorem TrG.one {lt : Nat → Nat → Prop} {p : PT} {x : Nat} (h1 : p 1 x = none) (h2 : p 2 x = none) (h3 : p 3 x = none) : TrG (fun i => i = x) lt p (fun _ => [x]) x := by
  refine ⟨fun i hi => ?_, fun i j hi hj => ?_, fun i hi => Or.inl ⟨hi, by rw [hi]; exact h1⟩, rfl, h1, fun i _ => List.Sublist.refl _, fun i hi => List.mem_singleton.mp hi, fun i hi => ?_⟩
  · rw [hi, h2, h3]; rfl
  · rw [hi, h2, h3] at hj; rcases hj with w | w <;> cases w
  · rw [hi, h2, h3]; exact ⟨fun j hj => (by cases hj), fun j hj => (by cases hj)⟩
end PB35
