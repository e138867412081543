section PB37
set_option maxRecDepth 100000
/-- a rotation, write by write -/
def rqb (p : PT) (x r : Nat) : PT := match p 2 r with
  | none => pst p 3 x none
  | some c => pst (pst p 3 x (some c)) 1 c (some x)
def rqd (p : PT) (x r : Nat) : PT := match p 1 x with
  | none => pst (rqb p x r) 1 r none
  | some k => if p 2 k = some x then pst (pst (rqb p x r) 1 r (some k)) 2 k (some r) else pst (pst (rqb p x r) 1 r (some k)) 3 k (some r)
def rqe (p : PT) (x r : Nat) : PT := pst (pst (rqd p x r) 2 r (some x)) 1 x (some r)
theorem rqe_eq {p : PT} {x r : Nat} (hxr : x ≠ r) (n1 : p 1 x ≠ some r) (n2 : p 1 x ≠ some x) (n3 : p 2 r ≠ some x) (n4 : p 2 r ≠ some r) : rqe p x r = rotL p x r := by
  have hrx := Ne.symm hxr
  funext f i
  unfold rqe rqd rqb
  by_cases c1 : f = 1 ∧ i = x
  · obtain ⟨rfl, rfl⟩ := c1; rw [pst_e, rl_1x]
  · rw [pst_n c1]
    by_cases c2 : f = 2 ∧ i = r
    · obtain ⟨rfl, rfl⟩ := c2; rw [pst_e, rl_2r]
    · rw [pst_n c2]
      have in2 : (match p 2 r with | none => pst p 3 x none | some c => pst (pst p 3 x (some c)) 1 c (some x)) f i = if f = 1 ∧ p 2 r = some i then some x else if f = 3 ∧ i = x then p 2 r else p f i := by
        cases hc : p 2 r with
        | none => simp [pst]
        | some c =>
          dsimp only
          unfold pst
          by_cases a : f = 1 ∧ i = c
          · rw [if_pos a, if_pos ⟨a.1, by rw [a.2]⟩]
          · have b : ¬ (f = 1 ∧ some c = some i) := fun w => a ⟨w.1, (Option.some.inj w.2).symm⟩
            rw [if_neg a, if_neg b]
      cases hk : p 1 x with
      | none =>
        dsimp only
        by_cases c3 : f = 1 ∧ i = r
        · obtain ⟨rfl, rfl⟩ := c3; rw [pst_e, rl_1r hrx, hk]
        · rw [pst_n c3, in2]
          unfold rotL
          rw [if_neg c2, if_neg c1, if_neg c3, hk]
          by_cases c4 : f = 3 ∧ i = x
          · rw [if_neg (by omega), if_pos c4, if_pos c4]
          · rw [if_neg c4, if_neg c4]
            by_cases c5 : f = 1 ∧ p 2 r = some i
            · rw [if_pos c5, if_pos c5]
            · rw [if_neg c5, if_neg c5, if_neg (fun w => by cases w.2.1), if_neg (fun w => by cases w.2.1)]
      | some k =>
        dsimp only
        have kr : k ≠ r := fun e => n1 (by rw [hk, e])
        have kx : k ≠ x := fun e => n2 (by rw [hk, e])
        have base : pst (match p 2 r with | none => pst p 3 x none | some c => pst (pst p 3 x (some c)) 1 c (some x)) 1 r (some k) f i = if f = 3 ∧ i = x then p 2 r else if f = 1 ∧ i = r then some k else if f = 1 ∧ p 2 r = some i then some x else p f i := by
          by_cases c3 : f = 1 ∧ i = r
          · rw [if_neg (by omega), if_pos c3]; obtain ⟨rfl, rfl⟩ := c3; rw [pst_e]
          · rw [pst_n c3, in2, if_neg c3]
            by_cases c4 : f = 3 ∧ i = x
            · rw [if_neg (by omega), if_pos c4, if_pos c4]
            · rw [if_neg c4, if_neg c4]
        by_cases e4 : p 2 k = some x
        · rw [if_pos e4]
          by_cases c6 : f = 2 ∧ i = k
          · obtain ⟨rfl, rfl⟩ := c6; rw [pst_e, rl_2p hk e4 kr]
          · rw [pst_n c6, base]
            unfold rotL
            rw [if_neg c2, if_neg c1, hk]
            have d1 : ¬ (f = 2 ∧ some k = some i ∧ p 2 i = some x) := fun w => c6 ⟨w.1, (Option.some.inj w.2.1).symm⟩
            have d2 : ¬ (f = 3 ∧ some k = some i ∧ p 2 i ≠ some x) := fun w => w.2.2 (by rw [← Option.some.inj w.2.1]; exact e4)
            rw [if_neg d1, if_neg d2]
        · rw [if_neg e4]
          by_cases c6 : f = 3 ∧ i = k
          · obtain ⟨rfl, rfl⟩ := c6; rw [pst_e, rl_3p hk e4 kx]
          · rw [pst_n c6, base]
            unfold rotL
            rw [if_neg c2, if_neg c1, hk]
            have d1 : ¬ (f = 2 ∧ some k = some i ∧ p 2 i = some x) := fun w => e4 (by rw [Option.some.inj w.2.1]; exact w.2.2)
            have d2 : ¬ (f = 3 ∧ some k = some i ∧ p 2 i ≠ some x) := fun w => c6 ⟨w.1, (Option.some.inj w.2.1).symm⟩
            rw [if_neg d1, if_neg d2]
def sw (f : Nat) : Nat := if f = 2 then 3 else if f = 3 then 2 else f
theorem pm_pst {p : PT} {f i : Nat} {o : Option Nat} : pm (pst p f i o) = pst (pm p) (sw f) i o := by
  have pms : ∀ (q : PT) (g j : Nat), pm q g j = q (sw g) j := fun q g j => by
    unfold pm sw
    by_cases g2 : g = 2
    · rw [if_pos g2, if_pos g2]
    · by_cases g3 : g = 3
      · rw [if_neg g2, if_pos g3, if_neg g2, if_pos g3]
      · rw [if_neg g2, if_neg g3, if_neg g2, if_neg g3]
  have sws : ∀ g, sw (sw g) = g := fun g => by
    unfold sw
    repeat' split
    all_goals omega
  funext g j
  rw [pms]
  by_cases e : sw g = f ∧ j = i
  · have e2 : g = sw f ∧ j = i := ⟨by rw [← e.1, sws], e.2⟩
    rw [e.1, e.2, pst_e, e2.1, pst_e]
  · have e2 : ¬ (g = sw f ∧ j = i) := fun w => e ⟨by rw [w.1, sws], w.2⟩
    rw [pst_n e, pst_n e2, pms]
end PB37
