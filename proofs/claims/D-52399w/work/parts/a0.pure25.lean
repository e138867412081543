/-! ===== cells made one behind another ===== -/
section PB25
set_option maxRecDepth 100000
/-- H is h0 and the cells of L, the last one first, each new when it was made -/
def CH (h0 : AH) : List (Nat × va_E) → AH → Prop
  | [], H => H = h0
  | p :: L, H => ∃ H', CH h0 L H' ∧ H' p.1 = none ∧ H = up H' p.1 p.2
theorem CH.le {h0 : AH} : ∀ {L : List (Nat × va_E)} {H : AH}, CH h0 L H → hle h0 H
  | [], H, h => by have h : H = h0 := h; rw [h]; exact hle.rf
  | p :: L, H, h => by
    obtain ⟨H', h1, h2, rfl⟩ := h
    exact (CH.le h1).tr (up_hle h2)
theorem CH.at {h0 : AH} : ∀ {L : List (Nat × va_E)} {H : AH}, CH h0 L H → ∀ (k : Nat) (p : Nat × va_E), L[k]? = some p → H p.1 = some p.2
  | [], _, _, k, p, hk => by cases hk
  | q :: L, H, h, k, p, hk => by
    obtain ⟨H', h1, h2, rfl⟩ := h
    cases k with
    | zero => cases hk; exact up_s
    | succ k => exact up_hle h2 _ _ (CH.at h1 k p hk)
theorem CH.nw {h0 : AH} : ∀ {L : List (Nat × va_E)} {H : AH}, CH h0 L H → ∀ (k : Nat) (p : Nat × va_E), L[k]? = some p → h0 p.1 = none
  | [], _, _, k, p, hk => by cases hk
  | q :: L, H, h, k, p, hk => by
    obtain ⟨H', h1, h2, rfl⟩ := h
    cases k with
    | zero =>
      cases hk
      cases hc : h0 q.1 with
      | none => rfl
      | some e => rw [CH.le h1 _ _ hc] at h2; cases h2
    | succ k => exact CH.nw h1 k p hk
theorem CH.inj {h0 : AH} : ∀ {L : List (Nat × va_E)} {H : AH}, CH h0 L H → ∀ (i j : Nat) (p q : Nat × va_E), L[i]? = some p → L[j]? = some q → p.1 = q.1 → i = j
  | [], _, _, i, j, p, q, hi, _, _ => by cases hi
  | r :: L, H, h, i, j, p, q, hi, hj, e => by
    obtain ⟨H', h1, h2, rfl⟩ := h
    cases i with
    | zero =>
      cases j with
      | zero => rfl
      | succ j =>
        cases hi
        have := CH.at h1 j q hj
        rw [← e, h2] at this; cases this
    | succ i =>
      cases j with
      | zero =>
        cases hj
        have := CH.at h1 i p hi
        rw [e, h2] at this; cases this
      | succ j => exact congrArg Nat.succ (CH.inj h1 i j p q hi hj e)
/-- a cell that was there before may be set apart -/
theorem CH.out {h0 : AH} {m : Nat} {e : va_E} : ∀ {L : List (Nat × va_E)} {H : AH}, CH (up h0 m e) L H → ∃ H0, CH h0 L H0 ∧ H = up H0 m e
  | [], H, h => ⟨h0, rfl, h⟩
  | p :: L, H, h => by
    obtain ⟨H', h1, h2, rfl⟩ := h
    obtain ⟨H0, g1, rfl⟩ := CH.out h1
    have hn : p.1 ≠ m := fun q => by rw [q, up_s] at h2; cases h2
    rw [up_n hn] at h2
    refine ⟨up H0 p.1 p.2, ⟨H0, g1, h2, rfl⟩, ?_⟩
    funext q
    by_cases a : q = m
    · subst a; rw [up_s, up_n (Ne.symm hn), up_s]
    · by_cases b : q = p.1
      · subst b; rw [up_s, up_n hn, up_s]
      · rw [up_n b, up_n a, up_n a, up_n b]
theorem CH.app {h0 : AH} {L1 : List (Nat × va_E)} {H1 : AH} (a : CH h0 L1 H1) : ∀ {L2 : List (Nat × va_E)} {H2 : AH}, CH H1 L2 H2 → CH h0 (L2 ++ L1) H2
  | [], H2, h => by have h : H2 = H1 := h; rw [h]; exact a
  | p :: L2, H2, h => by
    obtain ⟨H', h1, h2, rfl⟩ := h
    exact ⟨H', CH.app a h1, h2, rfl⟩
theorem CH.no {h0 : AH} {x : Nat} (hx : h0 x = none) : ∀ {L : List (Nat × va_E)} {K : AH}, CH h0 L K → (∀ (k : Nat) (p : Nat × va_E), L[k]? = some p → p.1 ≠ x) → K x = none
  | [], K, hk, _ => by have hk : K = h0 := hk; rw [hk]; exact hx
  | p :: L, K, hk, hn => by
    obtain ⟨K', h1, h2, rfl⟩ := hk
    have hp : p.1 ≠ x := hn 0 p rfl
    rw [up_n (Ne.symm hp)]
    exact CH.no hx h1 (fun k q hq => hn (k + 1) q hq)
/-- behind a constructor: the new object x with its own cells L, beside the object m -/
theorem CH.ob {h0 Hk H' : AH} {K L : List (Nat × va_E)} {m x : Nat} {em ex ex' : va_E} (hK : CH h0 K Hk) (hn : (up Hk m em) x = none) (h : CH (up (up Hk m em) x ex) L H') : ∃ H1, CH h0 (((x, ex') :: L) ++ K) H1 ∧ up H' x ex' = up H1 m em := by
  have hxm : x ≠ m := fun q => by rw [q, up_s] at hn; cases hn
  have hx0 : Hk x = none := by rwa [up_n hxm] at hn
  have hnx : ∀ (k : Nat) (p : Nat × va_E), L[k]? = some p → p.1 ≠ x := fun k p hk q => by have := CH.nw h k p hk; rw [q, up_s] at this; cases this
  obtain ⟨H2, g1, rfl⟩ := CH.out h
  obtain ⟨H3, g2, rfl⟩ := CH.out g1
  have hx3 : H3 x = none := CH.no hx0 g2 hnx
  refine ⟨up H3 x ex', ⟨H3, CH.app hK g2, hx3, rfl⟩, ?_⟩
  rw [up_up, up_cm (Ne.symm hxm)]
/-- a new row b beside the object m -/
theorem CH.ar {h0 Hk : AH} {K : List (Nat × va_E)} {m b : Nat} {em eb : va_E} (hK : CH h0 K Hk) (hn : (up Hk m em) b = none) : ∃ H1, CH h0 ((b, eb) :: K) H1 ∧ up (up Hk m em) b eb = up H1 m em := by
  have hbm : b ≠ m := fun q => by rw [q, up_s] at hn; cases hn
  have hb0 : Hk b = none := by rwa [up_n hbm] at hn
  exact ⟨up Hk b eb, ⟨Hk, hK, hb0, rfl⟩, up_cm (Ne.symm hbm)⟩
end PB25
