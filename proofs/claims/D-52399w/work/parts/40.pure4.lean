/-! ===== the best way ===== -/
section PB4
set_option maxRecDepth 100000
def oLt (a b : Option Nat) : Bool := match b with
  | none => false
  | some q => match a with
    | none => true
    | some p => decide (p < q)
theorem nI_m1 {n : Nat} (hn : n < 2 ^ 31) : (-1 : Int32) < nI n := Int32.lt_of_lt_of_le (by decide) (nI_pos' hn)
theorem oI_lt {a b : Option Nat} (ha : ∀ y, a = some y → y < 2 ^ 31) (hb : ∀ y, b = some y → y < 2 ^ 31) : oI a < oI b ↔ oLt a b = true := by
  cases b with
  | none =>
    cases a with
    | none => simp [oLt, oI]
    | some p =>
      have := nI_m1 (ha p rfl)
      simp only [oLt, oI]
      exact ⟨fun q => (Int32.lt_irrefl (Int32.lt_trans this q)).elim, fun q => by cases q⟩
  | some q =>
    cases a with
    | none => exact ⟨fun _ => rfl, fun _ => nI_m1 (hb q rfl)⟩
    | some p => simp only [oLt, oI, decide_eq_true_eq]; exact nI_ltI (ha p rfl) (hb q rfl)
def pwN (B : GB) (k w : Nat) : Nat := poN (putB B k (w / 6) (w % 6))
def mdN (B : GB) (k w : Nat) : Option Nat := if fwP B k w then some (pwN B k w) else none
/-- the best way of the first w, with its points -/
def bwN (B : GB) (k : Nat) : Nat → Option (Nat × Nat)
  | 0 => none
  | w + 1 => if oLt ((bwN B k w).map Prod.snd) (mdN B k w) then some (w, pwN B k w) else bwN B k w
/-- how often a better one was found -/
def bwC (B : GB) (k : Nat) : Nat → Nat
  | 0 => 0
  | w + 1 => bwC B k w + (if oLt ((bwN B k w).map Prod.snd) (mdN B k w) then 1 else 0)
theorem bwC_mono (B : GB) (k : Nat) {a b : Nat} (h : a ≤ b) : bwC B k a ≤ bwC B k b := by
  induction h with
  | refl => exact Nat.le_refl _
  | step h ih =>
    rename_i m
    show _ ≤ bwC B k m + _
    omega
theorem bwN_t {B : GB} {k w : Nat} (h : oLt ((bwN B k w).map Prod.snd) (mdN B k w) = true) : bwN B k (w + 1) = some (w, pwN B k w) ∧ bwC B k (w + 1) = bwC B k w + 1 := by
  constructor
  · show (if _ then _ else _) = _; rw [if_pos h]
  · show _ + (if _ then _ else _) = _; rw [if_pos h]
theorem bwN_f {B : GB} {k w : Nat} (h : oLt ((bwN B k w).map Prod.snd) (mdN B k w) = false) : bwN B k (w + 1) = bwN B k w ∧ bwC B k (w + 1) = bwC B k w := by
  constructor
  · show (if _ then _ else _) = _; rw [if_neg (by rw [h]; decide)]
  · show _ + (if _ then _ else _) = _; rw [if_neg (by rw [h]; decide), Nat.add_zero]
theorem mdN_none {B : GB} {k w : Nat} (h : fwP B k w = false) : mdN B k w = none := by unfold mdN; rw [if_neg (by rw [h]; decide)]
theorem mdN_some {B : GB} {k w : Nat} (h : fwP B k w = true) : mdN B k w = some (pwN B k w) := by unfold mdN; rw [if_pos h]
theorem oLt_none {a : Option Nat} : oLt a none = false := rfl
theorem bwN_w {B : GB} {k : Nat} : ∀ {n w p : Nat}, bwN B k n = some (w, p) → w < n ∧ fwP B k w = true ∧ p = pwN B k w
  | 0, w, p, h => by cases h
  | n + 1, w, p, h => by
    by_cases hc : oLt ((bwN B k n).map Prod.snd) (mdN B k n) = true
    · rw [(bwN_t hc).1] at h
      cases h
      refine ⟨by omega, ?_, rfl⟩
      cases hf : fwP B k n with
      | true => rfl
      | false => rw [mdN_none hf, oLt_none] at hc; cases hc
    · rw [(bwN_f (by simpa using hc)).1] at h
      have := bwN_w h
      exact ⟨by omega, this.2⟩
theorem ftN_d {B : GB} {k x t : Nat} (h : ftN B k x t = true) : Bl B x = 0 ∧ Bp B k = none := by
  unfold ftN at h
  simp only [Bool.and_eq_true, Option.isNone_iff_eq_none, hasT, Bool.not_eq_true', decide_eq_false_iff_not] at h
  exact ⟨by omega, h.1.1.1⟩
theorem fwP_e {B : GB} {k x t : Nat} (ht : t < 6) : fwP B k (6 * x + t) = ftN B k x t := by
  unfold fwP
  rw [show (6 * x + t) / 6 = x by omega, show (6 * x + t) % 6 = t by omega]
theorem pwN_e {B : GB} {k x t : Nat} (ht : t < 6) : pwN B k (6 * x + t) = poN (putB B k x t) := by
  unfold pwN
  rw [show (6 * x + t) / 6 = x by omega, show (6 * x + t) % 6 = t by omega]
/-- an Optional of a Way -/
def OpW (z : ZR) (a : Nat) (o : Option Nat) : Prop := match o with
  | none => z a (.inr (30, [.null]))
  | some w => ∃ y, z a (.inr (30, [.ref y])) ∧ z y (.inr (22, [.int (nI (w / 6)), .int (nI (w % 6))]))
theorem OpW.mono {z z' : ZR} {a : Nat} {o : Option Nat} (h : OpW z a o) (hz : zle z z') : OpW z' a o := by
  cases o with
  | none => exact hz _ _ h
  | some w =>
    obtain ⟨y, h1, h2⟩ := h
    exact ⟨y, hz _ _ h1, hz _ _ h2⟩
theorem cst_op {Γ : Gm} {z : ZR} (hz : zle (cst Γ) z) : OpW z (gE Γ 19) none := hz _ _ (Or.inr (Or.inr (Or.inr (Or.inr (Or.inr (Or.inl ⟨rfl, rfl⟩))))))
theorem GmM.zm {Γ : Gm} {z z' : ZR} {h : AH} {g : Nat} {A : Nat → Nat} {B : GB} {G : GG} {rn dn : Int32} (hG : GmM Γ z h g A B G rn dn) (hz : zle z z') : GmM Γ z' h g A B G rn dn := by
  obtain ⟨h1, h2, h3, h4, h5⟩ := hG
  exact ⟨h1, h2, h3, fun k hk => (h4 k hk).mono hz, h5⟩
end PB4
