section PB5
set_option maxRecDepth 100000
def btC (B : GB) (k : Nat) : Nat := sumN (fun i => bwC B i (6 * Bz B)) k
/-- the best tile of the first k, with its points -/
def btN (B : GB) : Nat → Option (Nat × Nat)
  | 0 => none
  | k + 1 => if oLt ((btN B k).map Prod.snd) ((bwN B k (6 * Bz B)).map Prod.snd) then some (k, ((bwN B k (6 * Bz B)).map Prod.snd).getD 0) else btN B k
theorem btN_t {B : GB} {k w p : Nat} (hb : bwN B k (6 * Bz B) = some (w, p)) (h : oLt ((btN B k).map Prod.snd) (some p) = true) : btN B (k + 1) = some (k, p) := by
  show (if _ then _ else _) = _
  rw [hb]
  exact if_pos h
theorem btN_f {B : GB} {k : Nat} (h : oLt ((btN B k).map Prod.snd) ((bwN B k (6 * Bz B)).map Prod.snd) = false) : btN B (k + 1) = btN B k := by
  show (if _ then _ else _) = _
  rw [if_neg (by rw [h]; decide)]
theorem btN_lt {B : GB} : ∀ {n k p : Nat}, btN B n = some (k, p) → k < n ∧ ∃ w, bwN B k (6 * Bz B) = some (w, p)
  | 0, k, p, h => by cases h
  | n + 1, k, p, h => by
    by_cases hc : oLt ((btN B n).map Prod.snd) ((bwN B n (6 * Bz B)).map Prod.snd) = true
    · cases hb : bwN B n (6 * Bz B) with
      | none => rw [hb] at hc; cases hc
      | some q =>
        obtain ⟨w, p'⟩ := q
        rw [hb] at hc
        rw [btN_t hb hc] at h
        cases h
        exact ⟨by omega, w, hb⟩
    · rw [btN_f (by simpa using hc)] at h
      have := btN_lt h
      exact ⟨by omega, this.2⟩
theorem btC_mono (B : GB) {a b : Nat} (h : a ≤ b) : btC B a ≤ btC B b := by
  induction h with
  | refl => exact Nat.le_refl _
  | step h ih =>
    rename_i m
    show _ ≤ btC B m + _
    omega
theorem pwN_le {B : GB} (hB : BO B) {k w : Nat} (hk : k < Bt B) (hw : w < 6 * Bz B) : pwN B k w ≤ 1813 := poN_le (putB_o hB hk (by have := hB.z; omega) (by omega))
end PB5
