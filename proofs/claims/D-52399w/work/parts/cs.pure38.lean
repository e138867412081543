/-! ===== trailing zeros ===== -/
section PB38
set_option maxRecDepth 100000
theorem mask_t {n t q : Nat} (h : n = 2 ^ t * (2 * q + 1)) (j : Nat) : (!n.testBit j && (n - 1).testBit j) = decide (j < t) := by
  have hp : 0 < 2 ^ t := Nat.two_pow_pos t
  have e1 : n - 1 = 2 ^ t * (2 * q) + (2 ^ t - 1) := by
    rw [h, Nat.mul_add, Nat.mul_one]; omega
  by_cases hj : j < t
  · have a : n.testBit j = false := by
      rw [h, Nat.testBit_two_pow_mul]; simp; intro q2; omega
    have b : (n - 1).testBit j = true := by
      rw [e1, Nat.testBit_two_pow_mul_add _ (by omega)]
      rw [if_pos hj, Nat.testBit_two_pow_sub_one, decide_eq_true hj]
    rw [a, b, decide_eq_true hj]; rfl
  · rw [decide_eq_false hj]
    by_cases ht : j = t
    · have a : n.testBit j = true := by
        rw [h, Nat.testBit_two_pow_mul, ht]
        simp
      rw [a]; rfl
    · have a : n.testBit j = (2 * q + 1).testBit (j - t) := by
        rw [h, Nat.testBit_two_pow_mul, decide_eq_true (by omega)]; rfl
      have b : (n - 1).testBit j = (2 * q).testBit (j - t) := by
        rw [e1, Nat.testBit_two_pow_mul_add _ (by omega), if_neg hj]
      have c : (2 * q + 1).testBit (j - t) = (2 * q).testBit (j - t) := by
        have : j - t = (j - t - 1) + 1 := by omega
        rw [this, Nat.testBit_succ, Nat.testBit_succ]
        congr 1
        omega
      rw [a, b, c]
      cases (2 * q).testBit (j - t) <;> rfl
theorem mask32 {x : Int32} {t q : Nat} (h : x.toBitVec.toNat = 2 ^ t * (2 * q + 1)) (ht : t < 32) : (x ^^^ (-1)) &&& (x - nI 1) = nI (2 ^ t - 1) := by
  apply Int32.toBitVec_inj.mp
  rw [Int32.toBitVec_and, Int32.toBitVec_xor, Int32.toBitVec_sub]
  apply BitVec.eq_of_getLsbD_eq
  intro j hj
  rw [BitVec.getLsbD_and, BitVec.getLsbD_xor]
  have h1 : (-1 : Int32).toBitVec.getLsbD j = true := by
    have : (-1 : Int32).toBitVec = BitVec.allOnes 32 := by decide
    rw [this, BitVec.getLsbD_allOnes, decide_eq_true hj]
  have hp : 0 < 2 ^ t := Nat.two_pow_pos t
  have h2 : (x.toBitVec - (nI 1).toBitVec).getLsbD j = (x.toBitVec.toNat - 1).testBit j := by
    show (x.toBitVec - (nI 1).toBitVec).toNat.testBit j = _
    rw [BitVec.toNat_sub]
    have e : (nI 1).toBitVec.toNat = 1 := rfl
    rw [e]
    have hx := x.toBitVec.isLt
    have h1x : 1 ≤ x.toBitVec.toNat := by rw [h]; exact Nat.mul_pos hp (by omega)
    congr 1
    omega
  have h3 : (nI (2 ^ t - 1)).toBitVec.getLsbD j = decide (j < t) := by
    show ((2 ^ t - 1) % 2 ^ 32).testBit j = _
    have : 2 ^ t ≤ 2 ^ 31 := Nat.pow_le_pow_right (by decide) (by omega)
    rw [Nat.mod_eq_of_lt (by omega), Nat.testBit_two_pow_sub_one]
  rw [h1, h2, h3, Bool.xor_true, ← mask_t h j]
  rfl
theorem odd_c : ∀ c, c < 256 → 0 < c → ∃ s, s < 8 ∧ ∃ r, r < 128 ∧ c = 2 ^ s * (2 * r + 1) := by decide +kernel
/-- the lowest place where two numbers differ, by bytes -/
theorem xor_low {x y k : Nat} (h1 : x % 2 ^ (8 * k) = y % 2 ^ (8 * k)) (h2 : x / 2 ^ (8 * k) % 256 ≠ y / 2 ^ (8 * k) % 256) : ∃ t q, x ^^^ y = 2 ^ t * (2 * q + 1) ∧ t / 8 = k ∧ t < 8 * k + 8 := by
  have e1 : (x ^^^ y) % 2 ^ (8 * k) = 0 := by rw [Nat.xor_mod_two_pow, h1, Nat.xor_self]
  have e2 : (x ^^^ y) / 2 ^ (8 * k) % 256 = (x / 2 ^ (8 * k) % 256) ^^^ (y / 2 ^ (8 * k) % 256) := by
    rw [Nat.xor_div_two_pow, show (256 : Nat) = 2 ^ 8 from rfl, Nat.xor_mod_two_pow]
  have e3 : (x ^^^ y) / 2 ^ (8 * k) % 256 ≠ 0 := by
    rw [e2]
    intro q
    have g : ∀ a b : Nat, a ^^^ b = 0 → a = b := fun a b h => by
      have : (a ^^^ b) ^^^ b = 0 ^^^ b := by rw [h]
      rw [Nat.xor_assoc, Nat.xor_self, Nat.xor_zero, Nat.zero_xor] at this
      exact this
    exact h2 (g _ _ q)
  obtain ⟨s, hs, r, hr, hc⟩ := odd_c ((x ^^^ y) / 2 ^ (8 * k) % 256) (Nat.mod_lt _ (by decide)) (by omega)
  have hw := Nat.div_add_mod (x ^^^ y) (2 ^ (8 * k))
  rw [e1, Nat.add_zero] at hw
  have hv := Nat.div_add_mod ((x ^^^ y) / 2 ^ (8 * k)) 256
  refine ⟨8 * k + s, 2 ^ (7 - s) * ((x ^^^ y) / 2 ^ (8 * k) / 256) + r, ?_, by omega, by omega⟩
  have e8 : 256 = 2 ^ s * (2 * 2 ^ (7 - s)) := by
    rw [← Nat.pow_succ', ← Nat.pow_add]
    rw [show s + (7 - s).succ = 8 by omega]
  have hV : (x ^^^ y) / 2 ^ (8 * k) = 2 ^ s * (2 * (2 ^ (7 - s) * ((x ^^^ y) / 2 ^ (8 * k) / 256) + r) + 1) := by
    refine hv.symm.trans ?_
    rw [hc]
    generalize (x ^^^ y) / 2 ^ (8 * k) / 256 = Q
    have : 256 * Q = 2 ^ s * (2 * (2 ^ (7 - s) * Q)) := by
      rw [← Nat.mul_assoc 2, ← Nat.mul_assoc, ← e8]
    rw [this, ← Nat.mul_add]
    congr 1
    generalize 2 ^ (7 - s) * Q = R
    omega
  refine hw.symm.trans ?_
  rw [Nat.pow_add, Nat.mul_assoc]
  congr 1
end PB38
