/-! ===== remainders ===== -/
section PB13
set_option maxRecDepth 100000
def fmN (x : Int32) (m : Nat) : Nat := (x.toInt % (m : Int)).toNat
theorem rm_toInt {x : Int32} {m : Nat} (h0 : 0 < m) (hm : m < 2 ^ 15) : (x - x / nI m * nI m).toInt = x.toInt.tmod m := by
  have hmi : (nI m).toInt = m := nI_toInt (by omega)
  have hq : x.toInt.tdiv m * m + x.toInt.tmod m = x.toInt := by rw [Int.mul_comm]; exact Int.mul_tdiv_add_tmod _ _
  have ht : (x.toInt.tmod m).natAbs < m := by
    rw [Int.natAbs_tmod]
    exact Nat.mod_lt _ (by simpa using h0)
  rw [Int32.toInt_sub, Int32.toInt_mul, Int32.toInt_div, hmi, Int.bmod_mul_bmod, Int.sub_bmod_bmod, show x.toInt - x.toInt.tdiv m * m = x.toInt.tmod m by omega]
  exact Int.bmod_eq_of_le_mul_two (by omega) (by omega)
theorem xor_sign {x : Int32} {m : Nat} (hm : m < 2 ^ 31) : (x ^^^ nI m < 0) ↔ x < 0 := by
  have key : ∀ y : Int32, y < 0 ↔ y.toBitVec.msb = true := fun y => by
    rw [Int32.lt_iff_toInt_lt, BitVec.msb_eq_toInt]
    show y.toBitVec.toInt < (0 : Int) ↔ decide (y.toBitVec.toInt < 0) = true
    rw [decide_eq_true_eq]
  rw [key, key]
  have hmb : (nI m).toBitVec.msb = false := by
    have := (key (nI m))
    cases h : (nI m).toBitVec.msb with
    | false => rfl
    | true => exact absurd (this.mpr h) (nI_pos hm)
  show (x.toBitVec ^^^ (nI m).toBitVec).msb = true ↔ _
  rw [BitVec.msb_xor, hmb]
  simp
theorem fm_lt {x : Int32} {m : Nat} (h0 : 0 < m) : fmN x m < m := by
  unfold fmN
  have h1 := Int.emod_nonneg x.toInt (show (m : Int) ≠ 0 by omega)
  have h2 := Int.emod_lt_of_pos x.toInt (show (0 : Int) < m by omega)
  omega
theorem fm_i {x : Int32} {m : Nat} (h0 : 0 < m) : ((fmN x m : Nat) : Int) = x.toInt % m := by
  unfold fmN
  have h1 := Int.emod_nonneg x.toInt (show (m : Int) ≠ 0 by omega)
  omega
theorem fm_ge {x : Int32} {m : Nat} (h0 : 0 < m) (hm : m < 2 ^ 15) (hx : 0 ≤ x.toInt) : x - x / nI m * nI m = nI (fmN x m) := by
  apply Int32.toInt_inj.mp
  have h1 := fm_lt (x := x) h0
  rw [rm_toInt h0 hm, nI_toInt (by omega), fm_i h0, Int.tmod_eq_emod_of_nonneg hx]
theorem fm_tm {x : Int32} {m : Nat} (h0 : 0 < m) (hx : x.toInt < 0) : x.toInt.tmod m = if x.toInt % m = 0 then 0 else x.toInt % m - m := by
  rw [Int.tmod_eq_emod]
  by_cases hd : (m : Int) ∣ x.toInt
  · rw [if_pos (Or.inr hd), if_pos (Int.emod_eq_zero_of_dvd hd), Int.emod_eq_zero_of_dvd hd]; omega
  · rw [if_neg (by rintro (q | q); { omega }; { exact hd q }), if_neg (fun q => hd (Int.dvd_of_emod_eq_zero q))]
    simp
theorem fm_0 {x : Int32} {m : Nat} (h0 : 0 < m) (hm : m < 2 ^ 15) (hx : x.toInt < 0) (hr : x - x / nI m * nI m = 0) : fmN x m = 0 := by
  have h1 := rm_toInt (x := x) h0 hm
  rw [hr, fm_tm h0 hx] at h1
  have h2 := fm_i (x := x) h0
  have h3 := fm_lt (x := x) h0
  have h4 : (0 : Int32).toInt = 0 := rfl
  rw [h4] at h1
  split at h1 <;> omega
theorem fm_n {x : Int32} {m : Nat} (h0 : 0 < m) (hm : m < 2 ^ 15) (hx : x.toInt < 0) (hr : ¬ x - x / nI m * nI m = 0) : x - x / nI m * nI m + nI m = nI (fmN x m) := by
  apply Int32.toInt_inj.mp
  have h1 := rm_toInt (x := x) h0 hm
  have h2 := fm_i (x := x) h0
  have h3 := fm_lt (x := x) h0
  rw [Int32.toInt_add, h1, nI_toInt (by omega), nI_toInt (by omega), fm_tm h0 hx, ← h2]
  have hne : ¬ ((fmN x m : Nat) : Int) = 0 := by
    intro q
    apply hr
    apply Int32.toInt_inj.mp
    rw [h1, fm_tm h0 hx, ← h2, if_pos q]; rfl
  rw [if_neg hne, show ((fmN x m : Nat) : Int) - m + m = (fmN x m : Nat) by omega]
  exact Int.bmod_eq_of_le_mul_two (by omega) (by omega)
end PB13
