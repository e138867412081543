section MO13
set_option maxRecDepth 100000
set_option maxHeartbeats 2000000 in
theorem ct_J14_floorMod {l : Launch} {Γ : Gm} (hl : l.flags = flags0) (hΓ : GOK Γ) {z : ZR} {h : AH} {x : Int32} {m : Nat} (h0 : 0 < m) (hm : m < 2 ^ 15) : Ct l Γ yJ14_floorMod cJ14_floorMod 3 (some .int) 1 0 0 [.int x, .int (nI m)] z h (RdP z h (some (.int (nI (fmN x m))))) := by
  refine Ct.ofF hl hΓ (by decide +kernel) (Nat.le_of_ble_eq_true rfl) (fun X e1 e2 C => ?_)
  subst e1; subst e2
  have C : Cx X cJ14_floorMod 3 "java/lang/Math" "floorMod" (some .int) [] 1 := C
  have hne : ¬ nI m = 0 := nI_ne0 h0 (by omega)
  show WW X (RdP z h (some (.int (nI (fmN x m))))) z h 0 0 0 [(0, .int x), (1, .int (nI m))] []
  refine ww_iload_n C dJ14_floorMod_0 rfl 0 rfl ?_
  refine ww_iload_n C dJ14_floorMod_1 rfl 1 rfl ?_
  refine ww_irem C dJ14_floorMod_2 hne ?_
  refine ww_istore_n (lv' := [(2, .int (x - x / (nI m) * (nI m))), (0, .int x), (1, .int (nI m))]) C dJ14_floorMod_3 rfl (by decide) rfl ?_
  refine ww_iload_n C dJ14_floorMod_4 rfl 1 rfl ?_
  refine ww_iload_n C dJ14_floorMod_5 rfl 2 rfl ?_
  refine ww_ixor C dJ14_floorMod_6 ?_
  refine ww_if_ge (tgt := 18) C dJ14_floorMod_7 (by decide) (fun c_7 => ?_) (fun c_7 => ?_)
  · skip
    have hx : 0 ≤ x.toInt := by have h1 : ¬ x < 0 := fun q => Int32.not_lt.mpr c_7 ((xor_sign (by omega)).mpr q); have h2 := Int32.le_iff_toInt_le.mp (Int32.not_lt.mp h1); exact h2
    refine ww_iload_n C dJ14_floorMod_18 rfl 0 rfl ?_
    exact ww_iret C dJ14_floorMod_19 (RdP.i (by exact fm_ge h0 hm hx))
  · skip
    have hx : x.toInt < 0 := by have h1 : x < 0 := (xor_sign (by omega)).mp (Int32.not_le.mp c_7); exact Int32.lt_iff_toInt_lt.mp h1
    refine ww_iload_n C dJ14_floorMod_10 rfl 0 rfl ?_
    refine ww_if_eq (tgt := 18) C dJ14_floorMod_11 (by decide) (fun c_11 => ?_) (fun c_11 => ?_)
    · skip
      refine ww_iload_n C dJ14_floorMod_18 rfl 0 rfl ?_
      exact ww_iret C dJ14_floorMod_19 (RdP.i (by rw [c_11, fm_0 h0 hm hx c_11]; try rfl))
    · skip
      refine ww_iload_n C dJ14_floorMod_14 rfl 0 rfl ?_
      refine ww_iload_n C dJ14_floorMod_15 rfl 2 rfl ?_
      refine ww_iadd C dJ14_floorMod_16 ?_
      exact ww_iret C dJ14_floorMod_17 (RdP.i (by exact fm_n h0 hm hx c_11))
end MO13
