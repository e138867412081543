section TOK2
set_option maxRecDepth 100000
def dgV (u : Nat → Nat) : Nat → Nat
  | 0 => 0
  | n + 1 => 10 * dgV u n + (u n - 48)
theorem dgV_lt {u : Nat → Nat} : ∀ n, (∀ i, i < n → 48 ≤ u i ∧ u i ≤ 57) → dgV u n < 10 ^ n
  | 0, _ => Nat.lt_succ_self 0
  | n + 1, h => by
    have ih := dgV_lt n (fun i hi => h i (by omega))
    have := h n (by omega)
    show 10 * dgV u n + (u n - 48) < 10 ^ (n + 1)
    rw [Nat.pow_succ]
    omega
set_option maxHeartbeats 2000000 in
theorem ct_X9_number {l : Launch} {Γ : Gm} (hl : l.flags = flags0) (hΓ : GOK Γ) {z : ZR} {h : AH} {a s tx m : Nat} {p : Int32} {u : Nat → Nat} (Ha : rd z h a (.inr (8, [.ref s, .ref tx, .int p]))) (hs : StU Γ z h tx m u) (hm : m ≤ 6) (hd : ∀ i, i < m → 48 ≤ u i ∧ u i ≤ 57) : Ct l Γ yX9_number cX9_number 3 (some .int) 5 0 0 [.ref a] z h (RdP z h (some (.int (nI (dgV u m))))) := by
  refine Ct.of hl hΓ (by decide +kernel) (Nat.le_of_ble_eq_true rfl) (fun X e1 e2 C => ?_)
  subst e1; subst e2
  have C : Cx X cX9_number 3 "RingDomino$Token" "number" (some .int) [] 5 := C
  show WW X (RdP z h (some (.int (nI (dgV u m))))) z h 0 0 0 [(0, .ref a)] []
  refine ww_iconst C dX9_number_0 cI_0 ?_
  refine ww_istore_n (lv' := [(1, .int (nI 0)), (0, .ref a)]) C dX9_number_1 rfl (by decide) rfl ?_
  refine ww_iconst C dX9_number_2 cI_0 ?_
  refine ww_istore_n (lv' := [(2, .int (nI 0)), (1, .int (nI 0)), (0, .ref a)]) C dX9_number_3 rfl (by decide) rfl ?_
  refine loop_up (N := m) (M := fun j => WW X (RdP z h (some (.int (nI (dgV u m))))) z h 0 0 4 [(2, .int (nI j)), (1, .int (nI (dgV u j))), (0, .ref a)] []) ?_ ?_ 0 (Nat.zero_le _)
  · show WW X (RdP z h (some (.int (nI (dgV u m))))) z h 0 0 4 [(2, .int (nI m)), (1, .int (nI (dgV u m))), (0, .ref a)] []
    refine ww_iload_n C dX9_number_4 rfl 0 rfl ?_
    refine ww_aload_n C dX9_number_5 rfl 2 rfl rfl ?_
    refine gf_X9_13_X9 C dX9_number_6 Ha rfl ?_
    refine cv_X9_35_r (As := []) (rest := [.int (nI m)]) C dX9_number_9 (ct_J11_length (Cx.fl C) (Cx.ok C) hs) (StU.rc (Cx.ok C) hs) rfl rfl (Nat.le_of_ble_eq_true rfl) (by decide) (Nat.zero_le _) (Nat.zero_le _) ?_
    refine ww_icmp_ge_t (tgt := 38) C dX9_number_12 (by decide) (nI_le (Nat.le_refl _) (by omega)) ?_
    refine ww_iload_n C dX9_number_38 rfl 1 rfl ?_
    exact ww_iret C dX9_number_39 (RdP.i rfl)
  · intro j hi ih
    show WW X (RdP z h (some (.int (nI (dgV u m))))) z h 0 0 4 [(2, .int (nI j)), (1, .int (nI (dgV u j))), (0, .ref a)] []
    have hj := hd j hi
    have hb := dgV_lt j (fun i q => hd i (by omega))
    have hb2 : 10 ^ j ≤ 10 ^ 5 := Nat.pow_le_pow_right (by decide) (by omega)
    refine ww_iload_n C dX9_number_4 rfl 0 rfl ?_
    refine ww_aload_n C dX9_number_5 rfl 2 rfl rfl ?_
    refine gf_X9_13_X9 C dX9_number_6 Ha rfl ?_
    refine cv_X9_35_r (As := []) (rest := [.int (nI j)]) C dX9_number_9 (ct_J11_length (Cx.fl C) (Cx.ok C) hs) (StU.rc (Cx.ok C) hs) rfl rfl (Nat.le_of_ble_eq_true rfl) (by decide) (Nat.zero_le _) (Nat.zero_le _) ?_
    refine ww_icmp_ge_f (tgt := 38) C dX9_number_12 (by decide) (nI_ge hi (by omega)) ?_
    refine ww_bipush C dX9_number_15 cB_10 ?_
    refine ww_iload_n C dX9_number_17 rfl 1 rfl ?_
    refine ww_imuln C dX9_number_18 ?_
    refine ww_aload_n C dX9_number_19 rfl 2 rfl rfl ?_
    refine gf_X9_13_X9 C dX9_number_20 Ha rfl ?_
    refine ww_iload_n C dX9_number_23 rfl 0 rfl ?_
    refine cv_X9_39_r (As := [.int (nI j)]) (rest := [.int (nI (10 * (dgV u j)))]) C dX9_number_24 (ct_J11_charAt (Cx.fl C) (Cx.ok C) hs hi) (StU.rc (Cx.ok C) hs) rfl rfl (Nat.le_of_ble_eq_true rfl) (by decide) (Nat.zero_le _) (Nat.zero_le _) ?_
    refine ww_iaddn C dX9_number_27 ?_
    refine ww_bipush C dX9_number_28 cB_48 ?_
    refine ww_isubn C dX9_number_30 (by omega) ?_
    refine ww_st (st' := [.int (nI (dgV u (j + 1)))]) (by show [Value.int (nI _)] = [Value.int (nI (10 * dgV u j + (u j - 48)))]; rw [show 10 * dgV u j + u j - 48 = 10 * dgV u j + (u j - 48) by omega]) ?_
    refine ww_istore_n (lv' := [(1, .int (nI (dgV u (j + 1)))), (2, .int (nI j)), (0, .ref a)]) C dX9_number_31 rfl (by decide) rfl ?_
    refine ww_iinc (lv' := [(2, .int (nI (j + 1))), (1, .int (nI (dgV u (j + 1)))), (0, .ref a)]) C dX9_number_32 1 rfl (inc_n _) (by decide) rfl ?_
    refine ww_goto (tgt := 4) C dX9_number_35 (by decide) ?_
    exact ih
end TOK2
