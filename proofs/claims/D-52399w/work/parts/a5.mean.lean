section MEAN
set_option maxRecDepth 100000
def mmD (B : GB) : UInt64 := if maN B = 0 then FP.dconst0 else FP.ddiv (FP.i2d (nI (suN B))) (FP.i2d (nI (maN B)))
theorem maN_147 {B : GB} (hB : BS B) : maN B ≤ 147 := by
  have h1 : sumN (moN B) (Bz B) ≤ Bz B * 6 := sumN_le (moN_le B) _
  have h2 := BS.z hB
  unfold maN
  omega
theorem i2d_m : ((List.range 147).all (fun k => match FP.Core.decode FP.Core.b64 (FP.i2d (nI (k + 1))).toNat with | .fin _ c _ => c != 0 | _ => false)) = true := by decide +kernel
theorem i2d_s : ((List.range 2048).all (fun k => match FP.Core.decode FP.Core.b64 (FP.i2d (nI k)).toNat with | .fin _ _ _ => true | _ => false)) = true := by decide +kernel
theorem n64_of {r : UInt64} (h : r.toNat % 2 ^ 63 ≤ 9218868437227405312) : vf_n64 r := by
  unfold vf_n64
  rw [UInt64.le_iff_toNat_le, UInt64.toNat_and]
  have e : (0x7fffffffffffffff : UInt64).toNat = 2 ^ 63 - 1 := by decide
  rw [e, Nat.and_two_pow_sub_one_eq_mod]
  exact h
theorem n64_to {r : UInt64} (h : vf_n64 r) : r.toNat % 2 ^ 63 ≤ 9218868437227405312 := by
  unfold vf_n64 at h
  rw [UInt64.le_iff_toNat_le, UInt64.toNat_and] at h
  have e : (0x7fffffffffffffff : UInt64).toNat = 2 ^ 63 - 1 := by decide
  rw [e, Nat.and_two_pow_sub_one_eq_mod] at h
  exact h
theorem suN_lt {B : GB} (hB : BO B) : suN B < 2048 := by
  have h1 := suN_le hB
  have h2 := BO.z hB
  omega
def okD : FP.Core.Datum → Prop
  | .nan => False
  | .inf _ => True
  | .fin _ c q => c < 9007199254740992 ∧ -1074 ≤ q ∧ q ≤ 971
theorem asm_e (s : Bool) (e t : Nat) : FP.Core.assemble FP.Core.b64 s e t = (s.toNat * 2048 + e) * 4503599627370496 + t := by
  unfold FP.Core.assemble
  rw [show FP.Core.b64.exps = 2048 by decide, show FP.Core.b64.tails = 4503599627370496 by decide]
theorem enc_ok {d : FP.Core.Datum} (h : okD d) : FP.Core.encode FP.Core.b64 d % 2 ^ 63 ≤ 9218868437227405312 ∧ FP.Core.encode FP.Core.b64 d < 2 ^ 64 := by
  have hb : ∀ s : Bool, s.toNat ≤ 1 := fun s => by cases s <;> decide
  have ar : ∀ a e t : Nat, a ≤ 1 → e * 4503599627370496 + t ≤ 9218868437227405312 → ((a * 2048 + e) * 4503599627370496 + t) % 9223372036854775808 ≤ 9218868437227405312 ∧ (a * 2048 + e) * 4503599627370496 + t < 18446744073709551616 := by
    intro a e t h1 h2
    rcases (show a = 0 ∨ a = 1 by omega) with rfl | rfl <;> omega
  cases d with
  | nan => exact h.elim
  | inf s =>
    show FP.Core.assemble FP.Core.b64 s (FP.Core.b64.exps - 1) 0 % 9223372036854775808 ≤ _ ∧ FP.Core.assemble FP.Core.b64 s (FP.Core.b64.exps - 1) 0 < 18446744073709551616
    rw [asm_e, show FP.Core.b64.exps - 1 = 2047 by decide]
    exact ar _ _ _ (hb s) (by decide)
  | fin s c q =>
    obtain ⟨h1, h2, h3⟩ := h
    show (if c < FP.Core.b64.tails then FP.Core.assemble FP.Core.b64 s 0 c else FP.Core.assemble FP.Core.b64 s ((q - FP.Core.b64.qmin).toNat + 1) (c - FP.Core.b64.tails)) % 9223372036854775808 ≤ _ ∧ (if c < FP.Core.b64.tails then FP.Core.assemble FP.Core.b64 s 0 c else FP.Core.assemble FP.Core.b64 s ((q - FP.Core.b64.qmin).toNat + 1) (c - FP.Core.b64.tails)) < 18446744073709551616
    rw [show FP.Core.b64.tails = 4503599627370496 by decide, show FP.Core.b64.qmin = -1074 by decide]
    by_cases hc : c < 4503599627370496
    · rw [if_pos hc, asm_e]
      exact ar _ _ _ (hb s) (by omega)
    · rw [if_neg hc, asm_e]
      have e1 : (q - -1074).toNat ≤ 2045 := by omega
      exact ar _ _ _ (hb s) (by omega)
theorem set_ok {s : Bool} {c : Nat} {q : Int} (h : -1074 ≤ q) : okD (FP.Core.settle FP.Core.b64 s c q) := by
  unfold FP.Core.settle FP.Core.bound
  rw [show FP.Core.b64.qmax = 971 by decide, show (2 : Nat) ^ FP.Core.b64.p = 9007199254740992 by decide, show FP.Core.b64.tails = 4503599627370496 by decide]
  split
  · split
    · rename_i h1 h2; exact ⟨h1, h, h2⟩
    · trivial
  · split
    · rename_i h1 h2; exact ⟨by decide, by omega, h2⟩
    · trivial
theorem rr_ok {s : Bool} {a b : Nat} {e : Int} : okD (FP.Core.roundRatio FP.Core.b64 s a b e) := by
  unfold FP.Core.roundRatio
  split
  · exact ⟨by decide, by decide, by decide⟩
  · unfold FP.Core.roundAt
    refine set_ok ?_
    unfold FP.Core.quantum
    rw [show FP.Core.b64.qmin = -1074 by decide]
    omega
theorem mm_n {B : GB} (hB : BO B) (h : maN B ≠ 0) : vf_n64 (FP.ddiv (FP.i2d (nI (suN B))) (FP.i2d (nI (maN B)))) := by
  have h1 := maN_147 hB.1
  have h2 := suN_lt hB
  have a1 := List.all_eq_true.mp i2d_m (maN B - 1) (List.mem_range.mpr (by omega))
  have a2 := List.all_eq_true.mp i2d_s (suN B) (List.mem_range.mpr h2)
  rw [show maN B - 1 + 1 = maN B by omega] at a1
  apply n64_of
  show (UInt64.ofNat (FP.Core.encode FP.Core.b64 (FP.Core.quotient FP.Core.b64 (FP.Core.decode FP.Core.b64 (FP.i2d (nI (suN B))).toNat) (FP.Core.decode FP.Core.b64 (FP.i2d (nI (maN B))).toNat)))).toNat % 2 ^ 63 ≤ _
  have key : okD (FP.Core.quotient FP.Core.b64 (FP.Core.decode FP.Core.b64 (FP.i2d (nI (suN B))).toNat) (FP.Core.decode FP.Core.b64 (FP.i2d (nI (maN B))).toNat)) := by
    revert a1 a2
    generalize FP.Core.decode FP.Core.b64 (FP.i2d (nI (suN B))).toNat = x
    generalize FP.Core.decode FP.Core.b64 (FP.i2d (nI (maN B))).toNat = y
    intro a1 a2
    cases x with
    | nan => cases a2
    | inf s => cases a2
    | fin s c q =>
      cases y with
      | nan => cases a1
      | inf s => cases a1
      | fin t d r =>
        have hd : d ≠ 0 := by simpa using a1
        show okD (if d = 0 then _ else FP.Core.roundRatio FP.Core.b64 (s != t) c d (q - r))
        rw [if_neg hd]
        exact rr_ok
  obtain ⟨k1, k2⟩ := enc_ok key
  rw [UInt64.toNat_ofNat_of_lt' (by exact k2)]
  exact k1
theorem mmD_n {B : GB} (hB : BO B) : vf_n64 (mmD B) := by
  unfold mmD
  split
  · exact n64_of (by decide)
  · rename_i h; exact mm_n hB h
theorem dec_n {n : Nat} (h : n % 2 ^ 63 ≤ 9218868437227405312) : FP.Core.decode FP.Core.b64 n ≠ .nan := by
  unfold FP.Core.decode FP.Core.fieldE FP.Core.fieldT
  rw [show FP.Core.b64.exps = 2048 by decide, show FP.Core.b64.tails = 4503599627370496 by decide]
  split
  · split
    · exact fun q => by cases q
    · rename_i h1 h2
      exfalso
      have h1 : n / 4503599627370496 % 2048 = 2047 := h1
      omega
  · split <;> exact fun q => by cases q
theorem ord_s {d : FP.Core.Datum} (h : d ≠ .nan) : FP.Core.order d d = some .eq := by
  have c : ∀ x : Int, compare x x = .eq := fun x => by simp [compare, compareOfLessAndEq]
  cases d with
  | nan => exact absurd rfl h
  | inf s => exact congrArg some (c _)
  | fin s a q => exact congrArg some (c _)
theorem mmD_c {B : GB} (hB : BO B) : FP.dcmp (mmD B) (mmD B) = some .eq := ord_s (dec_n (n64_to (mmD_n hB)))
set_option maxHeartbeats 2000000 in
theorem ct_X1_meanMatch {l : Launch} {Γ : Gm} (hl : l.flags = flags0) (hΓ : GOK Γ) {z : ZR} {h : AH} {a tp g ah : Nat} {er : Int32} {A : Nat → Nat} {B : GB} {rn dn : Int32} (hz : zle (cst Γ) z) (Ha : rd z h a (.inr (0, [.ref tp, .int er, .ref g, .ref ah]))) (hG : GmP Γ z h g A B rn dn) (hB : BO B) : Ct l Γ yX1_meanMatch cX1_meanMatch 1 (some .double) 8 0 0 [.ref a] z h (RdP z h (some (.double (mmD B)))) := by
  refine Ct.of hl hΓ (by decide +kernel) (Nat.le_of_ble_eq_true rfl) (fun X e1 e2 C => ?_)
  subst e1; subst e2
  have C : Cx X cX1_meanMatch 1 "RingDomino" "meanMatch" (some .double) [] 8 := C
  have Hg := hG.1
  have hzz := BO.z hB
  have hbl := BO.l hB
  have hbt := hB.2.1
  show WW X (RdP z h (some (.double (mmD B)))) z h 0 0 0 [(0, .ref a)] []
  have hm1 := maN_147 hB.1
  refine ww_aload_n C dX1_meanMatch_0 rfl 0 rfl rfl ?_
  refine gf_X1_50_X1 C dX1_meanMatch_1 Ha rfl ?_
  refine cv_X1_126_r (As := []) (rest := []) C dX1_meanMatch_4 (ct_X3_matches (Cx.fl C) (Cx.ok C) hG hB.1 hbl) (rc_X3 (Cx.ok C) Hg) rfl rfl (Nat.le_of_ble_eq_true rfl) (by decide) (Nat.zero_le _) (Nat.zero_le _) ?_
  refine ww_if_ne_n (tgt := 14) C dX1_meanMatch_7 (by decide) (by omega) (fun c_7 => ?_) (fun c_7 => ?_)
  · skip
    have hdv := mm_n hB (by omega : maN B ≠ 0)
    refine ww_aload_n C dX1_meanMatch_14 rfl 0 rfl rfl ?_
    refine gf_X1_50_X1 C dX1_meanMatch_15 Ha rfl ?_
    refine cv_X1_240_r (As := []) (rest := []) C dX1_meanMatch_18 (ct_X3_sum (Cx.fl C) (Cx.ok C) hz hG hB) (rc_X3 (Cx.ok C) Hg) rfl rfl (Nat.le_of_ble_eq_true rfl) (by decide) (Nat.zero_le _) (Nat.zero_le _) ?_
    refine ww_i2d C dX1_meanMatch_21 ?_
    refine ww_aload_n C dX1_meanMatch_22 rfl 0 rfl rfl ?_
    refine gf_X1_50_X1 C dX1_meanMatch_23 Ha rfl ?_
    refine cv_X1_126_r (As := []) (rest := [.double (FP.i2d (nI (suN B)))]) C dX1_meanMatch_26 (ct_X3_matches (Cx.fl C) (Cx.ok C) hG hB.1 hbl) (rc_X3 (Cx.ok C) Hg) rfl rfl (Nat.le_of_ble_eq_true rfl) (by decide) (Nat.zero_le _) (Nat.zero_le _) ?_
    refine ww_i2d C dX1_meanMatch_29 ?_
    refine ww_ddiv C dX1_meanMatch_30 hdv ?_
    exact ww_dret C dX1_meanMatch_31 (RdP.v (by unfold mmD; rw [if_neg (by omega)]))
  · skip
    refine ww_dconst0 C dX1_meanMatch_10 ?_
    refine ww_goto (tgt := 31) C dX1_meanMatch_11 (by decide) ?_
    exact ww_dret C dX1_meanMatch_31 (RdP.v (by unfold mmD; rw [if_pos (by omega)]))
set_option maxHeartbeats 2000000 in
theorem ct_X4_meanMatch {l : Launch} {Γ : Gm} (hl : l.flags = flags0) (hΓ : GOK Γ) {z : ZR} {h : AH} {B : GB} {M : MS} {D : Nat → Nat} (hz : zle (cst Γ) z) (hX : Mx Γ h D M) (hb : MBd M 30 40 B) (hC : BC B) : Ct l Γ yX4_meanMatch cX4_meanMatch 1 (some .double) 8 0 0 [.ref (D 0)] z h (Rv (fun v z' h' => v = .double (mmD B) ∧ z' = z ∧ ∃ M', Mag M M' ∧ M'.1 0 = nI 0 ∧ Mx Γ h' D M' ∧ FrD h h' D)) := by
  refine Ct.of hl hΓ (by decide +kernel) (Nat.le_of_ble_eq_true rfl) (fun X e1 e2 C => ?_)
  subst e1; subst e2
  have C : Cx X cX4_meanMatch 1 "RingDominoModel" "meanMatch" (some .double) [] 8 := C
  have hB := hC.1
  obtain ⟨⟨⟨c1, c2⟩, ⟨r1, r2⟩⟩, t1, bl1, bu1, bp1, bn1⟩ := id hB
  have hzz := BO.z hB
  have hz0 : 0 < Bz B := Nat.mul_pos (by omega) (by omega)
  have X0 := hX.m
  have hR := Mx.n (z := z) hX hb
  have hP : MrP (xG X) z h (D 0) (D 10) B := ⟨_, D, Or.inl X0, hR⟩
  obtain ⟨o, nn, rn, nu, tu, S, Ht, Hn, hnu, Hs, Ha, Hc, Hu, htu⟩ := id hR
  show WW X (Rv (fun v z' h' => v = .double (mmD B) ∧ z' = z ∧ ∃ M', Mag M M' ∧ M'.1 0 = nI 0 ∧ Mx (xG X) h' D M' ∧ FrD h h' D)) z h 0 0 0 [(0, .ref (D 0))] []
  have hm1 := maN_147 hB.1
  refine ww_aload_n C dX4_meanMatch_0 rfl 0 rfl rfl ?_
  refine ww_iconst C dX4_meanMatch_1 cI_0 ?_
  refine pf_X4_65_X4 (fs' := [.int (nI 0), .ref (D 1), .int (M.1 1), .int (M.1 2), .ref (D 2), .ref (D 3), .ref (D 4), .ref (D 5), .int (M.1 3), .int (M.1 4), .int (M.1 5), .int (M.1 6), .int (M.1 7), .ref (D 6), .ref (D 7), .ref (D 8), .ref (D 9), .ref (D 10), .ref (D 11), .ref (D 12), .ref (D 13), .int (M.1 8), .int (M.1 9), .int (M.1 10)]) C dX4_meanMatch_2 X0 rfl rfl (Nat.le_of_ble_eq_true rfl) rfl ?_
  refine ww_gen (fun h1 hE1 => ?_)
  have X0_h1 : h1 (D 0) = some (.inr (3, [.int (nI 0), .ref (D 1), .int (M.1 1), .int (M.1 2), .ref (D 2), .ref (D 3), .ref (D 4), .ref (D 5), .int (M.1 3), .int (M.1 4), .int (M.1 5), .int (M.1 6), .int (M.1 7), .ref (D 6), .ref (D 7), .ref (D 8), .ref (D 9), .ref (D 10), .ref (D 11), .ref (D 12), .ref (D 13), .int (M.1 8), .int (M.1 9), .int (M.1 10)])) := by rw [hE1]; exact up_s
  have hX1 : Mx (xG X) h1 D (upd M.1 0 (nI 0), M.2) := by rw [hE1]; exact hX.i (j := 0) (by decide) rfl
  have hA : Mag M (upd M.1 0 (nI 0), M.2) := Mag.i Mag.rf (fun j hj => upd_ne (by omega))
  have hb1 := hA.b hb
  have hR1 := Mx.n (z := z) hX1 hb1
  have hP1 : MrP (xG X) z h1 (D 0) (D 10) B := ⟨_, D, Or.inl hX1.m, hR1⟩
  have hF1 : FrD h h1 D := by rw [hE1]; exact FrD.rf.w (i := 0) (by decide)
  refine ww_aload_n C dX4_meanMatch_5 rfl 0 rfl rfl ?_
  refine ww_aload_n C dX4_meanMatch_6 rfl 0 rfl rfl ?_
  refine gf_X4_48_X4 C dX4_meanMatch_7 (Or.inl hX1.m) rfl ?_
  refine cv_X4_346_r (As := [.ref (D 10)]) (rest := []) C dX4_meanMatch_10 (ct_X4_matches_2 (Cx.fl C) (Cx.ok C) hz hP1 hC) (rc_X4 (Cx.ok C) (Or.inl hX1.m)) rfl rfl (Nat.le_of_ble_eq_true rfl) (by decide) (Nat.zero_le _) (Nat.zero_le _) ?_
  refine ww_if_ne_n (tgt := 20) C dX4_meanMatch_13 (by decide) (by omega) (fun c_13 => ?_) (fun c_13 => ?_)
  · skip
    have hdv := mm_n hB (by omega : maN B ≠ 0)
    refine ww_aload_n C dX4_meanMatch_20 rfl 0 rfl rfl ?_
    refine ww_aload_n C dX4_meanMatch_21 rfl 0 rfl rfl ?_
    refine gf_X4_48_X4 C dX4_meanMatch_22 (Or.inl hX1.m) rfl ?_
    refine cv_X4_321_r (As := [.ref (D 10)]) (rest := []) C dX4_meanMatch_25 (ct_X4_matched (Cx.fl C) (Cx.ok C) hz hP1 hC) (rc_X4 (Cx.ok C) (Or.inl hX1.m)) rfl rfl (Nat.le_of_ble_eq_true rfl) (by decide) (Nat.zero_le _) (Nat.zero_le _) ?_
    refine ww_i2d C dX4_meanMatch_28 ?_
    refine ww_aload_n C dX4_meanMatch_29 rfl 0 rfl rfl ?_
    refine ww_aload_n C dX4_meanMatch_30 rfl 0 rfl rfl ?_
    refine gf_X4_48_X4 C dX4_meanMatch_31 (Or.inl hX1.m) rfl ?_
    refine cv_X4_346_r (As := [.ref (D 10)]) (rest := [.double (FP.i2d (nI (suN B)))]) C dX4_meanMatch_34 (ct_X4_matches_2 (Cx.fl C) (Cx.ok C) hz hP1 hC) (rc_X4 (Cx.ok C) (Or.inl hX1.m)) rfl rfl (Nat.le_of_ble_eq_true rfl) (by decide) (Nat.zero_le _) (Nat.zero_le _) ?_
    refine ww_i2d C dX4_meanMatch_37 ?_
    refine ww_ddiv C dX4_meanMatch_38 hdv ?_
    exact ww_dret C dX4_meanMatch_39 ⟨by unfold mmD; rw [if_neg (by omega)], rfl, _, hA, rfl, hX1, hF1⟩
  · skip
    refine ww_dconst0 C dX4_meanMatch_16 ?_
    refine ww_goto (tgt := 39) C dX4_meanMatch_17 (by decide) ?_
    exact ww_dret C dX4_meanMatch_39 ⟨by unfold mmD; rw [if_pos (by omega)], rfl, _, hA, rfl, hX1, hF1⟩
end MEAN
