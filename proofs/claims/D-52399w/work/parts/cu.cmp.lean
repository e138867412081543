section CMP
set_option maxRecDepth 100000
set_option maxHeartbeats 2000000 in
theorem ct_J19_numberOfTrailingZeros {l : Launch} {Γ : Gm} (hl : l.flags = flags0) (hΓ : GOK Γ) {z : ZR} {h : AH} {x : Int32} {t q : Nat} (hx : x.toBitVec.toNat = 2 ^ t * (2 * q + 1)) (ht : t < 32) : Ct l Γ yJ19_numberOfTrailingZeros cJ19_numberOfTrailingZeros 2 (some .int) 1 0 0 [.int x] z h (RdP z h (some (.int (nI t)))) := by
  refine Ct.of hl hΓ (by decide +kernel) (Nat.le_of_ble_eq_true rfl) (fun X e1 e2 C => ?_)
  subst e1; subst e2
  have C : Cx X cJ19_numberOfTrailingZeros 2 "java/lang/Integer" "numberOfTrailingZeros" (some .int) [] 1 := C
  have hm : 2 ^ t ≤ 2 ^ 31 := Nat.pow_le_pow_right (by decide) (by omega)
  show WW X (RdP z h (some (.int (nI t)))) z h 0 0 0 [(0, .int x)] []
  refine ww_iload_n C dJ19_numberOfTrailingZeros_0 rfl 0 rfl ?_
  refine ww_iconst C dJ19_numberOfTrailingZeros_1 cI_m1 ?_
  refine ww_ixor C dJ19_numberOfTrailingZeros_2 ?_
  refine ww_iload_n C dJ19_numberOfTrailingZeros_3 rfl 0 rfl ?_
  refine ww_iconst C dJ19_numberOfTrailingZeros_4 cI_1 ?_
  refine ww_isub C dJ19_numberOfTrailingZeros_5 ?_
  refine ww_iand C dJ19_numberOfTrailingZeros_6 ?_
  refine ww_st (st' := [.int (nI (2 ^ t - 1))]) (by rw [mask32 hx ht]) ?_
  refine ww_istore_n (lv' := [(0, .int (nI (2 ^ t - 1)))]) C dJ19_numberOfTrailingZeros_7 rfl (by decide) rfl ?_
  refine ww_iload_n C dJ19_numberOfTrailingZeros_8 rfl 0 rfl ?_
  refine ww_if_gt_n (tgt := 17) C dJ19_numberOfTrailingZeros_9 (by decide) (by omega) (fun c_9 => ?_) (fun c_9 => ?_)
  · skip
    refine ww_iconst C dJ19_numberOfTrailingZeros_17 cI_1 ?_
    refine ww_istore_n (lv' := [(1, .int (nI 1)), (0, .int (nI (2 ^ t - 1)))]) C dJ19_numberOfTrailingZeros_18 rfl (by decide) rfl ?_
    refine ww_iload_n C dJ19_numberOfTrailingZeros_19 rfl 1 rfl ?_
    refine ww_ldcw (v := 65536) C q1456 dJ19_numberOfTrailingZeros_20 ?_
    show WW X (RdP z h (some (.int (nI t)))) z h 0 0 23 [(1, .int (nI 1)), (0, .int (nI (2 ^ t - 1)))] [.int (nI 65536), .int (nI (2 ^ t - 1))]
    refine ww_icmp_le_n (tgt := 34) C dJ19_numberOfTrailingZeros_23 (by decide) (by omega) (by decide) (fun c_23 => ?_) (fun c_23 => ?_)
    · skip
      refine ww_iload_n C dJ19_numberOfTrailingZeros_34 rfl 1 rfl ?_
      refine ww_sipush C dJ19_numberOfTrailingZeros_35 cS_256 ?_
      refine ww_icmp_le_n (tgt := 49) C dJ19_numberOfTrailingZeros_38 (by decide) (by omega) (by decide) (fun c_38 => ?_) (fun c_38 => ?_)
      · skip
        refine ww_iload_n C dJ19_numberOfTrailingZeros_49 rfl 1 rfl ?_
        refine ww_bipush C dJ19_numberOfTrailingZeros_50 cB_16 ?_
        refine ww_icmp_le_n (tgt := 62) C dJ19_numberOfTrailingZeros_52 (by decide) (by omega) (by decide) (fun c_52 => ?_) (fun c_52 => ?_)
        · skip
          refine ww_iload_n C dJ19_numberOfTrailingZeros_62 rfl 1 rfl ?_
          refine ww_iconst C dJ19_numberOfTrailingZeros_63 cI_4 ?_
          refine ww_icmp_le_n (tgt := 74) C dJ19_numberOfTrailingZeros_64 (by decide) (by omega) (by decide) (fun c_64 => ?_) (fun c_64 => ?_)
          · skip
            refine ww_iload_n C dJ19_numberOfTrailingZeros_74 rfl 0 rfl ?_
            refine ww_iload_n C dJ19_numberOfTrailingZeros_75 rfl 1 rfl ?_
            refine ww_iconst C dJ19_numberOfTrailingZeros_76 cI_1 ?_
            refine ww_iushr (v := nI ((2 ^ t - 1) / 2 ^ 1)) C dJ19_numberOfTrailingZeros_77 (pk_ushrN (by omega) _ 1 (by decide)) ?_
            refine ww_iaddn C dJ19_numberOfTrailingZeros_78 ?_
            have hq : ∀ t : Nat, t < 32 → (0 < 2 ^ t - 1 ∧ (2 ^ t - 1) ≤ 65536 ∧ (2 ^ t - 1) ≤ 256 ∧ (2 ^ t - 1) ≤ 16 ∧ (2 ^ t - 1) ≤ 4) → 1 + ((2 ^ t - 1) / 2 ^ 1) = t := by decide +kernel
            exact ww_iret C dJ19_numberOfTrailingZeros_79 (RdP.i (by rw [hq t ht ⟨(by omega), c_23, c_38, c_52, c_64⟩]))
          · skip
            refine ww_iinc (lv' := [(1, .int (nI 3)), (0, .int (nI (2 ^ t - 1)))]) C dJ19_numberOfTrailingZeros_67 0 rfl (by decide) (by decide) rfl ?_
            refine ww_iload_n C dJ19_numberOfTrailingZeros_70 rfl 1 rfl ?_
            refine ww_iconst C dJ19_numberOfTrailingZeros_71 cI_2 ?_
            refine ww_iushr (v := nI ((2 ^ t - 1) / 2 ^ 2)) C dJ19_numberOfTrailingZeros_72 (pk_ushrN (by omega) _ 2 (by decide)) ?_
            refine ww_istore_n (lv' := [(0, .int (nI ((2 ^ t - 1) / 2 ^ 2))), (1, .int (nI 3))]) C dJ19_numberOfTrailingZeros_73 rfl (by decide) rfl ?_
            refine ww_iload_n C dJ19_numberOfTrailingZeros_74 rfl 1 rfl ?_
            refine ww_iload_n C dJ19_numberOfTrailingZeros_75 rfl 0 rfl ?_
            refine ww_iconst C dJ19_numberOfTrailingZeros_76 cI_1 ?_
            refine ww_iushr (v := nI (((2 ^ t - 1) / 2 ^ 2) / 2 ^ 1)) C dJ19_numberOfTrailingZeros_77 (pk_ushrN (by omega) _ 1 (by decide)) ?_
            refine ww_iaddn C dJ19_numberOfTrailingZeros_78 ?_
            have hq : ∀ t : Nat, t < 32 → (0 < 2 ^ t - 1 ∧ (2 ^ t - 1) ≤ 65536 ∧ (2 ^ t - 1) ≤ 256 ∧ (2 ^ t - 1) ≤ 16 ∧ 4 < (2 ^ t - 1)) → 3 + (((2 ^ t - 1) / 2 ^ 2) / 2 ^ 1) = t := by decide +kernel
            exact ww_iret C dJ19_numberOfTrailingZeros_79 (RdP.i (by rw [hq t ht ⟨(by omega), c_23, c_38, c_52, c_64⟩]))
        · skip
          refine ww_iinc (lv' := [(1, .int (nI 5)), (0, .int (nI (2 ^ t - 1)))]) C dJ19_numberOfTrailingZeros_55 0 rfl (by decide) (by decide) rfl ?_
          refine ww_iload_n C dJ19_numberOfTrailingZeros_58 rfl 1 rfl ?_
          refine ww_iconst C dJ19_numberOfTrailingZeros_59 cI_4 ?_
          refine ww_iushr (v := nI ((2 ^ t - 1) / 2 ^ 4)) C dJ19_numberOfTrailingZeros_60 (pk_ushrN (by omega) _ 4 (by decide)) ?_
          refine ww_istore_n (lv' := [(0, .int (nI ((2 ^ t - 1) / 2 ^ 4))), (1, .int (nI 5))]) C dJ19_numberOfTrailingZeros_61 rfl (by decide) rfl ?_
          refine ww_iload_n C dJ19_numberOfTrailingZeros_62 rfl 0 rfl ?_
          refine ww_iconst C dJ19_numberOfTrailingZeros_63 cI_4 ?_
          refine ww_icmp_le_n (tgt := 74) C dJ19_numberOfTrailingZeros_64 (by decide) (by omega) (by decide) (fun c_64 => ?_) (fun c_64 => ?_)
          · skip
            refine ww_iload_n C dJ19_numberOfTrailingZeros_74 rfl 1 rfl ?_
            refine ww_iload_n C dJ19_numberOfTrailingZeros_75 rfl 0 rfl ?_
            refine ww_iconst C dJ19_numberOfTrailingZeros_76 cI_1 ?_
            refine ww_iushr (v := nI (((2 ^ t - 1) / 2 ^ 4) / 2 ^ 1)) C dJ19_numberOfTrailingZeros_77 (pk_ushrN (by omega) _ 1 (by decide)) ?_
            refine ww_iaddn C dJ19_numberOfTrailingZeros_78 ?_
            have hq : ∀ t : Nat, t < 32 → (0 < 2 ^ t - 1 ∧ (2 ^ t - 1) ≤ 65536 ∧ (2 ^ t - 1) ≤ 256 ∧ 16 < (2 ^ t - 1) ∧ ((2 ^ t - 1) / 2 ^ 4) ≤ 4) → 5 + (((2 ^ t - 1) / 2 ^ 4) / 2 ^ 1) = t := by decide +kernel
            exact ww_iret C dJ19_numberOfTrailingZeros_79 (RdP.i (by rw [hq t ht ⟨(by omega), c_23, c_38, c_52, c_64⟩]))
          · skip
            refine ww_iinc (lv' := [(1, .int (nI 7)), (0, .int (nI ((2 ^ t - 1) / 2 ^ 4)))]) C dJ19_numberOfTrailingZeros_67 1 rfl (by decide) (by decide) rfl ?_
            refine ww_iload_n C dJ19_numberOfTrailingZeros_70 rfl 1 rfl ?_
            refine ww_iconst C dJ19_numberOfTrailingZeros_71 cI_2 ?_
            refine ww_iushr (v := nI (((2 ^ t - 1) / 2 ^ 4) / 2 ^ 2)) C dJ19_numberOfTrailingZeros_72 (pk_ushrN (by omega) _ 2 (by decide)) ?_
            refine ww_istore_n (lv' := [(0, .int (nI (((2 ^ t - 1) / 2 ^ 4) / 2 ^ 2))), (1, .int (nI 7))]) C dJ19_numberOfTrailingZeros_73 rfl (by decide) rfl ?_
            refine ww_iload_n C dJ19_numberOfTrailingZeros_74 rfl 1 rfl ?_
            refine ww_iload_n C dJ19_numberOfTrailingZeros_75 rfl 0 rfl ?_
            refine ww_iconst C dJ19_numberOfTrailingZeros_76 cI_1 ?_
            refine ww_iushr (v := nI ((((2 ^ t - 1) / 2 ^ 4) / 2 ^ 2) / 2 ^ 1)) C dJ19_numberOfTrailingZeros_77 (pk_ushrN (by omega) _ 1 (by decide)) ?_
            refine ww_iaddn C dJ19_numberOfTrailingZeros_78 ?_
            have hq : ∀ t : Nat, t < 32 → (0 < 2 ^ t - 1 ∧ (2 ^ t - 1) ≤ 65536 ∧ (2 ^ t - 1) ≤ 256 ∧ 16 < (2 ^ t - 1) ∧ 4 < ((2 ^ t - 1) / 2 ^ 4)) → 7 + ((((2 ^ t - 1) / 2 ^ 4) / 2 ^ 2) / 2 ^ 1) = t := by decide +kernel
            exact ww_iret C dJ19_numberOfTrailingZeros_79 (RdP.i (by rw [hq t ht ⟨(by omega), c_23, c_38, c_52, c_64⟩]))
      · skip
        refine ww_iinc (lv' := [(1, .int (nI 9)), (0, .int (nI (2 ^ t - 1)))]) C dJ19_numberOfTrailingZeros_41 0 rfl (by decide) (by decide) rfl ?_
        refine ww_iload_n C dJ19_numberOfTrailingZeros_44 rfl 1 rfl ?_
        refine ww_bipush C dJ19_numberOfTrailingZeros_45 cB_8 ?_
        refine ww_iushr (v := nI ((2 ^ t - 1) / 2 ^ 8)) C dJ19_numberOfTrailingZeros_47 (pk_ushrN (by omega) _ 8 (by decide)) ?_
        refine ww_istore_n (lv' := [(0, .int (nI ((2 ^ t - 1) / 2 ^ 8))), (1, .int (nI 9))]) C dJ19_numberOfTrailingZeros_48 rfl (by decide) rfl ?_
        refine ww_iload_n C dJ19_numberOfTrailingZeros_49 rfl 0 rfl ?_
        refine ww_bipush C dJ19_numberOfTrailingZeros_50 cB_16 ?_
        refine ww_icmp_le_n (tgt := 62) C dJ19_numberOfTrailingZeros_52 (by decide) (by omega) (by decide) (fun c_52 => ?_) (fun c_52 => ?_)
        · skip
          refine ww_iload_n C dJ19_numberOfTrailingZeros_62 rfl 0 rfl ?_
          refine ww_iconst C dJ19_numberOfTrailingZeros_63 cI_4 ?_
          refine ww_icmp_le_n (tgt := 74) C dJ19_numberOfTrailingZeros_64 (by decide) (by omega) (by decide) (fun c_64 => ?_) (fun c_64 => ?_)
          · skip
            refine ww_iload_n C dJ19_numberOfTrailingZeros_74 rfl 1 rfl ?_
            refine ww_iload_n C dJ19_numberOfTrailingZeros_75 rfl 0 rfl ?_
            refine ww_iconst C dJ19_numberOfTrailingZeros_76 cI_1 ?_
            refine ww_iushr (v := nI (((2 ^ t - 1) / 2 ^ 8) / 2 ^ 1)) C dJ19_numberOfTrailingZeros_77 (pk_ushrN (by omega) _ 1 (by decide)) ?_
            refine ww_iaddn C dJ19_numberOfTrailingZeros_78 ?_
            have hq : ∀ t : Nat, t < 32 → (0 < 2 ^ t - 1 ∧ (2 ^ t - 1) ≤ 65536 ∧ 256 < (2 ^ t - 1) ∧ ((2 ^ t - 1) / 2 ^ 8) ≤ 16 ∧ ((2 ^ t - 1) / 2 ^ 8) ≤ 4) → 9 + (((2 ^ t - 1) / 2 ^ 8) / 2 ^ 1) = t := by decide +kernel
            exact ww_iret C dJ19_numberOfTrailingZeros_79 (RdP.i (by rw [hq t ht ⟨(by omega), c_23, c_38, c_52, c_64⟩]))
          · skip
            refine ww_iinc (lv' := [(1, .int (nI 11)), (0, .int (nI ((2 ^ t - 1) / 2 ^ 8)))]) C dJ19_numberOfTrailingZeros_67 1 rfl (by decide) (by decide) rfl ?_
            refine ww_iload_n C dJ19_numberOfTrailingZeros_70 rfl 1 rfl ?_
            refine ww_iconst C dJ19_numberOfTrailingZeros_71 cI_2 ?_
            refine ww_iushr (v := nI (((2 ^ t - 1) / 2 ^ 8) / 2 ^ 2)) C dJ19_numberOfTrailingZeros_72 (pk_ushrN (by omega) _ 2 (by decide)) ?_
            refine ww_istore_n (lv' := [(0, .int (nI (((2 ^ t - 1) / 2 ^ 8) / 2 ^ 2))), (1, .int (nI 11))]) C dJ19_numberOfTrailingZeros_73 rfl (by decide) rfl ?_
            refine ww_iload_n C dJ19_numberOfTrailingZeros_74 rfl 1 rfl ?_
            refine ww_iload_n C dJ19_numberOfTrailingZeros_75 rfl 0 rfl ?_
            refine ww_iconst C dJ19_numberOfTrailingZeros_76 cI_1 ?_
            refine ww_iushr (v := nI ((((2 ^ t - 1) / 2 ^ 8) / 2 ^ 2) / 2 ^ 1)) C dJ19_numberOfTrailingZeros_77 (pk_ushrN (by omega) _ 1 (by decide)) ?_
            refine ww_iaddn C dJ19_numberOfTrailingZeros_78 ?_
            have hq : ∀ t : Nat, t < 32 → (0 < 2 ^ t - 1 ∧ (2 ^ t - 1) ≤ 65536 ∧ 256 < (2 ^ t - 1) ∧ ((2 ^ t - 1) / 2 ^ 8) ≤ 16 ∧ 4 < ((2 ^ t - 1) / 2 ^ 8)) → 11 + ((((2 ^ t - 1) / 2 ^ 8) / 2 ^ 2) / 2 ^ 1) = t := by decide +kernel
            exact ww_iret C dJ19_numberOfTrailingZeros_79 (RdP.i (by rw [hq t ht ⟨(by omega), c_23, c_38, c_52, c_64⟩]))
        · skip
          refine ww_iinc (lv' := [(1, .int (nI 13)), (0, .int (nI ((2 ^ t - 1) / 2 ^ 8)))]) C dJ19_numberOfTrailingZeros_55 1 rfl (by decide) (by decide) rfl ?_
          refine ww_iload_n C dJ19_numberOfTrailingZeros_58 rfl 1 rfl ?_
          refine ww_iconst C dJ19_numberOfTrailingZeros_59 cI_4 ?_
          refine ww_iushr (v := nI (((2 ^ t - 1) / 2 ^ 8) / 2 ^ 4)) C dJ19_numberOfTrailingZeros_60 (pk_ushrN (by omega) _ 4 (by decide)) ?_
          refine ww_istore_n (lv' := [(0, .int (nI (((2 ^ t - 1) / 2 ^ 8) / 2 ^ 4))), (1, .int (nI 13))]) C dJ19_numberOfTrailingZeros_61 rfl (by decide) rfl ?_
          refine ww_iload_n C dJ19_numberOfTrailingZeros_62 rfl 0 rfl ?_
          refine ww_iconst C dJ19_numberOfTrailingZeros_63 cI_4 ?_
          refine ww_icmp_le_n (tgt := 74) C dJ19_numberOfTrailingZeros_64 (by decide) (by omega) (by decide) (fun c_64 => ?_) (fun c_64 => ?_)
          · skip
            refine ww_iload_n C dJ19_numberOfTrailingZeros_74 rfl 1 rfl ?_
            refine ww_iload_n C dJ19_numberOfTrailingZeros_75 rfl 0 rfl ?_
            refine ww_iconst C dJ19_numberOfTrailingZeros_76 cI_1 ?_
            refine ww_iushr (v := nI ((((2 ^ t - 1) / 2 ^ 8) / 2 ^ 4) / 2 ^ 1)) C dJ19_numberOfTrailingZeros_77 (pk_ushrN (by omega) _ 1 (by decide)) ?_
            refine ww_iaddn C dJ19_numberOfTrailingZeros_78 ?_
            have hq : ∀ t : Nat, t < 32 → (0 < 2 ^ t - 1 ∧ (2 ^ t - 1) ≤ 65536 ∧ 256 < (2 ^ t - 1) ∧ 16 < ((2 ^ t - 1) / 2 ^ 8) ∧ (((2 ^ t - 1) / 2 ^ 8) / 2 ^ 4) ≤ 4) → 13 + ((((2 ^ t - 1) / 2 ^ 8) / 2 ^ 4) / 2 ^ 1) = t := by decide +kernel
            exact ww_iret C dJ19_numberOfTrailingZeros_79 (RdP.i (by rw [hq t ht ⟨(by omega), c_23, c_38, c_52, c_64⟩]))
          · skip
            refine ww_iinc (lv' := [(1, .int (nI 15)), (0, .int (nI (((2 ^ t - 1) / 2 ^ 8) / 2 ^ 4)))]) C dJ19_numberOfTrailingZeros_67 1 rfl (by decide) (by decide) rfl ?_
            refine ww_iload_n C dJ19_numberOfTrailingZeros_70 rfl 1 rfl ?_
            refine ww_iconst C dJ19_numberOfTrailingZeros_71 cI_2 ?_
            refine ww_iushr (v := nI ((((2 ^ t - 1) / 2 ^ 8) / 2 ^ 4) / 2 ^ 2)) C dJ19_numberOfTrailingZeros_72 (pk_ushrN (by omega) _ 2 (by decide)) ?_
            refine ww_istore_n (lv' := [(0, .int (nI ((((2 ^ t - 1) / 2 ^ 8) / 2 ^ 4) / 2 ^ 2))), (1, .int (nI 15))]) C dJ19_numberOfTrailingZeros_73 rfl (by decide) rfl ?_
            refine ww_iload_n C dJ19_numberOfTrailingZeros_74 rfl 1 rfl ?_
            refine ww_iload_n C dJ19_numberOfTrailingZeros_75 rfl 0 rfl ?_
            refine ww_iconst C dJ19_numberOfTrailingZeros_76 cI_1 ?_
            refine ww_iushr (v := nI (((((2 ^ t - 1) / 2 ^ 8) / 2 ^ 4) / 2 ^ 2) / 2 ^ 1)) C dJ19_numberOfTrailingZeros_77 (pk_ushrN (by omega) _ 1 (by decide)) ?_
            refine ww_iaddn C dJ19_numberOfTrailingZeros_78 ?_
            have hq : ∀ t : Nat, t < 32 → (0 < 2 ^ t - 1 ∧ (2 ^ t - 1) ≤ 65536 ∧ 256 < (2 ^ t - 1) ∧ 16 < ((2 ^ t - 1) / 2 ^ 8) ∧ 4 < (((2 ^ t - 1) / 2 ^ 8) / 2 ^ 4)) → 15 + (((((2 ^ t - 1) / 2 ^ 8) / 2 ^ 4) / 2 ^ 2) / 2 ^ 1) = t := by decide +kernel
            exact ww_iret C dJ19_numberOfTrailingZeros_79 (RdP.i (by rw [hq t ht ⟨(by omega), c_23, c_38, c_52, c_64⟩]))
    · skip
      refine ww_iinc (lv' := [(1, .int (nI 17)), (0, .int (nI (2 ^ t - 1)))]) C dJ19_numberOfTrailingZeros_26 0 rfl (by decide) (by decide) rfl ?_
      refine ww_iload_n C dJ19_numberOfTrailingZeros_29 rfl 1 rfl ?_
      refine ww_bipush C dJ19_numberOfTrailingZeros_30 cB_16 ?_
      refine ww_iushr (v := nI ((2 ^ t - 1) / 2 ^ 16)) C dJ19_numberOfTrailingZeros_32 (pk_ushrN (by omega) _ 16 (by decide)) ?_
      refine ww_istore_n (lv' := [(0, .int (nI ((2 ^ t - 1) / 2 ^ 16))), (1, .int (nI 17))]) C dJ19_numberOfTrailingZeros_33 rfl (by decide) rfl ?_
      refine ww_iload_n C dJ19_numberOfTrailingZeros_34 rfl 0 rfl ?_
      refine ww_sipush C dJ19_numberOfTrailingZeros_35 cS_256 ?_
      refine ww_icmp_le_n (tgt := 49) C dJ19_numberOfTrailingZeros_38 (by decide) (by omega) (by decide) (fun c_38 => ?_) (fun c_38 => ?_)
      · skip
        refine ww_iload_n C dJ19_numberOfTrailingZeros_49 rfl 0 rfl ?_
        refine ww_bipush C dJ19_numberOfTrailingZeros_50 cB_16 ?_
        refine ww_icmp_le_n (tgt := 62) C dJ19_numberOfTrailingZeros_52 (by decide) (by omega) (by decide) (fun c_52 => ?_) (fun c_52 => ?_)
        · skip
          refine ww_iload_n C dJ19_numberOfTrailingZeros_62 rfl 0 rfl ?_
          refine ww_iconst C dJ19_numberOfTrailingZeros_63 cI_4 ?_
          refine ww_icmp_le_n (tgt := 74) C dJ19_numberOfTrailingZeros_64 (by decide) (by omega) (by decide) (fun c_64 => ?_) (fun c_64 => ?_)
          · skip
            refine ww_iload_n C dJ19_numberOfTrailingZeros_74 rfl 1 rfl ?_
            refine ww_iload_n C dJ19_numberOfTrailingZeros_75 rfl 0 rfl ?_
            refine ww_iconst C dJ19_numberOfTrailingZeros_76 cI_1 ?_
            refine ww_iushr (v := nI (((2 ^ t - 1) / 2 ^ 16) / 2 ^ 1)) C dJ19_numberOfTrailingZeros_77 (pk_ushrN (by omega) _ 1 (by decide)) ?_
            refine ww_iaddn C dJ19_numberOfTrailingZeros_78 ?_
            have hq : ∀ t : Nat, t < 32 → (0 < 2 ^ t - 1 ∧ 65536 < (2 ^ t - 1) ∧ ((2 ^ t - 1) / 2 ^ 16) ≤ 256 ∧ ((2 ^ t - 1) / 2 ^ 16) ≤ 16 ∧ ((2 ^ t - 1) / 2 ^ 16) ≤ 4) → 17 + (((2 ^ t - 1) / 2 ^ 16) / 2 ^ 1) = t := by decide +kernel
            exact ww_iret C dJ19_numberOfTrailingZeros_79 (RdP.i (by rw [hq t ht ⟨(by omega), c_23, c_38, c_52, c_64⟩]))
          · skip
            refine ww_iinc (lv' := [(1, .int (nI 19)), (0, .int (nI ((2 ^ t - 1) / 2 ^ 16)))]) C dJ19_numberOfTrailingZeros_67 1 rfl (by decide) (by decide) rfl ?_
            refine ww_iload_n C dJ19_numberOfTrailingZeros_70 rfl 1 rfl ?_
            refine ww_iconst C dJ19_numberOfTrailingZeros_71 cI_2 ?_
            refine ww_iushr (v := nI (((2 ^ t - 1) / 2 ^ 16) / 2 ^ 2)) C dJ19_numberOfTrailingZeros_72 (pk_ushrN (by omega) _ 2 (by decide)) ?_
            refine ww_istore_n (lv' := [(0, .int (nI (((2 ^ t - 1) / 2 ^ 16) / 2 ^ 2))), (1, .int (nI 19))]) C dJ19_numberOfTrailingZeros_73 rfl (by decide) rfl ?_
            refine ww_iload_n C dJ19_numberOfTrailingZeros_74 rfl 1 rfl ?_
            refine ww_iload_n C dJ19_numberOfTrailingZeros_75 rfl 0 rfl ?_
            refine ww_iconst C dJ19_numberOfTrailingZeros_76 cI_1 ?_
            refine ww_iushr (v := nI ((((2 ^ t - 1) / 2 ^ 16) / 2 ^ 2) / 2 ^ 1)) C dJ19_numberOfTrailingZeros_77 (pk_ushrN (by omega) _ 1 (by decide)) ?_
            refine ww_iaddn C dJ19_numberOfTrailingZeros_78 ?_
            have hq : ∀ t : Nat, t < 32 → (0 < 2 ^ t - 1 ∧ 65536 < (2 ^ t - 1) ∧ ((2 ^ t - 1) / 2 ^ 16) ≤ 256 ∧ ((2 ^ t - 1) / 2 ^ 16) ≤ 16 ∧ 4 < ((2 ^ t - 1) / 2 ^ 16)) → 19 + ((((2 ^ t - 1) / 2 ^ 16) / 2 ^ 2) / 2 ^ 1) = t := by decide +kernel
            exact ww_iret C dJ19_numberOfTrailingZeros_79 (RdP.i (by rw [hq t ht ⟨(by omega), c_23, c_38, c_52, c_64⟩]))
        · skip
          refine ww_iinc (lv' := [(1, .int (nI 21)), (0, .int (nI ((2 ^ t - 1) / 2 ^ 16)))]) C dJ19_numberOfTrailingZeros_55 1 rfl (by decide) (by decide) rfl ?_
          refine ww_iload_n C dJ19_numberOfTrailingZeros_58 rfl 1 rfl ?_
          refine ww_iconst C dJ19_numberOfTrailingZeros_59 cI_4 ?_
          refine ww_iushr (v := nI (((2 ^ t - 1) / 2 ^ 16) / 2 ^ 4)) C dJ19_numberOfTrailingZeros_60 (pk_ushrN (by omega) _ 4 (by decide)) ?_
          refine ww_istore_n (lv' := [(0, .int (nI (((2 ^ t - 1) / 2 ^ 16) / 2 ^ 4))), (1, .int (nI 21))]) C dJ19_numberOfTrailingZeros_61 rfl (by decide) rfl ?_
          refine ww_iload_n C dJ19_numberOfTrailingZeros_62 rfl 0 rfl ?_
          refine ww_iconst C dJ19_numberOfTrailingZeros_63 cI_4 ?_
          refine ww_icmp_le_n (tgt := 74) C dJ19_numberOfTrailingZeros_64 (by decide) (by omega) (by decide) (fun c_64 => ?_) (fun c_64 => ?_)
          · skip
            refine ww_iload_n C dJ19_numberOfTrailingZeros_74 rfl 1 rfl ?_
            refine ww_iload_n C dJ19_numberOfTrailingZeros_75 rfl 0 rfl ?_
            refine ww_iconst C dJ19_numberOfTrailingZeros_76 cI_1 ?_
            refine ww_iushr (v := nI ((((2 ^ t - 1) / 2 ^ 16) / 2 ^ 4) / 2 ^ 1)) C dJ19_numberOfTrailingZeros_77 (pk_ushrN (by omega) _ 1 (by decide)) ?_
            refine ww_iaddn C dJ19_numberOfTrailingZeros_78 ?_
            have hq : ∀ t : Nat, t < 32 → (0 < 2 ^ t - 1 ∧ 65536 < (2 ^ t - 1) ∧ ((2 ^ t - 1) / 2 ^ 16) ≤ 256 ∧ 16 < ((2 ^ t - 1) / 2 ^ 16) ∧ (((2 ^ t - 1) / 2 ^ 16) / 2 ^ 4) ≤ 4) → 21 + ((((2 ^ t - 1) / 2 ^ 16) / 2 ^ 4) / 2 ^ 1) = t := by decide +kernel
            exact ww_iret C dJ19_numberOfTrailingZeros_79 (RdP.i (by rw [hq t ht ⟨(by omega), c_23, c_38, c_52, c_64⟩]))
          · skip
            refine ww_iinc (lv' := [(1, .int (nI 23)), (0, .int (nI (((2 ^ t - 1) / 2 ^ 16) / 2 ^ 4)))]) C dJ19_numberOfTrailingZeros_67 1 rfl (by decide) (by decide) rfl ?_
            refine ww_iload_n C dJ19_numberOfTrailingZeros_70 rfl 1 rfl ?_
            refine ww_iconst C dJ19_numberOfTrailingZeros_71 cI_2 ?_
            refine ww_iushr (v := nI ((((2 ^ t - 1) / 2 ^ 16) / 2 ^ 4) / 2 ^ 2)) C dJ19_numberOfTrailingZeros_72 (pk_ushrN (by omega) _ 2 (by decide)) ?_
            refine ww_istore_n (lv' := [(0, .int (nI ((((2 ^ t - 1) / 2 ^ 16) / 2 ^ 4) / 2 ^ 2))), (1, .int (nI 23))]) C dJ19_numberOfTrailingZeros_73 rfl (by decide) rfl ?_
            refine ww_iload_n C dJ19_numberOfTrailingZeros_74 rfl 1 rfl ?_
            refine ww_iload_n C dJ19_numberOfTrailingZeros_75 rfl 0 rfl ?_
            refine ww_iconst C dJ19_numberOfTrailingZeros_76 cI_1 ?_
            refine ww_iushr (v := nI (((((2 ^ t - 1) / 2 ^ 16) / 2 ^ 4) / 2 ^ 2) / 2 ^ 1)) C dJ19_numberOfTrailingZeros_77 (pk_ushrN (by omega) _ 1 (by decide)) ?_
            refine ww_iaddn C dJ19_numberOfTrailingZeros_78 ?_
            have hq : ∀ t : Nat, t < 32 → (0 < 2 ^ t - 1 ∧ 65536 < (2 ^ t - 1) ∧ ((2 ^ t - 1) / 2 ^ 16) ≤ 256 ∧ 16 < ((2 ^ t - 1) / 2 ^ 16) ∧ 4 < (((2 ^ t - 1) / 2 ^ 16) / 2 ^ 4)) → 23 + (((((2 ^ t - 1) / 2 ^ 16) / 2 ^ 4) / 2 ^ 2) / 2 ^ 1) = t := by decide +kernel
            exact ww_iret C dJ19_numberOfTrailingZeros_79 (RdP.i (by rw [hq t ht ⟨(by omega), c_23, c_38, c_52, c_64⟩]))
      · skip
        refine ww_iinc (lv' := [(1, .int (nI 25)), (0, .int (nI ((2 ^ t - 1) / 2 ^ 16)))]) C dJ19_numberOfTrailingZeros_41 1 rfl (by decide) (by decide) rfl ?_
        refine ww_iload_n C dJ19_numberOfTrailingZeros_44 rfl 1 rfl ?_
        refine ww_bipush C dJ19_numberOfTrailingZeros_45 cB_8 ?_
        refine ww_iushr (v := nI (((2 ^ t - 1) / 2 ^ 16) / 2 ^ 8)) C dJ19_numberOfTrailingZeros_47 (pk_ushrN (by omega) _ 8 (by decide)) ?_
        refine ww_istore_n (lv' := [(0, .int (nI (((2 ^ t - 1) / 2 ^ 16) / 2 ^ 8))), (1, .int (nI 25))]) C dJ19_numberOfTrailingZeros_48 rfl (by decide) rfl ?_
        refine ww_iload_n C dJ19_numberOfTrailingZeros_49 rfl 0 rfl ?_
        refine ww_bipush C dJ19_numberOfTrailingZeros_50 cB_16 ?_
        refine ww_icmp_le_n (tgt := 62) C dJ19_numberOfTrailingZeros_52 (by decide) (by omega) (by decide) (fun c_52 => ?_) (fun c_52 => ?_)
        · skip
          refine ww_iload_n C dJ19_numberOfTrailingZeros_62 rfl 0 rfl ?_
          refine ww_iconst C dJ19_numberOfTrailingZeros_63 cI_4 ?_
          refine ww_icmp_le_n (tgt := 74) C dJ19_numberOfTrailingZeros_64 (by decide) (by omega) (by decide) (fun c_64 => ?_) (fun c_64 => ?_)
          · skip
            refine ww_iload_n C dJ19_numberOfTrailingZeros_74 rfl 1 rfl ?_
            refine ww_iload_n C dJ19_numberOfTrailingZeros_75 rfl 0 rfl ?_
            refine ww_iconst C dJ19_numberOfTrailingZeros_76 cI_1 ?_
            refine ww_iushr (v := nI ((((2 ^ t - 1) / 2 ^ 16) / 2 ^ 8) / 2 ^ 1)) C dJ19_numberOfTrailingZeros_77 (pk_ushrN (by omega) _ 1 (by decide)) ?_
            refine ww_iaddn C dJ19_numberOfTrailingZeros_78 ?_
            have hq : ∀ t : Nat, t < 32 → (0 < 2 ^ t - 1 ∧ 65536 < (2 ^ t - 1) ∧ 256 < ((2 ^ t - 1) / 2 ^ 16) ∧ (((2 ^ t - 1) / 2 ^ 16) / 2 ^ 8) ≤ 16 ∧ (((2 ^ t - 1) / 2 ^ 16) / 2 ^ 8) ≤ 4) → 25 + ((((2 ^ t - 1) / 2 ^ 16) / 2 ^ 8) / 2 ^ 1) = t := by decide +kernel
            exact ww_iret C dJ19_numberOfTrailingZeros_79 (RdP.i (by rw [hq t ht ⟨(by omega), c_23, c_38, c_52, c_64⟩]))
          · skip
            refine ww_iinc (lv' := [(1, .int (nI 27)), (0, .int (nI (((2 ^ t - 1) / 2 ^ 16) / 2 ^ 8)))]) C dJ19_numberOfTrailingZeros_67 1 rfl (by decide) (by decide) rfl ?_
            refine ww_iload_n C dJ19_numberOfTrailingZeros_70 rfl 1 rfl ?_
            refine ww_iconst C dJ19_numberOfTrailingZeros_71 cI_2 ?_
            refine ww_iushr (v := nI ((((2 ^ t - 1) / 2 ^ 16) / 2 ^ 8) / 2 ^ 2)) C dJ19_numberOfTrailingZeros_72 (pk_ushrN (by omega) _ 2 (by decide)) ?_
            refine ww_istore_n (lv' := [(0, .int (nI ((((2 ^ t - 1) / 2 ^ 16) / 2 ^ 8) / 2 ^ 2))), (1, .int (nI 27))]) C dJ19_numberOfTrailingZeros_73 rfl (by decide) rfl ?_
            refine ww_iload_n C dJ19_numberOfTrailingZeros_74 rfl 1 rfl ?_
            refine ww_iload_n C dJ19_numberOfTrailingZeros_75 rfl 0 rfl ?_
            refine ww_iconst C dJ19_numberOfTrailingZeros_76 cI_1 ?_
            refine ww_iushr (v := nI (((((2 ^ t - 1) / 2 ^ 16) / 2 ^ 8) / 2 ^ 2) / 2 ^ 1)) C dJ19_numberOfTrailingZeros_77 (pk_ushrN (by omega) _ 1 (by decide)) ?_
            refine ww_iaddn C dJ19_numberOfTrailingZeros_78 ?_
            have hq : ∀ t : Nat, t < 32 → (0 < 2 ^ t - 1 ∧ 65536 < (2 ^ t - 1) ∧ 256 < ((2 ^ t - 1) / 2 ^ 16) ∧ (((2 ^ t - 1) / 2 ^ 16) / 2 ^ 8) ≤ 16 ∧ 4 < (((2 ^ t - 1) / 2 ^ 16) / 2 ^ 8)) → 27 + (((((2 ^ t - 1) / 2 ^ 16) / 2 ^ 8) / 2 ^ 2) / 2 ^ 1) = t := by decide +kernel
            exact ww_iret C dJ19_numberOfTrailingZeros_79 (RdP.i (by rw [hq t ht ⟨(by omega), c_23, c_38, c_52, c_64⟩]))
        · skip
          refine ww_iinc (lv' := [(1, .int (nI 29)), (0, .int (nI (((2 ^ t - 1) / 2 ^ 16) / 2 ^ 8)))]) C dJ19_numberOfTrailingZeros_55 1 rfl (by decide) (by decide) rfl ?_
          refine ww_iload_n C dJ19_numberOfTrailingZeros_58 rfl 1 rfl ?_
          refine ww_iconst C dJ19_numberOfTrailingZeros_59 cI_4 ?_
          refine ww_iushr (v := nI ((((2 ^ t - 1) / 2 ^ 16) / 2 ^ 8) / 2 ^ 4)) C dJ19_numberOfTrailingZeros_60 (pk_ushrN (by omega) _ 4 (by decide)) ?_
          refine ww_istore_n (lv' := [(0, .int (nI ((((2 ^ t - 1) / 2 ^ 16) / 2 ^ 8) / 2 ^ 4))), (1, .int (nI 29))]) C dJ19_numberOfTrailingZeros_61 rfl (by decide) rfl ?_
          refine ww_iload_n C dJ19_numberOfTrailingZeros_62 rfl 0 rfl ?_
          refine ww_iconst C dJ19_numberOfTrailingZeros_63 cI_4 ?_
          refine ww_icmp_le_n (tgt := 74) C dJ19_numberOfTrailingZeros_64 (by decide) (by omega) (by decide) (fun c_64 => ?_) (fun c_64 => ?_)
          · skip
            refine ww_iload_n C dJ19_numberOfTrailingZeros_74 rfl 1 rfl ?_
            refine ww_iload_n C dJ19_numberOfTrailingZeros_75 rfl 0 rfl ?_
            refine ww_iconst C dJ19_numberOfTrailingZeros_76 cI_1 ?_
            refine ww_iushr (v := nI (((((2 ^ t - 1) / 2 ^ 16) / 2 ^ 8) / 2 ^ 4) / 2 ^ 1)) C dJ19_numberOfTrailingZeros_77 (pk_ushrN (by omega) _ 1 (by decide)) ?_
            refine ww_iaddn C dJ19_numberOfTrailingZeros_78 ?_
            have hq : ∀ t : Nat, t < 32 → (0 < 2 ^ t - 1 ∧ 65536 < (2 ^ t - 1) ∧ 256 < ((2 ^ t - 1) / 2 ^ 16) ∧ 16 < (((2 ^ t - 1) / 2 ^ 16) / 2 ^ 8) ∧ ((((2 ^ t - 1) / 2 ^ 16) / 2 ^ 8) / 2 ^ 4) ≤ 4) → 29 + (((((2 ^ t - 1) / 2 ^ 16) / 2 ^ 8) / 2 ^ 4) / 2 ^ 1) = t := by decide +kernel
            exact ww_iret C dJ19_numberOfTrailingZeros_79 (RdP.i (by rw [hq t ht ⟨(by omega), c_23, c_38, c_52, c_64⟩]))
          · skip
            refine ww_iinc (lv' := [(1, .int (nI 31)), (0, .int (nI ((((2 ^ t - 1) / 2 ^ 16) / 2 ^ 8) / 2 ^ 4)))]) C dJ19_numberOfTrailingZeros_67 1 rfl (by decide) (by decide) rfl ?_
            refine ww_iload_n C dJ19_numberOfTrailingZeros_70 rfl 1 rfl ?_
            refine ww_iconst C dJ19_numberOfTrailingZeros_71 cI_2 ?_
            refine ww_iushr (v := nI (((((2 ^ t - 1) / 2 ^ 16) / 2 ^ 8) / 2 ^ 4) / 2 ^ 2)) C dJ19_numberOfTrailingZeros_72 (pk_ushrN (by omega) _ 2 (by decide)) ?_
            refine ww_istore_n (lv' := [(0, .int (nI (((((2 ^ t - 1) / 2 ^ 16) / 2 ^ 8) / 2 ^ 4) / 2 ^ 2))), (1, .int (nI 31))]) C dJ19_numberOfTrailingZeros_73 rfl (by decide) rfl ?_
            refine ww_iload_n C dJ19_numberOfTrailingZeros_74 rfl 1 rfl ?_
            refine ww_iload_n C dJ19_numberOfTrailingZeros_75 rfl 0 rfl ?_
            refine ww_iconst C dJ19_numberOfTrailingZeros_76 cI_1 ?_
            refine ww_iushr (v := nI ((((((2 ^ t - 1) / 2 ^ 16) / 2 ^ 8) / 2 ^ 4) / 2 ^ 2) / 2 ^ 1)) C dJ19_numberOfTrailingZeros_77 (pk_ushrN (by omega) _ 1 (by decide)) ?_
            refine ww_iaddn C dJ19_numberOfTrailingZeros_78 ?_
            have hq : ∀ t : Nat, t < 32 → (0 < 2 ^ t - 1 ∧ 65536 < (2 ^ t - 1) ∧ 256 < ((2 ^ t - 1) / 2 ^ 16) ∧ 16 < (((2 ^ t - 1) / 2 ^ 16) / 2 ^ 8) ∧ 4 < ((((2 ^ t - 1) / 2 ^ 16) / 2 ^ 8) / 2 ^ 4)) → 31 + ((((((2 ^ t - 1) / 2 ^ 16) / 2 ^ 8) / 2 ^ 4) / 2 ^ 2) / 2 ^ 1) = t := by decide +kernel
            exact ww_iret C dJ19_numberOfTrailingZeros_79 (RdP.i (by rw [hq t ht ⟨(by omega), c_23, c_38, c_52, c_64⟩]))
  · skip
    have ht0 : t = 0 := (by decide +kernel : ∀ t, t < 32 → 2 ^ t - 1 = 0 → t = 0) t ht (by omega)
    subst ht0
    refine ww_iload_n C dJ19_numberOfTrailingZeros_12 rfl 0 rfl ?_
    refine ww_bipush C dJ19_numberOfTrailingZeros_13 cB_32 ?_
    refine ww_iand C dJ19_numberOfTrailingZeros_15 ?_
    exact ww_iret C dJ19_numberOfTrailingZeros_16 (RdP.i (by rfl))
set_option maxHeartbeats 2000000 in
theorem ct_J25_numberOfTrailingZeros {l : Launch} {Γ : Gm} (hl : l.flags = flags0) (hΓ : GOK Γ) {z : ZR} {h : AH} {x : Int64} {t q : Nat} (hx : x.toBitVec.toNat = 2 ^ t * (2 * q + 1)) (ht : t < 64) : Ct l Γ yJ25_numberOfTrailingZeros cJ25_numberOfTrailingZeros 3 (some .int) 2 0 0 [.long x] z h (RdP z h (some (.int (nI t)))) := by
  refine Ct.of hl hΓ (by decide +kernel) (Nat.le_of_ble_eq_true rfl) (fun X e1 e2 C => ?_)
  subst e1; subst e2
  have C : Cx X cJ25_numberOfTrailingZeros 3 "java/lang/Long" "numberOfTrailingZeros" (some .int) [] 2 := C
  show WW X (RdP z h (some (.int (nI t)))) z h 0 0 0 [(0, .long x)] []
  by_cases h32 : t < 32
  · skip
    obtain ⟨q2, hq2⟩ := low_odd hx h32
    refine ww_lload_n C dJ25_numberOfTrailingZeros_0 rfl 0 rfl ?_
    refine ww_l2i C dJ25_numberOfTrailingZeros_1 rfl ?_
    refine ww_istore_n (lv' := [(2, .int x.toInt32), (0, .long x)]) C dJ25_numberOfTrailingZeros_2 rfl (by decide) rfl ?_
    refine ww_iload_n C dJ25_numberOfTrailingZeros_3 rfl 0 rfl ?_
    refine ww_if_ne_t (tgt := 21) C dJ25_numberOfTrailingZeros_4 (by decide) (fun e => low_ne hx h32 (by rw [e]; rfl)) ?_
    refine ww_iload_n C dJ25_numberOfTrailingZeros_21 rfl 0 rfl ?_
    refine cs_J25_311_r (As := [.int x.toInt32]) (rest := []) C dJ25_numberOfTrailingZeros_22 (ct_J19_numberOfTrailingZeros (Cx.fl C) (Cx.ok C) (x := x.toInt32) hq2 h32) rfl rfl (Nat.le_of_ble_eq_true rfl) (by decide) (Nat.zero_le _) (Nat.zero_le _) ?_
    exact ww_iret C dJ25_numberOfTrailingZeros_25 (RdP.i rfl)
  · skip
    have h0 := low_zero hx (by omega)
    refine ww_lload_n C dJ25_numberOfTrailingZeros_0 rfl 0 rfl ?_
    refine ww_l2i C dJ25_numberOfTrailingZeros_1 rfl ?_
    refine ww_istore_n (lv' := [(2, .int x.toInt32), (0, .long x)]) C dJ25_numberOfTrailingZeros_2 rfl (by decide) rfl ?_
    refine ww_iload_n C dJ25_numberOfTrailingZeros_3 rfl 0 rfl ?_
    refine ww_if_ne_f (tgt := 21) C dJ25_numberOfTrailingZeros_4 (by decide) h0 ?_
    refine ww_bipush C dJ25_numberOfTrailingZeros_7 cB_32 ?_
    refine ww_lload_n C dJ25_numberOfTrailingZeros_9 rfl 1 rfl ?_
    refine ww_bipush C dJ25_numberOfTrailingZeros_10 cB_32 ?_
    refine ww_lushr (v := (x.toUInt64 >>> ((nI 32).toInt64.toUInt64 &&& Int64.toUInt64 63)).toInt64) C dJ25_numberOfTrailingZeros_12 (by rfl) ?_
    refine ww_l2i C dJ25_numberOfTrailingZeros_13 rfl ?_
    refine cs_J25_311_r (As := [.int (((x.toUInt64 >>> ((nI 32).toInt64.toUInt64 &&& Int64.toUInt64 63)).toInt64).toInt32)]) (rest := [.int (nI 32)]) C dJ25_numberOfTrailingZeros_14 (ct_J19_numberOfTrailingZeros (Cx.fl C) (Cx.ok C) (x := ((x.toUInt64 >>> ((nI 32).toInt64.toUInt64 &&& Int64.toUInt64 63)).toInt64).toInt32) (high_odd hx (by omega)) (by omega)) rfl rfl (Nat.le_of_ble_eq_true rfl) (by decide) (Nat.zero_le _) (Nat.zero_le _) ?_
    refine ww_iaddn C dJ25_numberOfTrailingZeros_17 ?_
    refine ww_goto (tgt := 25) C dJ25_numberOfTrailingZeros_18 (by decide) ?_
    exact ww_iret C dJ25_numberOfTrailingZeros_25 (RdP.i (by rw [show 32 + (t - 32) = t by omega]))
set_option maxHeartbeats 2000000 in
theorem ct_J24_getLongUnaligned {l : Launch} {Γ : Gm} (hl : l.flags = flags0) (hΓ : GOK Γ) {z : ZR} {h : AH} {a m : Nat} {f : Nat → Int32} (Ha : h a = some (.inl (gA Γ 1, (m, .inl f)))) (hm : 8 ≤ m) : Ct l Γ yJ24_getLongUnaligned cJ24_getLongUnaligned 4 (some .long) 2 0 0 [.ref (gE Γ 8), .ref a, .long 16] z h (RdP z h (some (.long (wd8 f).toUInt64.toInt64))) := by
  refine Ct.ofF hl hΓ (by decide +kernel) (Nat.le_of_ble_eq_true rfl) (fun X e1 e2 C => ?_)
  subst e1; subst e2
  have C : Cx X cJ24_getLongUnaligned 4 "jdk/internal/misc/Unsafe" "getLongUnaligned" (some .long) [] 2 := C
  have Ha : h a = some (.inl (gA (xG X) 1, (m, .inl f))) := Ha
  show WW X (RdP z h (some (.long (wd8 f).toUInt64.toInt64))) z h 0 0 0 [(0, .ref (gE (xG X) 8)), (1, .ref a), (2, .long 16)] []
  refine ww_lload_n C dJ24_getLongUnaligned_0 rfl 2 rfl ?_
  refine ww_ldc2 C q1400 dJ24_getLongUnaligned_1 ?_
  refine ww_land C dJ24_getLongUnaligned_4 ?_
  refine ww_lconst (v := 0) C dJ24_getLongUnaligned_5 rfl ?_
  refine ww_lcmp C dJ24_getLongUnaligned_6 ?_
  refine ww_if_ne_f (tgt := 17) C dJ24_getLongUnaligned_7 (by decide) (by decide) ?_
  refine ww_aload_n C dJ24_getLongUnaligned_10 rfl 0 rfl rfl ?_
  refine ww_aload_n C dJ24_getLongUnaligned_11 rfl 1 rfl rfl ?_
  refine ww_lload_n C dJ24_getLongUnaligned_12 rfl 2 rfl ?_
  refine ww_getL C q1401 q1403 q1402 q1404 (rcv_ex (Cx.ok C) (k := 8) rfl uns_ex) dJ24_getLongUnaligned_13 Ha hm (by decide) (by decide) ?_
  exact ww_lret C dJ24_getLongUnaligned_16 (RdP.v rfl)
set_option maxHeartbeats 2000000 in
theorem ct_J13_vectorizedMismatch {l : Launch} {Γ : Gm} (hl : l.flags = flags0) (hΓ : GOK Γ) {z : ZR} {h : AH} {a b m m2 ln : Nat} {f g : Nat → Int32} {u v : Nat → Nat} (Ha : h a = some (.inl (gA Γ 1, (m, .inl f)))) (Hb : h b = some (.inl (gA Γ 1, (m2, .inl g)))) (hm : ln ≤ m) (hm2 : ln ≤ m2) (hbm : m ≤ 10) (hbm2 : m2 ≤ 10) (hf : ∀ i, i < m → f i = bs (u i) ∧ u i < 256) (hg : ∀ i, i < m2 → g i = bs (v i) ∧ v i < 256) (h8 : 8 ≤ ln) : Ct l Γ yJ13_vectorizedMismatch cJ13_vectorizedMismatch 19 (some .int) 3 0 0 [.ref a, .long 16, .ref b, .long 16, .int (nI ln), .int (nI 0)] z h (RdP z h (some (.int (match ff (fun j => decide (¬ u j = v j)) 8 0 with | some k => nI k | none => nI (ln - 8) ^^^ (-1))))) := by
  refine Ct.of hl hΓ (by decide +kernel) (Nat.le_of_ble_eq_true rfl) (fun X e1 e2 C => ?_)
  subst e1; subst e2
  have C : Cx X cJ13_vectorizedMismatch 19 "jdk/internal/util/ArraysSupport" "vectorizedMismatch" (some .int) [] 3 := C
  have Ha : h a = some (.inl (gA (xG X) 1, (m, .inl f))) := Ha
  have Hb : h b = some (.inl (gA (xG X) 1, (m2, .inl g))) := Hb
  have h10 : ln ≤ 10 := by omega
  have hw := wd_ne (f := f) (g := g) (u := u) (v := v) (fun i hi => hf i (by omega)) (fun i hi => hg i (by omega))
  show WW X (RdP z h (some (.int (match ff (fun j => decide (¬ u j = v j)) 8 0 with | some k => nI k | none => nI (ln - 8) ^^^ (-1))))) z h 0 0 0 [(0, .ref a), (1, .long 16), (3, .ref b), (4, .long 16), (6, .int (nI ln)), (7, .int (nI 0))] []
  refine ww_gsv C (si_6 (Cx.ok C)) q1392 (fun _ q => q) dJ13_vectorizedMismatch_0 ?_
  refine ww_iload C dJ13_vectorizedMismatch_3 5 rfl ?_
  refine ww_isubn C dJ13_vectorizedMismatch_5 (by omega) ?_
  refine ww_st (st' := [.int (nI 3)]) (by rfl) ?_
  refine ww_istore (lv' := [(8, .int (nI 3)), (0, .ref a), (1, .long 16), (3, .ref b), (4, .long 16), (6, .int (nI ln)), (7, .int (nI 0))]) C dJ13_vectorizedMismatch_6 (by decide) rfl ?_
  refine ww_iconst C dJ13_vectorizedMismatch_8 cI_0 ?_
  refine ww_istore (lv' := [(9, .int (nI 0)), (8, .int (nI 3)), (0, .ref a), (1, .long 16), (3, .ref b), (4, .long 16), (6, .int (nI ln)), (7, .int (nI 0))]) C dJ13_vectorizedMismatch_9 (by decide) rfl ?_
  refine ww_iload C dJ13_vectorizedMismatch_11 0 rfl ?_
  refine ww_iload C dJ13_vectorizedMismatch_13 6 rfl ?_
  refine ww_iload C dJ13_vectorizedMismatch_15 1 rfl ?_
  refine ww_ishr C dJ13_vectorizedMismatch_17 ?_
  refine ww_st (st' := [.int (nI 1), .int (nI 0)]) (by rw [shr3 ln h8 h10]) ?_
  refine ww_icmp_ge_f (tgt := 122) C dJ13_vectorizedMismatch_18 (by decide) (by decide) ?_
  refine ww_iload C dJ13_vectorizedMismatch_21 0 rfl ?_
  refine ww_i2l C dJ13_vectorizedMismatch_23 rfl ?_
  refine ww_gsv C (si_6 (Cx.ok C)) q1392 (fun _ q => q) dJ13_vectorizedMismatch_24 ?_
  refine ww_lshl (v := 0) C dJ13_vectorizedMismatch_27 (by rfl) ?_
  refine ww_lstore (lv' := [(10, .long 0), (9, .int (nI 0)), (8, .int (nI 3)), (0, .ref a), (1, .long 16), (3, .ref b), (4, .long 16), (6, .int (nI ln)), (7, .int (nI 0))]) C dJ13_vectorizedMismatch_28 (by decide) rfl ?_
  refine ww_gsv C (sv_8 (Cx.ok C)) q1394 (fun _ q => q) dJ13_vectorizedMismatch_30 ?_
  refine ww_aload_n C dJ13_vectorizedMismatch_33 rfl 3 rfl rfl ?_
  refine ww_lload_n C dJ13_vectorizedMismatch_34 rfl 4 rfl ?_
  refine ww_lload C dJ13_vectorizedMismatch_35 0 rfl ?_
  refine ww_ladd C dJ13_vectorizedMismatch_37 ?_
  refine ww_st (st' := [.long 16, .ref a, .ref (gE (xG X) 8)]) (by rfl) ?_
  refine cv_J13_30_r (As := [.ref a, .long 16]) (rest := []) C dJ13_vectorizedMismatch_38 (ct_J24_getLongUnaligned (Cx.fl C) (Cx.ok C) Ha (by omega)) (rcv_ex (Cx.ok C) (k := 8) rfl uns_ex) rfl rfl (Nat.le_of_ble_eq_true rfl) (by decide) (Nat.zero_le _) (Nat.zero_le _) ?_
  refine ww_lstore (lv' := [(12, .long ((wd8 f).toUInt64.toInt64)), (10, .long 0), (9, .int (nI 0)), (8, .int (nI 3)), (0, .ref a), (1, .long 16), (3, .ref b), (4, .long 16), (6, .int (nI ln)), (7, .int (nI 0))]) C dJ13_vectorizedMismatch_41 (by decide) rfl ?_
  refine ww_gsv C (sv_8 (Cx.ok C)) q1394 (fun _ q => q) dJ13_vectorizedMismatch_43 ?_
  refine ww_aload_n C dJ13_vectorizedMismatch_46 rfl 6 rfl rfl ?_
  refine ww_lload C dJ13_vectorizedMismatch_47 7 rfl ?_
  refine ww_lload C dJ13_vectorizedMismatch_49 1 rfl ?_
  refine ww_ladd C dJ13_vectorizedMismatch_51 ?_
  refine ww_st (st' := [.long 16, .ref b, .ref (gE (xG X) 8)]) (by rfl) ?_
  refine cv_J13_30_r (As := [.ref b, .long 16]) (rest := []) C dJ13_vectorizedMismatch_52 (ct_J24_getLongUnaligned (Cx.fl C) (Cx.ok C) Hb (by omega)) (rcv_ex (Cx.ok C) (k := 8) rfl uns_ex) rfl rfl (Nat.le_of_ble_eq_true rfl) (by decide) (Nat.zero_le _) (Nat.zero_le _) ?_
  refine ww_lstore (lv' := [(14, .long ((wd8 g).toUInt64.toInt64)), (12, .long ((wd8 f).toUInt64.toInt64)), (10, .long 0), (9, .int (nI 0)), (8, .int (nI 3)), (0, .ref a), (1, .long 16), (3, .ref b), (4, .long 16), (6, .int (nI ln)), (7, .int (nI 0))]) C dJ13_vectorizedMismatch_55 (by decide) rfl ?_
  refine ww_lload C dJ13_vectorizedMismatch_57 1 rfl ?_
  refine ww_lload C dJ13_vectorizedMismatch_59 0 rfl ?_
  refine ww_lcmp C dJ13_vectorizedMismatch_61 ?_
  rcases hff : ff (fun j => decide (¬ u j = v j)) 8 0 with _ | k
  · skip
    have he := hw.1 hff
    refine ww_if_eq_t (tgt := 116) C dJ13_vectorizedMismatch_62 (by decide) (by rw [he]; exact lg_cmp_s _) ?_
    refine ww_iinc (lv' := [(9, .int (nI 1)), (14, .long ((wd8 g).toUInt64.toInt64)), (12, .long ((wd8 f).toUInt64.toInt64)), (10, .long 0), (8, .int (nI 3)), (0, .ref a), (1, .long 16), (3, .ref b), (4, .long 16), (6, .int (nI ln)), (7, .int (nI 0))]) C dJ13_vectorizedMismatch_116 3 rfl (by decide) (by decide) rfl ?_
    refine ww_goto (tgt := 11) C dJ13_vectorizedMismatch_119 (by decide) ?_
    refine ww_iload C dJ13_vectorizedMismatch_11 0 rfl ?_
    refine ww_iload C dJ13_vectorizedMismatch_13 9 rfl ?_
    refine ww_iload C dJ13_vectorizedMismatch_15 4 rfl ?_
    refine ww_ishr C dJ13_vectorizedMismatch_17 ?_
    refine ww_st (st' := [.int (nI 1), .int (nI 1)]) (by rw [shr3 ln h8 h10]) ?_
    refine ww_icmp_ge_t (tgt := 122) C dJ13_vectorizedMismatch_18 (by decide) (by decide) ?_
    refine ww_iload C dJ13_vectorizedMismatch_122 9 rfl ?_
    refine ww_iload C dJ13_vectorizedMismatch_124 0 rfl ?_
    refine ww_iload C dJ13_vectorizedMismatch_126 4 rfl ?_
    refine ww_ishl C dJ13_vectorizedMismatch_128 ?_
    refine ww_st (st' := [.int (nI 8), .int (nI ln)]) (by rw [show nI 1 <<< (nI 3 &&& 31) = nI 8 by decide]) ?_
    refine ww_isubn C dJ13_vectorizedMismatch_129 (by omega) ?_
    refine ww_istore (lv' := [(10, .int (nI (ln - 8))), (9, .int (nI 1)), (14, .long ((wd8 g).toUInt64.toInt64)), (12, .long ((wd8 f).toUInt64.toInt64)), (8, .int (nI 3)), (0, .ref a), (1, .long 16), (3, .ref b), (4, .long 16), (6, .int (nI ln)), (7, .int (nI 0))]) C dJ13_vectorizedMismatch_130 (by decide) rfl ?_
    refine ww_iload C dJ13_vectorizedMismatch_132 10 rfl ?_
    refine ww_gsv C (si_10 (Cx.ok C)) q1465 (fun _ q => q) dJ13_vectorizedMismatch_134 ?_
    refine ww_icmp_ge_f (tgt := 263) C dJ13_vectorizedMismatch_137 (by decide) (by decide) ?_
    refine ww_iconst C dJ13_vectorizedMismatch_140 cI_1 ?_
    refine ww_gsv C (si_10 (Cx.ok C)) q1465 (fun _ q => q) dJ13_vectorizedMismatch_141 ?_
    refine ww_iload C dJ13_vectorizedMismatch_144 10 rfl ?_
    refine ww_isubn C dJ13_vectorizedMismatch_146 (by omega) ?_
    refine ww_st (st' := [.int (nI 2), .int (nI 1)]) (by rfl) ?_
    refine ww_ishl C dJ13_vectorizedMismatch_147 ?_
    refine ww_st (st' := [.int (nI 4)]) (by rw [show nI 1 <<< (nI 2 &&& 31) = nI 4 by decide]) ?_
    refine ww_istore (lv' := [(11, .int (nI 4)), (10, .int (nI (ln - 8))), (9, .int (nI 1)), (14, .long ((wd8 g).toUInt64.toInt64)), (12, .long ((wd8 f).toUInt64.toInt64)), (8, .int (nI 3)), (0, .ref a), (1, .long 16), (3, .ref b), (4, .long 16), (6, .int (nI ln)), (7, .int (nI 0))]) C dJ13_vectorizedMismatch_148 (by decide) rfl ?_
    refine ww_iload C dJ13_vectorizedMismatch_150 1 rfl ?_
    refine ww_iload C dJ13_vectorizedMismatch_152 0 rfl ?_
    refine ww_icmp_lt_t (tgt := 258) C dJ13_vectorizedMismatch_154 (by decide) (nI_lt (by omega) (by decide)) ?_
    refine ww_iload C dJ13_vectorizedMismatch_258 1 rfl ?_
    refine ww_iconst C dJ13_vectorizedMismatch_260 cI_m1 ?_
    refine ww_ixor C dJ13_vectorizedMismatch_261 ?_
    exact ww_iret C dJ13_vectorizedMismatch_262 (RdP.i (by rfl))
  · skip
    obtain ⟨t, q, hx, ht, ht64, hk8⟩ := hw.2 k hff
    refine ww_if_eq_f (tgt := 116) C dJ13_vectorizedMismatch_62 (by decide) (lg_cmp_n (fun e => xor_nz hx (by rw [e]))) ?_
    refine ww_lload C dJ13_vectorizedMismatch_65 1 rfl ?_
    refine ww_lload C dJ13_vectorizedMismatch_67 0 rfl ?_
    refine ww_lxor C dJ13_vectorizedMismatch_69 ?_
    refine ww_lstore (lv' := [(16, .long (((wd8 f).toUInt64.toInt64) ^^^ ((wd8 g).toUInt64.toInt64))), (14, .long ((wd8 g).toUInt64.toInt64)), (12, .long ((wd8 f).toUInt64.toInt64)), (10, .long 0), (9, .int (nI 0)), (8, .int (nI 3)), (0, .ref a), (1, .long 16), (3, .ref b), (4, .long 16), (6, .int (nI ln)), (7, .int (nI 0))]) C dJ13_vectorizedMismatch_70 (by decide) rfl ?_
    refine ww_gsv C (si_8 (Cx.ok C)) q1448 (fun _ q => q) dJ13_vectorizedMismatch_72 ?_
    refine ww_if_eq_t (tgt := 93) C dJ13_vectorizedMismatch_75 (by decide) (by decide) ?_
    refine ww_lload C dJ13_vectorizedMismatch_93 0 rfl ?_
    refine cs_J13_49_r (As := [.long (((wd8 f).toUInt64.toInt64) ^^^ ((wd8 g).toUInt64.toInt64))]) (rest := []) C dJ13_vectorizedMismatch_95 (ct_J25_numberOfTrailingZeros (Cx.fl C) (Cx.ok C) hx ht64) rfl rfl (Nat.le_of_ble_eq_true rfl) (by decide) (Nat.zero_le _) (Nat.zero_le _) ?_
    refine ww_gsv C (si_9 (Cx.ok C)) q1457 (fun _ q => q) dJ13_vectorizedMismatch_98 ?_
    refine ww_iload C dJ13_vectorizedMismatch_101 11 rfl ?_
    refine ww_iaddn C dJ13_vectorizedMismatch_103 ?_
    refine ww_ishr C dJ13_vectorizedMismatch_104 ?_
    refine ww_st (st' := [.int (nI k)]) (by rw [show (3 : Nat) + 0 = 3 from rfl, shr3b t ht64, ht]) ?_
    refine ww_istore (lv' := [(18, .int (nI k)), (16, .long (((wd8 f).toUInt64.toInt64) ^^^ ((wd8 g).toUInt64.toInt64))), (14, .long ((wd8 g).toUInt64.toInt64)), (12, .long ((wd8 f).toUInt64.toInt64)), (10, .long 0), (9, .int (nI 0)), (8, .int (nI 3)), (0, .ref a), (1, .long 16), (3, .ref b), (4, .long 16), (6, .int (nI ln)), (7, .int (nI 0))]) C dJ13_vectorizedMismatch_105 (by decide) rfl ?_
    refine ww_iload C dJ13_vectorizedMismatch_107 5 rfl ?_
    refine ww_iload C dJ13_vectorizedMismatch_109 6 rfl ?_
    refine ww_ishl C dJ13_vectorizedMismatch_111 ?_
    refine ww_st (st' := [.int (nI 0)]) (by rw [show nI 0 <<< (nI 3 &&& 31) = nI 0 by decide]) ?_
    refine ww_iload C dJ13_vectorizedMismatch_112 0 rfl ?_
    refine ww_iaddn C dJ13_vectorizedMismatch_114 ?_
    exact ww_iret C dJ13_vectorizedMismatch_115 (RdP.i (by rw [Nat.zero_add]))
set_option maxHeartbeats 2000000 in
theorem ct_J13_mismatch {l : Launch} {Γ : Gm} (hl : l.flags = flags0) (hΓ : GOK Γ) {z : ZR} {h : AH} {a b m m2 ln : Nat} {f g : Nat → Int32} {u v : Nat → Nat} (Ha : h a = some (.inl (gA Γ 1, (m, .inl f)))) (Hb : h b = some (.inl (gA Γ 1, (m2, .inl g)))) (hm : ln ≤ m) (hm2 : ln ≤ m2) (hbm : m ≤ 10) (hbm2 : m2 ≤ 10) (hf : ∀ i, i < m → f i = bs (u i) ∧ u i < 256) (hg : ∀ i, i < m2 → g i = bs (v i) ∧ v i < 256) : Ct l Γ yJ13_mismatch cJ13_mismatch 4 (some .int) 4 0 0 [.ref a, .ref b, .int (nI ln)] z h (RdP z h (some (.int (oI (ff (fun j => decide (¬ u j = v j)) ln 0))))) := by
  refine Ct.of hl hΓ (by decide +kernel) (Nat.le_of_ble_eq_true rfl) (fun X e1 e2 C => ?_)
  subst e1; subst e2
  have C : Cx X cJ13_mismatch 4 "jdk/internal/util/ArraysSupport" "mismatch" (some .int) [] 4 := C
  have Ha : h a = some (.inl (gA (xG X) 1, (m, .inl f))) := Ha
  have Hb : h b = some (.inl (gA (xG X) 1, (m2, .inl g))) := Hb
  have h10 : ln ≤ 10 := by omega
  have hfg : ∀ i, i < ln → (f i = g i ↔ u i = v i) := fun i hi => by rw [(hf i (by omega)).1, (hg i (by omega)).1]; exact bs_eq (hf i (by omega)).2 (hg i (by omega)).2
  show WW X (RdP z h (some (.int (oI (ff (fun j => decide (¬ u j = v j)) ln 0))))) z h 0 0 0 [(0, .ref a), (1, .ref b), (2, .int (nI ln))] []
  refine ww_iconst C dJ13_mismatch_0 cI_0 ?_
  refine ww_istore_n (lv' := [(3, .int (nI 0)), (0, .ref a), (1, .ref b), (2, .int (nI ln))]) C dJ13_mismatch_1 rfl (by decide) rfl ?_
  have K49 : ∀ j, j ≤ ln → ff (fun j => decide (¬ u j = v j)) ln 0 = ff (fun j => decide (¬ u j = v j)) (ln - j) j → WW X (RdP z h (some (.int (oI (ff (fun j => decide (¬ u j = v j)) ln 0))))) z h 0 0 49 [(3, .int (nI j)), (0, .ref a), (1, .ref b), (2, .int (nI ln))] [] := by
    intro j0 hj0 he0
    refine loop_up (N := ln) (M := fun j => ff (fun j => decide (¬ u j = v j)) ln 0 = ff (fun j => decide (¬ u j = v j)) (ln - j) j → WW X (RdP z h (some (.int (oI (ff (fun j => decide (¬ u j = v j)) ln 0))))) z h 0 0 49 [(3, .int (nI j)), (0, .ref a), (1, .ref b), (2, .int (nI ln))] []) ?_ ?_ j0 hj0 he0
    · intro hv; show WW X (RdP z h (some (.int (oI (ff (fun j => decide (¬ u j = v j)) ln 0))))) z h 0 0 49 [(3, .int (nI ln)), (0, .ref a), (1, .ref b), (2, .int (nI ln))] []
      refine ww_iload_n C dJ13_mismatch_49 rfl 0 rfl ?_
      refine ww_iload_n C dJ13_mismatch_50 rfl 3 rfl ?_
      refine ww_icmp_ge_t (tgt := 71) C dJ13_mismatch_51 (by decide) (nI_le (Nat.le_refl _) (by omega)) ?_
      refine ww_iconst C dJ13_mismatch_71 cI_m1 ?_
      exact ww_iret C dJ13_mismatch_72 (RdP.i (by rw [hv, ff_0]; try rfl))
    · intro j hi ih hv
      show WW X (RdP z h (some (.int (oI (ff (fun j => decide (¬ u j = v j)) ln 0))))) z h 0 0 49 [(3, .int (nI j)), (0, .ref a), (1, .ref b), (2, .int (nI ln))] []
      refine ww_iload_n C dJ13_mismatch_49 rfl 0 rfl ?_
      refine ww_iload_n C dJ13_mismatch_50 rfl 3 rfl ?_
      refine ww_icmp_ge_f (tgt := 71) C dJ13_mismatch_51 (by decide) (nI_ge hi (by omega)) ?_
      refine ww_aload_n C dJ13_mismatch_54 rfl 1 rfl rfl ?_
      refine ww_iload_n C dJ13_mismatch_55 rfl 0 rfl ?_
      refine ww_bald C dJ13_mismatch_56 (Or.inl Ha) (by omega) (by omega) ?_
      refine ww_aload_n C dJ13_mismatch_57 rfl 2 rfl rfl ?_
      refine ww_iload_n C dJ13_mismatch_58 rfl 0 rfl ?_
      refine ww_bald C dJ13_mismatch_59 (Or.inl Hb) (by omega) (by omega) ?_
      refine ww_icmp_eq (tgt := 65) C dJ13_mismatch_60 (by decide) (fun c_60 => ?_) (fun c_60 => ?_)
      · skip
        have hp : (fun j => decide (¬ u j = v j)) j = false := decide_eq_false (fun q => q ((hfg j hi).mp c_60))
        refine ww_iinc (lv' := [(3, .int (nI (j + 1))), (0, .ref a), (1, .ref b), (2, .int (nI ln))]) C dJ13_mismatch_65 0 rfl (inc_n _) (by decide) rfl ?_
        refine ww_goto (tgt := 49) C dJ13_mismatch_68 (by decide) ?_
        exact ih (hv.trans (ff_f hi hp))
      · skip
        have hp : (fun j => decide (¬ u j = v j)) j = true := decide_eq_true (fun q => c_60 ((hfg j hi).mpr q))
        refine ww_iload_n C dJ13_mismatch_63 rfl 0 rfl ?_
        exact ww_iret C dJ13_mismatch_64 (RdP.i (by rw [hv, ff_t hi hp]; try rfl))
  refine ww_iload_n C dJ13_mismatch_2 rfl 3 rfl ?_
  refine ww_bipush C dJ13_mismatch_3 cB_7 ?_
  refine ww_icmp_le_n (tgt := 49) C dJ13_mismatch_5 (by decide) (by omega) (by decide) (fun c_5 => ?_) (fun c_5 => ?_)
  · skip
    exact K49 0 (Nat.zero_le _) rfl
  · skip
    refine ww_aload_n C dJ13_mismatch_8 rfl 1 rfl rfl ?_
    refine ww_iconst C dJ13_mismatch_9 cI_0 ?_
    refine ww_bald C dJ13_mismatch_10 (Or.inl Ha) (by omega) (by omega) ?_
    refine ww_aload_n C dJ13_mismatch_11 rfl 2 rfl rfl ?_
    refine ww_iconst C dJ13_mismatch_12 cI_0 ?_
    refine ww_bald C dJ13_mismatch_13 (Or.inl Hb) (by omega) (by omega) ?_
    refine ww_icmp_eq (tgt := 19) C dJ13_mismatch_14 (by decide) (fun c_14 => ?_) (fun c_14 => ?_)
    · skip
      refine ww_aload_n C dJ13_mismatch_19 rfl 1 rfl rfl ?_
      refine ww_gsv C (si_abo (Cx.ok C)) q1385 (fun _ q => q) dJ13_mismatch_20 ?_
      refine ww_i2l C dJ13_mismatch_23 rfl ?_
      refine ww_aload_n C dJ13_mismatch_24 rfl 2 rfl rfl ?_
      refine ww_gsv C (si_abo (Cx.ok C)) q1385 (fun _ q => q) dJ13_mismatch_25 ?_
      refine ww_i2l C dJ13_mismatch_28 rfl ?_
      refine ww_iload_n C dJ13_mismatch_29 rfl 3 rfl ?_
      refine ww_gsv C (si_5 (Cx.ok C)) q1387 (fun _ q => q) dJ13_mismatch_30 ?_
      refine cs_J13_122_r (As := [.ref a, .long ((nI 16).toInt64), .ref b, .long ((nI 16).toInt64), .int (nI ln), .int (nI 0)]) (rest := []) C dJ13_mismatch_33 (ct_J13_vectorizedMismatch (Cx.fl C) (Cx.ok C) Ha Hb hm hm2 hbm hbm2 hf hg (by omega)) rfl rfl (Nat.le_of_ble_eq_true rfl) (by decide) (Nat.zero_le _) (Nat.zero_le _) ?_
      rcases hff : ff (fun j => decide (¬ u j = v j)) 8 0 with _ | k
      · skip
        show WW X (RdP z h (some (.int (oI (ff (fun j => decide (¬ u j = v j)) ln 0))))) z h 0 0 36 [(3, .int (nI 0)), (0, .ref a), (1, .ref b), (2, .int (nI ln))] [.int (nI (ln - 8) ^^^ (-1))]
        refine ww_istore_n (lv' := [(3, .int (nI (ln - 8) ^^^ (-1))), (0, .ref a), (1, .ref b), (2, .int (nI ln))]) C dJ13_mismatch_36 rfl (by decide) rfl ?_
        refine ww_iload_n C dJ13_mismatch_37 rfl 0 rfl ?_
        refine ww_if_lt_t (tgt := 43) C dJ13_mismatch_38 (by decide) (not_neg (by omega)) ?_
        refine ww_iload_n C dJ13_mismatch_43 rfl 3 rfl ?_
        refine ww_iload_n C dJ13_mismatch_44 rfl 0 rfl ?_
        refine ww_iconst C dJ13_mismatch_45 cI_m1 ?_
        refine ww_ixor C dJ13_mismatch_46 ?_
        refine ww_st (st' := [.int (nI (ln - 8)), .int (nI ln)]) (by rw [not_not]) ?_
        refine ww_isubn C dJ13_mismatch_47 (by omega) ?_
        refine ww_st (st' := [.int (nI 8)]) (by rw [show ln - (ln - 8) = 8 by omega]) ?_
        refine ww_istore_n (lv' := [(3, .int (nI 8)), (0, .ref a), (1, .ref b), (2, .int (nI ln))]) C dJ13_mismatch_48 rfl (by decide) rfl ?_
        exact K49 8 (by omega) (ff_skip (by omega) hff)
      · skip
        have hk := (ff_lt _ _ _ hff).1
        show WW X (RdP z h (some (.int (oI (ff (fun j => decide (¬ u j = v j)) ln 0))))) z h 0 0 36 [(3, .int (nI 0)), (0, .ref a), (1, .ref b), (2, .int (nI ln))] [.int (nI k)]
        refine ww_istore_n (lv' := [(3, .int (nI k)), (0, .ref a), (1, .ref b), (2, .int (nI ln))]) C dJ13_mismatch_36 rfl (by decide) rfl ?_
        refine ww_iload_n C dJ13_mismatch_37 rfl 0 rfl ?_
        refine ww_if_lt_n (tgt := 43) C dJ13_mismatch_38 (by decide) (by omega) ?_
        refine ww_iload_n C dJ13_mismatch_41 rfl 0 rfl ?_
        exact ww_iret C dJ13_mismatch_42 (RdP.i (by rw [ff_more (by omega) hff]; try rfl))
    · skip
      refine ww_iconst C dJ13_mismatch_17 cI_0 ?_
      have hp0 : (fun j => decide (¬ u j = v j)) 0 = true := decide_eq_true (fun q => c_14 ((hfg 0 (by omega)).mpr q))
      exact ww_iret C dJ13_mismatch_18 (RdP.i (by rw [ff_first (by omega) hp0]; try rfl))
set_option maxHeartbeats 2000000 in
theorem ct_J16_getChar {l : Launch} {Γ : Gm} (hl : l.flags = flags0) (hΓ : GOK Γ) {z : ZR} {h : AH} {v m j : Nat} {f : Nat → Int32} {u : Nat → Nat} (Hv : rd z h v (.inl (gA Γ 1, (m, .inl f)))) (hm : m < 2 ^ 20) (hf : ∀ i, i < m → f i = bs (u i) ∧ u i < 256) (hj : j < m) : Ct l Γ yJ16_getChar cJ16_getChar 2 (some .char) 1 0 0 [.ref v, .int (nI j)] z h (RdP z h (some (.int (nI (u j))))) := by
  refine Ct.of hl hΓ (by decide +kernel) (Nat.le_of_ble_eq_true rfl) (fun X e1 e2 C => ?_)
  subst e1; subst e2
  have C : Cx X cJ16_getChar 2 "java/lang/StringLatin1" "getChar" (some .char) [] 1 := C
  obtain ⟨f1, f2⟩ := hf j hj
  show WW X (RdP z h (some (.int (nI (u j))))) z h 0 0 0 [(0, .ref v), (1, .int (nI j))] []
  refine ww_aload_n C dJ16_getChar_0 rfl 0 rfl rfl ?_
  refine ww_iload_n C dJ16_getChar_1 rfl 1 rfl ?_
  refine ww_bald C dJ16_getChar_2 Hv (by omega) (by omega) ?_
  refine ww_sipush C dJ16_getChar_3 cS_255 ?_
  refine ww_iand C dJ16_getChar_6 ?_
  refine ww_i2c (v := nI (u j)) C dJ16_getChar_7 (by rw [f1, bs_and f2]; exact i2c0 _ f2) ?_
  exact ww_zret C dJ16_getChar_8 (nar_c f2) (RdP.i rfl)
set_option maxHeartbeats 2000000 in
theorem ct_J16_compareTo_2 {l : Launch} {Γ : Gm} (hl : l.flags = flags0) (hΓ : GOK Γ) {z : ZR} {h : AH} {a b m m2 : Nat} {f g : Nat → Int32} {u v : Nat → Nat} (Ha : h a = some (.inl (gA Γ 1, (m, .inl f)))) (Hb : h b = some (.inl (gA Γ 1, (m2, .inl g)))) (hbm : m ≤ 10) (hbm2 : m2 ≤ 10) (hf : ∀ i, i < m → f i = bs (u i) ∧ u i < 256) (hg : ∀ i, i < m2 → g i = bs (v i) ∧ v i < 256) : Ct l Γ yJ16_compareTo_2 cJ16_compareTo_2 6 (some .int) 5 0 0 [.ref a, .ref b, .int (nI m), .int (nI m2)] z h (RdP z h (some (.int (cmU u m v m2)))) := by
  refine Ct.of hl hΓ (by decide +kernel) (Nat.le_of_ble_eq_true rfl) (fun X e1 e2 C => ?_)
  subst e1; subst e2
  have C : Cx X cJ16_compareTo_2 6 "java/lang/StringLatin1" "compareTo" (some .int) [] 5 := C
  have Ha : h a = some (.inl (gA (xG X) 1, (m, .inl f))) := Ha
  have Hb : h b = some (.inl (gA (xG X) 1, (m2, .inl g))) := Hb
  show WW X (RdP z h (some (.int (cmU u m v m2)))) z h 0 0 0 [(0, .ref a), (1, .ref b), (2, .int (nI m)), (3, .int (nI m2))] []
  refine ww_iload_n C dJ16_compareTo_2_0 rfl 2 rfl ?_
  refine ww_iload_n C dJ16_compareTo_2_1 rfl 3 rfl ?_
  refine cs_J16_38_r (As := [.int (nI m), .int (nI m2)]) (rest := []) C dJ16_compareTo_2_2 (ct_J14_min (Cx.fl C) (Cx.ok C) (a := m) (b := m2) (by omega) (by omega)) rfl rfl (Nat.le_of_ble_eq_true rfl) (by decide) (Nat.zero_le _) (Nat.zero_le _) ?_
  refine ww_istore (lv' := [(4, .int (nI (min m m2))), (0, .ref a), (1, .ref b), (2, .int (nI m)), (3, .int (nI m2))]) C dJ16_compareTo_2_5 (by decide) rfl ?_
  refine ww_aload_n C dJ16_compareTo_2_7 rfl 1 rfl rfl ?_
  refine ww_aload_n C dJ16_compareTo_2_8 rfl 2 rfl rfl ?_
  refine ww_iload C dJ16_compareTo_2_9 0 rfl ?_
  refine cs_J16_44_r (As := [.ref a, .ref b, .int (nI (min m m2))]) (rest := []) C dJ16_compareTo_2_11 (ct_J13_mismatch (Cx.fl C) (Cx.ok C) (ln := min m m2) Ha Hb (by omega) (by omega) hbm hbm2 hf hg) rfl rfl (Nat.le_of_ble_eq_true rfl) (by decide) (Nat.zero_le _) (Nat.zero_le _) ?_
  refine ww_istore (lv' := [(5, .int (oI (ff (fun j => decide (¬ u j = v j)) (min m m2) 0))), (4, .int (nI (min m m2))), (0, .ref a), (1, .ref b), (2, .int (nI m)), (3, .int (nI m2))]) C dJ16_compareTo_2_14 (by decide) rfl ?_
  refine ww_iload C dJ16_compareTo_2_16 0 rfl ?_
  unfold cmU
  rcases hff : ff (fun j => decide (¬ u j = v j)) (min m m2) 0 with _ | k
  · skip
    show WW X (RdP z h (some (.int (nI m - nI m2)))) z h 0 0 18 [(5, .int (oI none)), (4, .int (nI (min m m2))), (0, .ref a), (1, .ref b), (2, .int (nI m)), (3, .int (nI m2))] [.int (oI none)]
    refine ww_if_ge_f (tgt := 27) C dJ16_compareTo_2_18 (by decide) (by decide) ?_
    refine ww_iload_n C dJ16_compareTo_2_21 rfl 4 rfl ?_
    refine ww_iload_n C dJ16_compareTo_2_22 rfl 5 rfl ?_
    refine ww_isub C dJ16_compareTo_2_23 ?_
    refine ww_goto (tgt := 40) C dJ16_compareTo_2_24 (by decide) ?_
    exact ww_iret C dJ16_compareTo_2_40 (RdP.i (by rfl))
  · skip
    have hk := (ff_lt _ _ _ hff).1
    show WW X (RdP z h (some (.int (nI (u k) - nI (v k))))) z h 0 0 18 [(5, .int (nI k)), (4, .int (nI (min m m2))), (0, .ref a), (1, .ref b), (2, .int (nI m)), (3, .int (nI m2))] [.int (nI k)]
    refine ww_if_ge_n (tgt := 27) C dJ16_compareTo_2_18 (by decide) (by omega) ?_
    refine ww_aload_n C dJ16_compareTo_2_27 rfl 2 rfl rfl ?_
    refine ww_iload C dJ16_compareTo_2_28 0 rfl ?_
    refine cs_J16_50_r (As := [.ref a, .int (nI k)]) (rest := []) C dJ16_compareTo_2_30 (ct_J16_getChar (Cx.fl C) (Cx.ok C) (Or.inl Ha) (by omega) hf (by omega)) rfl rfl (Nat.le_of_ble_eq_true rfl) (by decide) (Nat.zero_le _) (Nat.zero_le _) ?_
    refine ww_aload_n C dJ16_compareTo_2_33 rfl 3 rfl rfl ?_
    refine ww_iload C dJ16_compareTo_2_34 0 rfl ?_
    refine cs_J16_50_r (As := [.ref b, .int (nI k)]) (rest := [.int (nI (u k))]) C dJ16_compareTo_2_36 (ct_J16_getChar (Cx.fl C) (Cx.ok C) (Or.inl Hb) (by omega) hg (by omega)) rfl rfl (Nat.le_of_ble_eq_true rfl) (by decide) (Nat.zero_le _) (Nat.zero_le _) ?_
    refine ww_isub C dJ16_compareTo_2_39 ?_
    exact ww_iret C dJ16_compareTo_2_40 (RdP.i (by rfl))
set_option maxHeartbeats 2000000 in
theorem ct_J16_compareTo {l : Launch} {Γ : Gm} (hl : l.flags = flags0) (hΓ : GOK Γ) {z : ZR} {h : AH} {a b m m2 : Nat} {f g : Nat → Int32} {u v : Nat → Nat} (Ha : h a = some (.inl (gA Γ 1, (m, .inl f)))) (Hb : h b = some (.inl (gA Γ 1, (m2, .inl g)))) (hbm : m ≤ 10) (hbm2 : m2 ≤ 10) (hf : ∀ i, i < m → f i = bs (u i) ∧ u i < 256) (hg : ∀ i, i < m2 → g i = bs (v i) ∧ v i < 256) : Ct l Γ yJ16_compareTo cJ16_compareTo 4 (some .int) 6 0 0 [.ref a, .ref b] z h (RdP z h (some (.int (cmU u m v m2)))) := by
  refine Ct.of hl hΓ (by decide +kernel) (Nat.le_of_ble_eq_true rfl) (fun X e1 e2 C => ?_)
  subst e1; subst e2
  have C : Cx X cJ16_compareTo 4 "java/lang/StringLatin1" "compareTo" (some .int) [] 6 := C
  have Ha : h a = some (.inl (gA (xG X) 1, (m, .inl f))) := Ha
  have Hb : h b = some (.inl (gA (xG X) 1, (m2, .inl g))) := Hb
  show WW X (RdP z h (some (.int (cmU u m v m2)))) z h 0 0 0 [(0, .ref a), (1, .ref b)] []
  refine ww_aload_n C dJ16_compareTo_0 rfl 0 rfl rfl ?_
  refine ww_alen (t := 1) C dJ16_compareTo_1 (by decide) (Or.inl Ha) ?_
  refine ww_istore_n (lv' := [(2, .int (nI m)), (0, .ref a), (1, .ref b)]) C dJ16_compareTo_2 rfl (by decide) rfl ?_
  refine ww_aload_n C dJ16_compareTo_3 rfl 2 rfl rfl ?_
  refine ww_alen (t := 1) C dJ16_compareTo_4 (by decide) (Or.inl Hb) ?_
  refine ww_istore_n (lv' := [(3, .int (nI m2)), (2, .int (nI m)), (0, .ref a), (1, .ref b)]) C dJ16_compareTo_5 rfl (by decide) rfl ?_
  refine ww_aload_n C dJ16_compareTo_6 rfl 2 rfl rfl ?_
  refine ww_aload_n C dJ16_compareTo_7 rfl 3 rfl rfl ?_
  refine ww_iload_n C dJ16_compareTo_8 rfl 1 rfl ?_
  refine ww_iload_n C dJ16_compareTo_9 rfl 0 rfl ?_
  refine cs_J16_34_r (As := [.ref a, .ref b, .int (nI m), .int (nI m2)]) (rest := []) C dJ16_compareTo_10 (ct_J16_compareTo_2 (Cx.fl C) (Cx.ok C) Ha Hb hbm hbm2 hf hg) rfl rfl (Nat.le_of_ble_eq_true rfl) (by decide) (Nat.zero_le _) (Nat.zero_le _) ?_
  exact ww_iret C dJ16_compareTo_13 (RdP.i rfl)
set_option maxHeartbeats 2000000 in
theorem ct_J11_compareTo_2 {l : Launch} {Γ : Gm} (hl : l.flags = flags0) (hΓ : GOK Γ) {z : ZR} {h : AH} {s s2 m m2 : Nat} {u v : Nat → Nat} (H1 : NmS Γ z h s m u) (H2 : NmS Γ z h s2 m2 v) : Ct l Γ yJ11_compareTo_2 cJ11_compareTo_2 5 (some .int) 7 0 0 [.ref s, .ref s2] z h (RdP z h (some (.int (cmU u m v m2)))) := by
  refine Ct.of hl hΓ (by decide +kernel) (Nat.le_of_ble_eq_true rfl) (fun X e1 e2 C => ?_)
  subst e1; subst e2
  have C : Cx X cJ11_compareTo_2 5 "java/lang/String" "compareTo" (some .int) [] 7 := C
  obtain ⟨a, x1, y1, f, Hs, Ha, hbm, hf, -⟩ := id H1
  obtain ⟨b, x2, y2, g, Hs2, Hb, hbm2, hg, -⟩ := id H2
  show WW X (RdP z h (some (.int (cmU u m v m2)))) z h 0 0 0 [(0, .ref s), (1, .ref s2)] []
  refine ww_aload_n C dJ11_compareTo_2_0 rfl 0 rfl rfl ?_
  refine gf_J11_9_J11 C dJ11_compareTo_2_1 (Or.inl Hs) rfl ?_
  refine ww_astore_n (lv' := [(2, .ref a), (0, .ref s), (1, .ref s2)]) C dJ11_compareTo_2_4 rfl (by decide) rfl rfl ?_
  refine ww_aload_n C dJ11_compareTo_2_5 rfl 2 rfl rfl ?_
  refine gf_J11_9_J11 C dJ11_compareTo_2_6 (Or.inl Hs2) rfl ?_
  refine ww_astore_n (lv' := [(3, .ref b), (2, .ref a), (0, .ref s), (1, .ref s2)]) C dJ11_compareTo_2_9 rfl (by decide) rfl rfl ?_
  refine ww_aload_n C dJ11_compareTo_2_10 rfl 2 rfl rfl ?_
  refine cv_J11_335_r (As := []) (rest := []) C dJ11_compareTo_2_11 (ct_J11_coder (Cx.fl C) (Cx.ok C) H1.su) (rc_J11 (Cx.ok C) (Or.inl Hs)) rfl rfl (Nat.le_of_ble_eq_true rfl) (by decide) (Nat.zero_le _) (Nat.zero_le _) ?_
  refine ww_istore (lv' := [(4, .int (nI 0)), (3, .ref b), (2, .ref a), (0, .ref s), (1, .ref s2)]) C dJ11_compareTo_2_14 (by decide) rfl ?_
  refine ww_iload C dJ11_compareTo_2_16 0 rfl ?_
  refine ww_aload_n C dJ11_compareTo_2_18 rfl 4 rfl rfl ?_
  refine cv_J11_335_r (As := []) (rest := [.int (nI 0)]) C dJ11_compareTo_2_19 (ct_J11_coder (Cx.fl C) (Cx.ok C) H2.su) (rc_J11 (Cx.ok C) (Or.inl Hs2)) rfl rfl (Nat.le_of_ble_eq_true rfl) (by decide) (Nat.zero_le _) (Nat.zero_le _) ?_
  refine ww_icmp_ne_f (tgt := 44) C dJ11_compareTo_2_22 (by decide) rfl ?_
  refine ww_iload C dJ11_compareTo_2_25 0 rfl ?_
  refine ww_if_ne_f (tgt := 38) C dJ11_compareTo_2_27 (by decide) rfl ?_
  refine ww_aload_n C dJ11_compareTo_2_30 rfl 2 rfl rfl ?_
  refine ww_aload_n C dJ11_compareTo_2_31 rfl 1 rfl rfl ?_
  refine cs_J11_586_r (As := [.ref a, .ref b]) (rest := []) C dJ11_compareTo_2_32 (ct_J16_compareTo (Cx.fl C) (Cx.ok C) Ha Hb hbm hbm2 hf hg) rfl rfl (Nat.le_of_ble_eq_true rfl) (by decide) (Nat.zero_le _) (Nat.zero_le _) ?_
  refine ww_goto (tgt := 43) C dJ11_compareTo_2_35 (by decide) ?_
  exact ww_iret C dJ11_compareTo_2_43 (RdP.i rfl)
set_option maxHeartbeats 2000000 in
theorem ct_J11_compareTo {l : Launch} {Γ : Gm} (hl : l.flags = flags0) (hΓ : GOK Γ) {z : ZR} {h : AH} {s s2 m m2 : Nat} {u v : Nat → Nat} (H1 : NmS Γ z h s m u) (H2 : NmS Γ z h s2 m2 v) : Ct l Γ yJ11_compareTo cJ11_compareTo 2 (some .int) 8 0 0 [.ref s, .ref s2] z h (RdP z h (some (.int (cmU u m v m2)))) := by
  refine Ct.of hl hΓ (by decide +kernel) (Nat.le_of_ble_eq_true rfl) (fun X e1 e2 C => ?_)
  subst e1; subst e2
  have C : Cx X cJ11_compareTo 2 "java/lang/String" "compareTo" (some .int) [] 8 := C
  obtain ⟨a, x1, y1, f, Hs, Ha, hbm, hf, -⟩ := id H1
  obtain ⟨b, x2, y2, g, Hs2, Hb, hbm2, hg, -⟩ := id H2
  show WW X (RdP z h (some (.int (cmU u m v m2)))) z h 0 0 0 [(0, .ref s), (1, .ref s2)] []
  refine ww_aload_n C dJ11_compareTo_0 rfl 0 rfl rfl ?_
  refine ww_aload_n C dJ11_compareTo_1 rfl 1 rfl rfl ?_
  refine ww_castS (ci := 25) C q699 rfl dJ11_compareTo_2 (rc_J11 (Cx.ok C) (Or.inl Hs2)) ?_
  refine cv_J11_1084_r (As := [.ref s2]) (rest := []) C dJ11_compareTo_5 (ct_J11_compareTo_2 (Cx.fl C) (Cx.ok C) H1 H2) (rc_J11 (Cx.ok C) (Or.inl Hs)) rfl rfl (Nat.le_of_ble_eq_true rfl) (by decide) (Nat.zero_le _) (Nat.zero_le _) ?_
  exact ww_iret C dJ11_compareTo_8 (RdP.i rfl)
set_option maxHeartbeats 2000000 in
theorem ct_J22_comparableClassFor {l : Launch} {Γ : Gm} (hl : l.flags = flags0) (hΓ : GOK Γ) {z : ZR} {h : AH} {s m : Nat} {u : Nat → Nat} (H1 : NmS Γ z h s m u) : Ct l Γ yJ22_comparableClassFor cJ22_comparableClassFor 9 (some (.object "java/lang/Class")) 2 0 0 [.ref s] z h (RdP z h (some (.ref (gE Γ 3001)))) := by
  refine Ct.of hl hΓ (by decide +kernel) (Nat.le_of_ble_eq_true rfl) (fun X e1 e2 C => ?_)
  subst e1; subst e2
  have C : Cx X cJ22_comparableClassFor 9 "java/util/HashMap" "comparableClassFor" (some (.object "java/lang/Class")) [] 2 := C
  have hrc := StU.rc (Cx.ok C) H1.su
  show WW X (RdP z h (some (.ref (gE (xG X) 3001)))) z h 0 0 0 [(0, .ref s)] []
  refine ww_aload_n C dJ22_comparableClassFor_0 rfl 0 rfl rfl ?_
  refine ww_instY C q1240 q1366 hrc dJ22_comparableClassFor_1 ?_
  refine ww_if_eq_f (tgt := 113) C dJ22_comparableClassFor_4 (by decide) (nI_ne0 (by decide) (by decide)) ?_
  refine ww_aload_n C dJ22_comparableClassFor_7 rfl 0 rfl rfl ?_
  refine ww_getC (k := 1) C rfl q1241 q3460 q831 q783 q841 hrc dJ22_comparableClassFor_8 (Nat.le_of_ble_eq_true rfl) (by omega) ?_
  refine ww_dup C dJ22_comparableClassFor_11 rfl ?_
  refine ww_astore_n (lv' := [(1, .ref (gE (xG X) 3001)), (0, .ref s)]) C dJ22_comparableClassFor_12 rfl (by decide) rfl rfl ?_
  refine ww_ldcM (k := 1) C rfl q1242 dJ22_comparableClassFor_13 ?_
  refine ww_acmp_ne_f (rx := (some (gE (xG X) 3001))) (ry := (some (gE (xG X) 3001))) (tgt := 20) C dJ22_comparableClassFor_15 (by decide) rfl ?_
  refine ww_aload_n C dJ22_comparableClassFor_18 rfl 0 rfl rfl ?_
  exact ww_aret C (Or.inl ⟨_, rfl⟩) dJ22_comparableClassFor_19 rfl (RdP.v rfl)
set_option maxHeartbeats 2000000 in
theorem ct_J22_compareComparables {l : Launch} {Γ : Gm} (hl : l.flags = flags0) (hΓ : GOK Γ) {z : ZR} {h : AH} {s s2 m m2 : Nat} {u v : Nat → Nat} (H1 : NmS Γ z h s m u) (H2 : NmS Γ z h s2 m2 v) : Ct l Γ yJ22_compareComparables cJ22_compareComparables 3 (some .int) 9 0 0 [.ref (gE Γ 3001), .ref s, .ref s2] z h (RdP z h (some (.int (cmU u m v m2)))) := by
  refine Ct.of hl hΓ (by decide +kernel) (Nat.le_of_ble_eq_true rfl) (fun X e1 e2 C => ?_)
  subst e1; subst e2
  have C : Cx X cJ22_compareComparables 3 "java/util/HashMap" "compareComparables" (some .int) [] 9 := C
  have hrc := StU.rc (Cx.ok C) H1.su
  have hrc2 := StU.rc (Cx.ok C) H2.su
  show WW X (RdP z h (some (.int (cmU u m v m2)))) z h 0 0 0 [(0, .ref (gE (xG X) 3001)), (1, .ref s), (2, .ref s2)] []
  refine ww_aload_n C dJ22_compareComparables_0 rfl 2 rfl rfl ?_
  refine ww_ifnull_f C dJ22_compareComparables_1 ?_
  refine ww_aload_n C dJ22_compareComparables_4 rfl 2 rfl rfl ?_
  refine ww_getC (k := 1) C rfl q1241 q3460 q831 q783 q841 hrc2 dJ22_compareComparables_5 (Nat.le_of_ble_eq_true rfl) (by omega) ?_
  refine ww_aload_n C dJ22_compareComparables_8 rfl 0 rfl rfl ?_
  refine ww_acmp_eq_t (rx := (some (gE (xG X) 3001))) (ry := (some (gE (xG X) 3001))) (tgt := 16) C dJ22_compareComparables_9 (by decide) rfl ?_
  refine ww_aload_n C dJ22_compareComparables_16 rfl 1 rfl rfl ?_
  refine ww_cast C q1240 q1366 dJ22_compareComparables_17 hrc ?_
  refine ww_aload_n C dJ22_compareComparables_20 rfl 2 rfl rfl ?_
  refine cf_J22_30_J11_r (As := [.ref s2]) (rest := []) C dJ22_compareComparables_21 (ct_J11_compareTo (Cx.fl C) (Cx.ok C) H1 H2) hrc rfl rfl (Nat.le_of_ble_eq_true rfl) (by decide) (Nat.zero_le _) (Nat.zero_le _) ?_
  exact ww_iret C dJ22_compareComparables_26 (RdP.i rfl)
end CMP
