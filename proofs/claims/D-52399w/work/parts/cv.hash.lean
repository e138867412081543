section HASH
set_option maxRecDepth 100000
theorem hs_1 {u : Nat → Nat} : hsU u 1 = nI (u 0) := by
  show nI 31 * nI 0 + nI (u 0) = nI (u 0)
  rw [show nI 31 * nI 0 = 0 by decide, Int32.zero_add]
theorem look2 {m : Nat} (h2 : 2 ≤ m) (h10 : m ≤ 10) : Op.lookupswitch.offset (#[((0 : Int), (26 : Int)), (1, 30)]).toList 40 (nI m).toInt = 40 := by
  have : m = 2 ∨ m = 3 ∨ m = 4 ∨ m = 5 ∨ m = 6 ∨ m = 7 ∨ m = 8 ∨ m = 9 ∨ m = 10 := by omega
  rcases this with rfl | rfl | rfl | rfl | rfl | rfl | rfl | rfl | rfl <;> decide
/-- the hash of a map's key -/
def hsK (u : Nat → Nat) (m : Nat) : Int32 := hsU u m ^^^ ((hsU u m).toUInt32 >>> ((nI 16).toUInt32 &&& Int32.toUInt32 31)).toInt32
/-- a hash is answered, and may be kept in the String -/
def HsP (Γ : Gm) (z : ZR) (h : AH) (s m : Nat) (u : Nat → Nat) (x : Int32) : Oc → ZR → AH → Prop := Rv (fun v z' h' => v = .int x ∧ z' = z ∧ NmS Γ z h' s m u ∧ ∀ q, q ≠ s → h' q = h q)
set_option maxHeartbeats 2000000 in
theorem ct_J13_signedHashCode {l : Launch} {Γ : Gm} (hl : l.flags = flags0) (hΓ : GOK Γ) {z : ZR} {h : AH} {a m : Nat} {f : Nat → Int32} {u : Nat → Nat} (Ha : h a = some (.inl (gA Γ 1, (m, .inl f)))) (hm : m ≤ 10) (hf : ∀ i, i < m → f i = bs (u i) ∧ u i < 256) : Ct l Γ yJ13_signedHashCode cJ13_signedHashCode 6 (some .int) 1 0 0 [.int (nI 0), .ref a, .int (nI 0), .int (nI m)] z h (RdP z h (some (.int (hsU u m)))) := by
  refine Ct.of hl hΓ (by decide +kernel) (Nat.le_of_ble_eq_true rfl) (fun X e1 e2 C => ?_)
  subst e1; subst e2
  have C : Cx X cJ13_signedHashCode 6 "jdk/internal/util/ArraysSupport" "signedHashCode" (some .int) [] 1 := C
  have Ha : h a = some (.inl (gA (xG X) 1, (m, .inl f))) := Ha
  show WW X (RdP z h (some (.int (hsU u m)))) z h 0 0 0 [(0, .int (nI 0)), (1, .ref a), (2, .int (nI 0)), (3, .int (nI m))] []
  refine ww_iload_n C dJ13_signedHashCode_0 rfl 2 rfl ?_
  refine ww_iload_n C dJ13_signedHashCode_1 rfl 3 rfl ?_
  refine ww_iaddn C dJ13_signedHashCode_2 ?_
  refine ww_st (st' := [.int (nI m)]) (by rw [Nat.zero_add]) ?_
  refine ww_istore (lv' := [(4, .int (nI m)), (0, .int (nI 0)), (1, .ref a), (2, .int (nI 0)), (3, .int (nI m))]) C dJ13_signedHashCode_3 (by decide) rfl ?_
  refine ww_iload_n C dJ13_signedHashCode_5 rfl 3 rfl ?_
  refine ww_istore (lv' := [(5, .int (nI 0)), (4, .int (nI m)), (0, .int (nI 0)), (1, .ref a), (2, .int (nI 0)), (3, .int (nI m))]) C dJ13_signedHashCode_6 (by decide) rfl ?_
  refine ww_sub [0, 1, 2, 3] rfl ?_
  refine ww_lv (lv' := [(5, .int (nI 0)), (4, .int (nI m)), (0, .int (hsU u 0)), (1, .ref a)]) (by rfl) ?_
  refine loop_up (N := m) (M := fun j => WW X (RdP z h (some (.int (hsU u m)))) z h 0 0 8 [(5, .int (nI j)), (4, .int (nI m)), (0, .int (hsU u j)), (1, .ref a)] []) ?_ ?_ 0 (Nat.zero_le _)
  · show WW X (RdP z h (some (.int (hsU u m)))) z h 0 0 8 [(5, .int (nI m)), (4, .int (nI m)), (0, .int (hsU u m)), (1, .ref a)] []
    refine ww_iload C dJ13_signedHashCode_8 0 rfl ?_
    refine ww_iload C dJ13_signedHashCode_10 1 rfl ?_
    refine ww_icmp_ge_t (tgt := 35) C dJ13_signedHashCode_12 (by decide) (nI_le (Nat.le_refl _) (by omega)) ?_
    refine ww_iload_n C dJ13_signedHashCode_35 rfl 2 rfl ?_
    exact ww_iret C dJ13_signedHashCode_36 (RdP.i rfl)
  · intro j hi ih
    show WW X (RdP z h (some (.int (hsU u m)))) z h 0 0 8 [(5, .int (nI j)), (4, .int (nI m)), (0, .int (hsU u j)), (1, .ref a)] []
    obtain ⟨f1, f2⟩ := hf j hi
    refine ww_iload C dJ13_signedHashCode_8 0 rfl ?_
    refine ww_iload C dJ13_signedHashCode_10 1 rfl ?_
    refine ww_icmp_ge_f (tgt := 35) C dJ13_signedHashCode_12 (by decide) (nI_ge hi (by omega)) ?_
    refine ww_bipush C dJ13_signedHashCode_15 cB_31 ?_
    refine ww_iload_n C dJ13_signedHashCode_17 rfl 2 rfl ?_
    refine ww_imul C dJ13_signedHashCode_18 ?_
    refine ww_aload_n C dJ13_signedHashCode_19 rfl 3 rfl rfl ?_
    refine ww_iload C dJ13_signedHashCode_20 0 rfl ?_
    refine ww_bald C dJ13_signedHashCode_22 (Or.inl Ha) (by omega) (by omega) ?_
    refine ww_sipush C dJ13_signedHashCode_23 cS_255 ?_
    refine ww_iand C dJ13_signedHashCode_26 ?_
    refine ww_st (st' := [.int (nI (u j)), .int ((nI 31) * (hsU u j))]) (by rw [f1, bs_and f2]) ?_
    refine ww_iadd C dJ13_signedHashCode_27 ?_
    refine ww_st (st' := [.int (hsU u (j + 1))]) (by rfl) ?_
    refine ww_istore_n (lv' := [(0, .int (hsU u (j + 1))), (5, .int (nI j)), (4, .int (nI m)), (1, .ref a)]) C dJ13_signedHashCode_28 rfl (by decide) rfl ?_
    refine ww_iinc (lv' := [(5, .int (nI (j + 1))), (0, .int (hsU u (j + 1))), (4, .int (nI m)), (1, .ref a)]) C dJ13_signedHashCode_29 1 rfl (inc_n _) (by decide) rfl ?_
    refine ww_goto (tgt := 8) C dJ13_signedHashCode_32 (by decide) ?_
    refine ww_sub [0, 2, 1, 3] rfl ?_
    exact ih
set_option maxHeartbeats 2000000 in
theorem ct_J13_vectorizedHashCode {l : Launch} {Γ : Gm} (hl : l.flags = flags0) (hΓ : GOK Γ) {z : ZR} {h : AH} {a m : Nat} {f : Nat → Int32} {u : Nat → Nat} (Ha : h a = some (.inl (gA Γ 1, (m, .inl f)))) (hm : m ≤ 10) (hf : ∀ i, i < m → f i = bs (u i) ∧ u i < 256) : Ct l Γ yJ13_vectorizedHashCode cJ13_vectorizedHashCode 5 (some .int) 2 0 0 [.ref a, .int (nI 0), .int (nI m), .int (nI 0), .int (nI 4)] z h (RdP z h (some (.int (hsU u m)))) := by
  refine Ct.of hl hΓ (by decide +kernel) (Nat.le_of_ble_eq_true rfl) (fun X e1 e2 C => ?_)
  subst e1; subst e2
  have C : Cx X cJ13_vectorizedHashCode 5 "jdk/internal/util/ArraysSupport" "vectorizedHashCode" (some .int) [] 2 := C
  have Ha : h a = some (.inl (gA (xG X) 1, (m, .inl f))) := Ha
  show WW X (RdP z h (some (.int (hsU u m)))) z h 0 0 0 [(0, .ref a), (1, .int (nI 0)), (2, .int (nI m)), (3, .int (nI 0)), (4, .int (nI 4))] []
  refine ww_iload C dJ13_vectorizedHashCode_0 4 rfl ?_
  refine ww_tin (off := 42) (tgt := 44) C dJ13_vectorizedHashCode_2 (by decide) (by decide) rfl (by decide) ?_
  refine ww_iload_n C dJ13_vectorizedHashCode_44 rfl 3 rfl ?_
  refine ww_aload_n C dJ13_vectorizedHashCode_45 rfl 0 rfl rfl ?_
  refine ww_castB C q1108 dJ13_vectorizedHashCode_46 Ha ?_
  refine ww_iload_n C dJ13_vectorizedHashCode_49 rfl 1 rfl ?_
  refine ww_iload_n C dJ13_vectorizedHashCode_50 rfl 2 rfl ?_
  refine cs_J13_62_r (As := [.int (nI 0), .ref a, .int (nI 0), .int (nI m)]) (rest := []) C dJ13_vectorizedHashCode_51 (ct_J13_signedHashCode (Cx.fl C) (Cx.ok C) Ha hm hf) rfl rfl (Nat.le_of_ble_eq_true rfl) (by decide) (Nat.zero_le _) (Nat.zero_le _) ?_
  refine ww_goto (tgt := 157) C dJ13_vectorizedHashCode_54 (by decide) ?_
  exact ww_iret C dJ13_vectorizedHashCode_157 (RdP.i rfl)
set_option maxHeartbeats 2000000 in
theorem ct_J16_hashCode {l : Launch} {Γ : Gm} (hl : l.flags = flags0) (hΓ : GOK Γ) {z : ZR} {h : AH} {a m : Nat} {f : Nat → Int32} {u : Nat → Nat} (Ha : h a = some (.inl (gA Γ 1, (m, .inl f)))) (hm : m ≤ 10) (hf : ∀ i, i < m → f i = bs (u i) ∧ u i < 256) : Ct l Γ yJ16_hashCode cJ16_hashCode 1 (some .int) 3 0 0 [.ref a] z h (RdP z h (some (.int (hsU u m)))) := by
  refine Ct.of hl hΓ (by decide +kernel) (Nat.le_of_ble_eq_true rfl) (fun X e1 e2 C => ?_)
  subst e1; subst e2
  have C : Cx X cJ16_hashCode 1 "java/lang/StringLatin1" "hashCode" (some .int) [] 3 := C
  have Ha : h a = some (.inl (gA (xG X) 1, (m, .inl f))) := Ha
  show WW X (RdP z h (some (.int (hsU u m)))) z h 0 0 0 [(0, .ref a)] []
  refine ww_aload_n C dJ16_hashCode_0 rfl 0 rfl rfl ?_
  refine ww_alen (t := 1) C dJ16_hashCode_1 (by decide) (Or.inl Ha) ?_
  have hm3 : m = 0 ∨ m = 1 ∨ 2 ≤ m := by omega
  rcases hm3 with h0 | h1 | h2
  · skip
    have hmI : nI m = nI 0 := by rw [h0]
    refine ww_look (off := 26) (tgt := 28) C dJ16_hashCode_2 (by decide) (by rw [hmI]; decide) (by decide) ?_
    refine ww_iconst C dJ16_hashCode_28 cI_0 ?_
    refine ww_goto (tgt := 51) C dJ16_hashCode_29 (by decide) ?_
    exact ww_iret C dJ16_hashCode_51 (RdP.i (by rw [h0]; try rfl))
  · skip
    have hmI : nI m = nI 1 := by rw [h1]
    refine ww_look (off := 30) (tgt := 32) C dJ16_hashCode_2 (by decide) (by rw [hmI]; decide) (by decide) ?_
    obtain ⟨f1, f2⟩ := hf 0 (by omega)
    refine ww_aload_n C dJ16_hashCode_32 rfl 0 rfl rfl ?_
    refine ww_iconst C dJ16_hashCode_33 cI_0 ?_
    refine ww_bald C dJ16_hashCode_34 (Or.inl Ha) (by omega) (by omega) ?_
    refine ww_sipush C dJ16_hashCode_35 cS_255 ?_
    refine ww_iand C dJ16_hashCode_38 ?_
    refine ww_st (st' := [.int (nI (u 0))]) (by rw [f1, bs_and f2]) ?_
    refine ww_goto (tgt := 51) C dJ16_hashCode_39 (by decide) ?_
    exact ww_iret C dJ16_hashCode_51 (RdP.i (by rw [h1]; exact hs_1.symm))
  · skip
    refine ww_look (off := 40) (tgt := 42) C dJ16_hashCode_2 (by decide) (look2 h2 hm) (by decide) ?_
    refine ww_aload_n C dJ16_hashCode_42 rfl 0 rfl rfl ?_
    refine ww_iconst C dJ16_hashCode_43 cI_0 ?_
    refine ww_aload_n C dJ16_hashCode_44 rfl 0 rfl rfl ?_
    refine ww_alen (t := 1) C dJ16_hashCode_45 (by decide) (Or.inl Ha) ?_
    refine ww_iconst C dJ16_hashCode_46 cI_0 ?_
    refine ww_iconst C dJ16_hashCode_47 cI_4 ?_
    refine cs_J16_84_r (As := [.ref a, .int (nI 0), .int (nI m), .int (nI 0), .int (nI 4)]) (rest := []) C dJ16_hashCode_48 (ct_J13_vectorizedHashCode (Cx.fl C) (Cx.ok C) Ha hm hf) rfl rfl (Nat.le_of_ble_eq_true rfl) (by decide) (Nat.zero_le _) (Nat.zero_le _) ?_
    exact ww_iret C dJ16_hashCode_51 (RdP.i rfl)
set_option maxHeartbeats 2000000 in
theorem ct_J11_hashCode {l : Launch} {Γ : Gm} (hl : l.flags = flags0) (hΓ : GOK Γ) {z : ZR} {h : AH} {s m : Nat} {u : Nat → Nat} (H1 : NmS Γ z h s m u) : Ct l Γ yJ11_hashCode cJ11_hashCode 2 (some .int) 4 0 0 [.ref s] z h (HsP Γ z h s m u (hsU u m)) := by
  refine Ct.of hl hΓ (by decide +kernel) (Nat.le_of_ble_eq_true rfl) (fun X e1 e2 C => ?_)
  subst e1; subst e2
  have C : Cx X cJ11_hashCode 2 "java/lang/String" "hashCode" (some .int) [] 4 := C
  obtain ⟨a, x1, y1, f, Hs, Ha, hm, hf, hx, hy⟩ := id H1
  show WW X (HsP (xG X) z h s m u (hsU u m)) z h 0 0 0 [(0, .ref s)] []
  refine ww_aload_n C dJ11_hashCode_0 rfl 0 rfl rfl ?_
  refine gf_J11_19_J11 C dJ11_hashCode_1 (Or.inl Hs) rfl ?_
  refine ww_istore_n (lv' := [(1, .int x1), (0, .ref s)]) C dJ11_hashCode_4 rfl (by decide) rfl ?_
  refine ww_iload_n C dJ11_hashCode_5 rfl 0 rfl ?_
  refine ww_if_ne (tgt := 58) C dJ11_hashCode_6 (by decide) (fun c_6 => ?_) (fun c_6 => ?_)
  · skip
    refine ww_iload_n C dJ11_hashCode_58 rfl 0 rfl ?_
    exact ww_iret C dJ11_hashCode_59 ⟨by rw [hx.resolve_left c_6], rfl, H1, fun _ _ => rfl⟩
  · skip
    have hx0 : x1 = nI 0 := by first | exact c_6 | exact Classical.not_not.mp c_6
    refine ww_aload_n C dJ11_hashCode_9 rfl 1 rfl rfl ?_
    refine gf_J11_23_J11 C dJ11_hashCode_10 (Or.inl Hs) rfl ?_
    refine ww_if_ne (tgt := 58) C dJ11_hashCode_13 (by decide) (fun c_13 => ?_) (fun c_13 => ?_)
    · skip
      refine ww_iload_n C dJ11_hashCode_58 rfl 0 rfl ?_
      exact ww_iret C dJ11_hashCode_59 ⟨by rw [(hy.resolve_left c_13).2, hx0], rfl, H1, fun _ _ => rfl⟩
    · skip
      have hy0 : y1 = nI 0 := by first | exact c_13 | exact Classical.not_not.mp c_13
      refine ww_aload_n C dJ11_hashCode_16 rfl 1 rfl rfl ?_
      refine cv_J11_492_r (As := []) (rest := []) C dJ11_hashCode_17 (ct_J11_isLatin1 (Cx.fl C) (Cx.ok C) H1.su) (rc_J11 (Cx.ok C) (Or.inl Hs)) rfl rfl (Nat.le_of_ble_eq_true rfl) (by decide) (Nat.zero_le _) (Nat.zero_le _) ?_
      refine ww_if_eq_f (tgt := 33) C dJ11_hashCode_20 (by decide) (fun q => by cases q) ?_
      refine ww_aload_n C dJ11_hashCode_23 rfl 1 rfl rfl ?_
      refine gf_J11_9_J11 C dJ11_hashCode_24 (Or.inl Hs) rfl ?_
      refine cs_J11_628_r (As := [.ref a]) (rest := []) C dJ11_hashCode_27 (ct_J16_hashCode (Cx.fl C) (Cx.ok C) Ha hm hf) rfl rfl (Nat.le_of_ble_eq_true rfl) (by decide) (Nat.zero_le _) (Nat.zero_le _) ?_
      refine ww_goto (tgt := 40) C dJ11_hashCode_30 (by decide) ?_
      refine ww_istore_n (lv' := [(1, .int (hsU u m)), (0, .ref s)]) C dJ11_hashCode_40 rfl (by decide) rfl ?_
      refine ww_iload_n C dJ11_hashCode_41 rfl 0 rfl ?_
      refine ww_if_ne (tgt := 53) C dJ11_hashCode_42 (by decide) (fun c_42 => ?_) (fun c_42 => ?_)
      · skip
        refine ww_aload_n C dJ11_hashCode_53 rfl 1 rfl rfl ?_
        refine ww_iload_n C dJ11_hashCode_54 rfl 0 rfl ?_
        refine pf_J11_19_J11 (fs' := [.ref a, .int (nI 0), .int (hsU u m), .int y1]) C dJ11_hashCode_55 Hs rfl rfl (Nat.le_of_ble_eq_true rfl) rfl ?_
        refine ww_gen (fun h1 hE1 => ?_)
        have Hs_h1 : h1 s = some (.inr (25, [.ref a, .int (nI 0), .int (hsU u m), .int y1])) := by rw [hE1]; exact up_s
        refine ww_iload_n C dJ11_hashCode_58 rfl 0 rfl ?_
        exact ww_iret C dJ11_hashCode_59 ⟨rfl, rfl, ⟨a, _, _, f, Hs_h1, by rw [hE1, up_n (ne_ob Ha Hs (by simp))]; exact Ha, hm, hf, ⟨Or.inr rfl, Or.inl hy0⟩⟩, fun q n => by rw [hE1, up_n n]⟩
      · skip
        refine ww_aload_n C dJ11_hashCode_45 rfl 1 rfl rfl ?_
        refine ww_iconst C dJ11_hashCode_46 cI_1 ?_
        refine pf_J11_23_J11 (fs' := [.ref a, .int (nI 0), .int x1, .int (nI 1)]) C dJ11_hashCode_47 Hs nar_z1 fit_z1 (Nat.le_of_ble_eq_true rfl) rfl ?_
        refine ww_gen (fun h2 hE2 => ?_)
        have Hs_h2 : h2 s = some (.inr (25, [.ref a, .int (nI 0), .int x1, .int (nI 1)])) := by rw [hE2]; exact up_s
        refine ww_goto (tgt := 58) C dJ11_hashCode_50 (by decide) ?_
        refine ww_iload_n C dJ11_hashCode_58 rfl 0 rfl ?_
        exact ww_iret C dJ11_hashCode_59 ⟨rfl, rfl, ⟨a, _, _, f, Hs_h2, by rw [hE2, up_n (ne_ob Ha Hs (by simp))]; exact Ha, hm, hf, ⟨Or.inl hx0, Or.inr ⟨rfl, by first | exact c_42 | exact Classical.not_not.mp c_42⟩⟩⟩, fun q n => by rw [hE2, up_n n]⟩
set_option maxHeartbeats 2000000 in
theorem ct_J22_hash {l : Launch} {Γ : Gm} (hl : l.flags = flags0) (hΓ : GOK Γ) {z : ZR} {h : AH} {s m : Nat} {u : Nat → Nat} (H1 : NmS Γ z h s m u) : Ct l Γ yJ22_hash cJ22_hash 2 (some .int) 5 0 0 [.ref s] z h (HsP Γ z h s m u (hsK u m)) := by
  refine Ct.of hl hΓ (by decide +kernel) (Nat.le_of_ble_eq_true rfl) (fun X e1 e2 C => ?_)
  subst e1; subst e2
  have C : Cx X cJ22_hash 2 "java/util/HashMap" "hash" (some .int) [] 5 := C
  show WW X (HsP (xG X) z h s m u (hsK u m)) z h 0 0 0 [(0, .ref s)] []
  refine ww_aload_n C dJ22_hash_0 rfl 0 rfl rfl ?_
  refine ww_ifnonnull_t (tgt := 8) C dJ22_hash_1 (by decide) ?_
  refine ww_aload_n C dJ22_hash_8 rfl 0 rfl rfl ?_
  refine ca_J22_1_J11_q (As := []) (rest := []) C dJ22_hash_9 (ct_J11_hashCode (Cx.fl C) (Cx.ok C) H1) (StU.rc (Cx.ok C) H1.su) rfl rfl (Nat.le_of_ble_eq_true rfl) (by decide) (Nat.zero_le _) (Nat.zero_le _) (fun vv z1 h1 q => ?_)
  obtain ⟨hv, hq1, hN, hF⟩ := q; subst hv; replace hq1 := hq1.symm; subst hq1
  refine ww_dup C dJ22_hash_12 rfl ?_
  refine ww_istore_n (lv' := [(1, .int (hsU u m)), (0, .ref s)]) C dJ22_hash_13 rfl (by decide) rfl ?_
  refine ww_iload_n C dJ22_hash_14 rfl 0 rfl ?_
  refine ww_bipush C dJ22_hash_15 cB_16 ?_
  refine ww_iushr C dJ22_hash_17 rfl ?_
  refine ww_ixor C dJ22_hash_18 ?_
  exact ww_iret C dJ22_hash_19 ⟨rfl, rfl, hN, hF⟩
end HASH
