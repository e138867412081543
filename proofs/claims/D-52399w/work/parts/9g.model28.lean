section MO28
set_option maxRecDepth 100000
/-- a byte of a word -/
def fbN (x : Int32) (s : Nat) : Nat := ((x >>> (nI s &&& 31)) &&& nI 255).toBitVec.toNat
theorem fb_e {x : Int32} {s : Nat} : (x >>> (nI s &&& 31)) &&& nI 255 = nI (fbN x s) := by
  unfold fbN nI
  apply Int32.toBitVec_inj.mp
  simp
theorem fb_lt {x : Int32} {s : Nat} : fbN x s < 256 := by
  unfold fbN
  show ((x >>> (nI s &&& 31)).toBitVec &&& (nI 255).toBitVec).toNat < 256
  rw [BitVec.toNat_and, show (nI 255).toBitVec.toNat = 255 by decide]
  exact Nat.lt_of_le_of_lt Nat.and_le_right (by decide)
def ptB (t : TP) (b : Nat) : TP := (va_up t.1 t.2 b, t.2 + 1)
def wdV (x1 x2 x3 x4 x5 : Int32) : Nat → Int32 := upd (upd (upd (upd (upd (fun _ => 0) 0 x1) 1 x2) 2 x3) 3 x4) 4 x5
def pt4 (t : TP) (x : Int32) : TP := ptB (ptB (ptB (ptB t (fbN x 24)) (fbN x 16)) (fbN x 8)) (fbN x 0)
def fdN (t : TP) (v : Nat → Int32) : Nat → TP
  | 0 => t
  | j + 1 => pt4 (fdN t v j) (v j)
theorem fdN_2 {t : TP} {v : Nat → Int32} : ∀ j, (fdN t v j).2 = t.2 + 4 * j
  | 0 => rfl
  | j + 1 => by
    show (fdN t v j).2 + 1 + 1 + 1 + 1 = _
    rw [fdN_2 j]; omega
theorem ptB_ok {t : TP} {b : Nat} (h : t.2 < 2000) (ht : TPo t) (hb : b < 256) : TPo (ptB t b) := ⟨h, fun a ha => by
  show va_up t.1 t.2 b a < 256
  by_cases e : a = t.2
  · rw [e, va_eq]; exact hb
  · rw [va_ne e]; exact ht.2 a (by have : a < t.2 + 1 := ha; omega)⟩
theorem fdN_ok {t : TP} {v : Nat → Int32} (ht : TPo t) : ∀ j, t.2 + 4 * j ≤ 2000 → TPo (fdN t v j)
  | 0, _ => ht
  | j + 1, h => by
    have q := fdN_ok (v := v) ht j (by omega)
    have e := fdN_2 (t := t) (v := v) j
    have s1 := ptB_ok (b := fbN (v j) 24) (by omega) q fb_lt
    have s2 := ptB_ok (b := fbN (v j) 16) (show (fdN t v j).2 + 1 < 2000 by omega) s1 fb_lt
    have s3 := ptB_ok (b := fbN (v j) 8) (show (fdN t v j).2 + 1 + 1 < 2000 by omega) s2 fb_lt
    exact ptB_ok (b := fbN (v j) 0) (show (fdN t v j).2 + 1 + 1 + 1 < 2000 by omega) s3 fb_lt
/-- feed: the answer, the tape -/
def aFd (t : TP) (x1 x2 x3 x4 x5 : Int32) : (Int32 × Nat) × TP := if t.2 + 20 ≤ 2000 then ((nI (t.2 + 20), 0), fdN t (wdV x1 x2 x3 x4 x5) 5) else ((nI 0, 1), t)
theorem aFd_ok {t : TP} (ht : TPo t) {x1 x2 x3 x4 x5 : Int32} : TPo (aFd t x1 x2 x3 x4 x5).2 := by
  unfold aFd
  split
  · exact fdN_ok ht 5 (by omega)
  · exact ht
def Mfc (M M' : MS) : Prop := (∀ j, 2 ≤ j → M'.1 j = M.1 j) ∧ (∀ i, i ≠ 1 → M'.2.1 i = M.2.1 i) ∧ M'.2.2 = M.2.2
def Mfe (M M' : MS) : Prop := (∀ j, 2 ≤ j → M'.1 j = M.1 j) ∧ M'.1 0 = nI 0 ∧ (∀ i, i ≠ 1 → M'.2.1 i = M.2.1 i) ∧ M'.2.2 = M.2.2
theorem Mfe.c {M M' : MS} (h : Mfe M M') : Mfc M M' := ⟨h.1, h.2.2.1, h.2.2.2⟩
theorem Mfe.st {M : MS} : Mfe M (upd M.1 0 (nI 0), M.2) := ⟨fun j hj => upd_ne (by omega), rfl, fun _ _ => rfl, rfl⟩
/-- after a feed -/
def Mfd (Γ : Gm) (z : ZR) (h : AH) (D : Nat → Nat) (M : MS) (q : Int32 × Nat) (t' : TP) : Value → ZR → AH → Prop := fun v z' h' => v = .int q.1 ∧ z' = z ∧ ∃ M', Mfc M M' ∧ TpV M' t' ∧ M'.1 0 = nI q.2 ∧ Mx Γ h' D M' ∧ FrD h h' D
theorem fd_step {Γ : Gm} {h h1 h2 : AH} {D : Nat → Nat} {M M1 : MS} {t : TP} {b : Nat} (hX : Mx Γ h1 D M1) (hF : FrD h h1 D) (hQ : Mfe M M1) (hT : TpV M1 t) (e : h2 = up (up h1 (D 1) (cI Γ 2000 (upd (M1.2.1 1) t.2 (nI b)))) (D 0) (cMd (upd M1.1 1 (M1.1 1 + nI 1)) D)) : ∃ M2, Mx Γ h2 D M2 ∧ FrD h h2 D ∧ Mfe M M2 ∧ TpV M2 (ptB t b) := by
  subst e
  refine ⟨(upd M1.1 1 (M1.1 1 + nI 1), va_up M1.2.1 1 (upd (M1.2.1 1) t.2 (nI b)), M1.2.2), Mx.i (Mx.r hX (i := 1) (by decide)) (j := 1) (Or.inl (by decide)) rfl, FrD.w (FrD.w hF (i := 1) (by decide)) (i := 0) (by decide), ⟨fun j hj => (upd_ne (by omega)).trans (hQ.1 j hj), hQ.2.1, fun i hi => (va_ne hi).trans (hQ.2.2.1 i hi), hQ.2.2.2⟩, ?_, fun a ha => ?_⟩
  · show M1.1 1 + nI 1 = nI (t.2 + 1)
    rw [hT.1, nI_add]
  · show upd (M1.2.1 1) t.2 (nI b) a = nI (va_up t.1 t.2 b a)
    by_cases e : a = t.2
    · rw [e, upd_eq, va_eq]
    · rw [upd_ne e, va_ne e]; exact hT.2 a (by have : a < t.2 + 1 := ha; omega)
set_option maxHeartbeats 2000000 in
theorem ct_X4_feed {l : Launch} {Γ : Gm} (hl : l.flags = flags0) (hΓ : GOK Γ) {z : ZR} {h : AH} {M : MS} {D : Nat → Nat} {t : TP} {x1 x2 x3 x4 x5 : Int32} (hX : Mx Γ h D M) (hv : TpV M t) (ht : TPo t) : Ct l Γ yX4_feed cX4_feed 12 (some .int) 2 1 5 [.ref (D 0), .int x1, .int x2, .int x3, .int x4, .int x5] z h (Rv (Mfd Γ z h D M (aFd t x1 x2 x3 x4 x5).1 (aFd t x1 x2 x3 x4 x5).2)) := by
  refine Ct.of hl hΓ (by decide +kernel) (Nat.le_of_ble_eq_true rfl) (fun X e1 e2 C => ?_)
  subst e1; subst e2
  have C : Cx X cX4_feed 12 "RingDominoModel" "feed" (some .int) [] 2 := C
  have X0 := hX.m
  have h20 := ht.1
  show WW X (Rv (Mfd (xG X) z h D M (aFd t x1 x2 x3 x4 x5).1 (aFd t x1 x2 x3 x4 x5).2)) z h 1 5 0 [(0, .ref (D 0)), (1, .int x1), (2, .int x2), (3, .int x3), (4, .int x4), (5, .int x5)] []
  refine ww_z0 (fun hz0 => ?_)
  refine ww_aload_n C dX4_feed_0 rfl 0 rfl rfl ?_
  refine ww_iconst C dX4_feed_1 cI_0 ?_
  refine pf_X4_65_X4 (fs' := [.int (nI 0), .ref (D 1), .int (M.1 1), .int (M.1 2), .ref (D 2), .ref (D 3), .ref (D 4), .ref (D 5), .int (M.1 3), .int (M.1 4), .int (M.1 5), .int (M.1 6), .int (M.1 7), .ref (D 6), .ref (D 7), .ref (D 8), .ref (D 9), .ref (D 10), .ref (D 11), .ref (D 12), .ref (D 13), .int (M.1 8), .int (M.1 9), .int (M.1 10)]) C dX4_feed_2 X0 rfl rfl (Nat.le_of_ble_eq_true rfl) rfl ?_
  refine ww_gen (fun h1 hE1 => ?_)
  have X0_h1 : h1 (D 0) = some (.inr (3, [.int (nI 0), .ref (D 1), .int (M.1 1), .int (M.1 2), .ref (D 2), .ref (D 3), .ref (D 4), .ref (D 5), .int (M.1 3), .int (M.1 4), .int (M.1 5), .int (M.1 6), .int (M.1 7), .ref (D 6), .ref (D 7), .ref (D 8), .ref (D 9), .ref (D 10), .ref (D 11), .ref (D 12), .ref (D 13), .int (M.1 8), .int (M.1 9), .int (M.1 10)])) := by rw [hE1]; exact up_s
  have hX1 : Mx (xG X) h1 D (upd M.1 0 (nI 0), M.2) := by rw [hE1]; exact hX.thr _
  have X1 := hX1.m
  have hF1 : FrD h h1 D := by rw [hE1]; exact FrD.w FrD.rf (i := 0) (by decide)
  have hu1 : upd M.1 0 (nI 0) 1 = nI t.2 := hv.1
  refine ww_aload_n C dX4_feed_5 rfl 0 rfl rfl ?_
  refine gf_X4_72_X4 C dX4_feed_6 (Or.inl X1) rfl ?_
  refine ww_st (st' := [.int (nI t.2)]) (by rw [show (upd M.1 0 (nI 0), M.2).1 1 = nI t.2 from hu1]) ?_
  refine ww_bipush C dX4_feed_9 cB_20 ?_
  refine ww_iaddn C dX4_feed_11 ?_
  refine ww_sipush C dX4_feed_12 cS_2000 ?_
  refine ww_icmp_le_n (tgt := 24) C dX4_feed_15 (by decide) (by omega) (by decide) (fun c_15 => ?_) (fun c_15 => ?_)
  · skip
    refine ww_iconst C dX4_feed_24 cI_5 ?_
    refine ww_newa (t := 0) (n := 5) (a0 := (5, .inl (fun _ => 0))) C dX4_feed_25 (by decide) rfl q267 (fun cA => vp_cell_el cA _) (by decide) (by decide) (by decide) (fun ar ar_n ar_z ar_g => ?_)
    refine ww_gen (fun h2 hE2 => ?_)
    have N2_h2 : h2 ar = some (.inl (gA (xG X) 0, (5, .inl (fun _ => 0)))) := by rw [hE2]; exact up_s
    refine ww_dup C dX4_feed_27 rfl ?_
    refine ww_iconst C dX4_feed_28 cI_0 ?_
    refine ww_iload_n C dX4_feed_29 rfl 1 rfl ?_
    refine ww_iast C dX4_feed_30 N2_h2 (by decide) (by decide) ?_
    refine ww_gen (fun h3 hE3 => ?_)
    have N2_h3 : h3 ar = some (.inl (gA (xG X) 0, (5, .inl (upd (fun _ => 0) 0 x1)))) := by rw [hE3]; exact up_s
    refine ww_dup C dX4_feed_31 rfl ?_
    refine ww_iconst C dX4_feed_32 cI_1 ?_
    refine ww_iload_n C dX4_feed_33 rfl 2 rfl ?_
    refine ww_iast C dX4_feed_34 N2_h3 (by decide) (by decide) ?_
    refine ww_gen (fun h4 hE4 => ?_)
    have N2_h4 : h4 ar = some (.inl (gA (xG X) 0, (5, .inl (upd (upd (fun _ => 0) 0 x1) 1 x2)))) := by rw [hE4]; exact up_s
    refine ww_dup C dX4_feed_35 rfl ?_
    refine ww_iconst C dX4_feed_36 cI_2 ?_
    refine ww_iload_n C dX4_feed_37 rfl 3 rfl ?_
    refine ww_iast C dX4_feed_38 N2_h4 (by decide) (by decide) ?_
    refine ww_gen (fun h5 hE5 => ?_)
    have N2_h5 : h5 ar = some (.inl (gA (xG X) 0, (5, .inl (upd (upd (upd (fun _ => 0) 0 x1) 1 x2) 2 x3)))) := by rw [hE5]; exact up_s
    refine ww_dup C dX4_feed_39 rfl ?_
    refine ww_iconst C dX4_feed_40 cI_3 ?_
    refine ww_iload C dX4_feed_41 4 rfl ?_
    refine ww_iast C dX4_feed_43 N2_h5 (by decide) (by decide) ?_
    refine ww_gen (fun h6 hE6 => ?_)
    have N2_h6 : h6 ar = some (.inl (gA (xG X) 0, (5, .inl (upd (upd (upd (upd (fun _ => 0) 0 x1) 1 x2) 2 x3) 3 x4)))) := by rw [hE6]; exact up_s
    refine ww_dup C dX4_feed_44 rfl ?_
    refine ww_iconst C dX4_feed_45 cI_4 ?_
    refine ww_iload C dX4_feed_46 5 rfl ?_
    refine ww_iast C dX4_feed_48 N2_h6 (by decide) (by decide) ?_
    refine ww_gen (fun h7 hE7 => ?_)
    have N2_h7 : h7 ar = some (.inl (gA (xG X) 0, (5, .inl (upd (upd (upd (upd (upd (fun _ => 0) 0 x1) 1 x2) 2 x3) 3 x4) 4 x5)))) := by rw [hE7]; exact up_s
    refine ww_astore (lv' := [(6, .ref ar), (0, .ref (D 0)), (1, .int x1), (2, .int x2), (3, .int x3), (4, .int x4), (5, .int x5)]) C dX4_feed_49 (by decide) rfl rfl ?_
    refine ww_frzN (e := cI (xG X) 5 (wdV x1 x2 x3 x4 x5)) ar_n (by rw [hE7, hE6, hE5, hE4, hE3, hE2, up_up, up_up, up_up, up_up, up_up]; rfl) ?_
    have Har : rd (zad z ar (cI (xG X) 5 (wdV x1 x2 x3 x4 x5))) h1 ar (.inl (gA (xG X) 0, (5, .inl (wdV x1 x2 x3 x4 x5)))) := Or.inr zad_s
    refine ww_aload C dX4_feed_51 0 rfl rfl ?_
    refine ww_astore (lv' := [(7, .ref ar), (6, .ref ar), (0, .ref (D 0)), (1, .int x1), (2, .int x2), (3, .int x3), (4, .int x4), (5, .int x5)]) C dX4_feed_53 (by decide) rfl rfl ?_
    refine ww_aload C dX4_feed_55 0 rfl rfl ?_
    refine ww_alen (t := 0) C dX4_feed_57 (by decide) (Or.inr zad_s) ?_
    refine ww_istore (lv' := [(8, .int (nI 5)), (7, .ref ar), (6, .ref ar), (0, .ref (D 0)), (1, .int x1), (2, .int x2), (3, .int x3), (4, .int x4), (5, .int x5)]) C dX4_feed_58 (by decide) rfl ?_
    refine ww_iconst C dX4_feed_60 cI_0 ?_
    refine ww_istore (lv' := [(9, .int (nI 0)), (8, .int (nI 5)), (7, .ref ar), (6, .ref ar), (0, .ref (D 0)), (1, .int x1), (2, .int x2), (3, .int x3), (4, .int x4), (5, .int x5)]) C dX4_feed_61 (by decide) rfl ?_
    have hQ1 : Mfe M (upd M.1 0 (nI 0), M.2) := Mfe.st
    have hT1 : TpV (upd M.1 0 (nI 0), M.2) t := ⟨hu1, hv.2⟩
    refine ww_sub [0, 1, 2, 4] rfl ?_
    refine loop_up (N := 5) (M := fun j => ∀ (h2 : AH) (M2 : MS), (Mx (xG X) h2 D M2) → (FrD h h2 D) → (Mfe M M2) → (TpV M2 (fdN t (wdV x1 x2 x3 x4 x5) j)) → WW X (Rv (Mfd (xG X) z h D M (aFd t x1 x2 x3 x4 x5).1 (aFd t x1 x2 x3 x4 x5).2)) (zad z ar (cI (xG X) 5 (wdV x1 x2 x3 x4 x5))) h2 0 0 63 [(9, .int (nI j)), (8, .int (nI 5)), (7, .ref ar), (0, .ref (D 0))] []) ?_ ?_ 0 (Nat.zero_le _) h1 _ hX1 hF1 hQ1 hT1
    · intro h2 M2 hX2 hF2 hQ2 hT2
      show WW X (Rv (Mfd (xG X) z h D M (aFd t x1 x2 x3 x4 x5).1 (aFd t x1 x2 x3 x4 x5).2)) (zad z ar (cI (xG X) 5 (wdV x1 x2 x3 x4 x5))) h2 0 0 63 [(9, .int (nI 5)), (8, .int (nI 5)), (7, .ref ar), (0, .ref (D 0))] []
      refine ww_iload C dX4_feed_63 0 rfl ?_
      refine ww_iload C dX4_feed_65 1 rfl ?_
      refine ww_icmp_ge_t (tgt := 126) C dX4_feed_67 (by decide) (by decide) ?_
      have X0 : h2 (D 0) = some (cMd M2.1 D) := hX2.m
      refine ww_aload_n C dX4_feed_126 rfl 3 rfl rfl ?_
      refine gf_X4_72_X4 C dX4_feed_127 (Or.inl X0) rfl ?_
      refine ww_zs hz0 zad_le ?_
      refine ww_st (st' := [.int (nI (t.2 + 20))]) (by rw [hT2.1, fdN_2]) ?_
      have hfd : (aFd t x1 x2 x3 x4 x5) = ((nI (t.2 + 20), 0), fdN t (wdV x1 x2 x3 x4 x5) 5) := if_pos c_15
      exact ww_iret C dX4_feed_130 ⟨by rw [hfd], rfl, M2, hQ2.c, by rw [hfd]; exact hT2, by rw [hfd]; exact hQ2.2.1, hX2, hF2⟩
    · intro j hj ih h2 M2 hX2 hF2 hQ2 hT2
      show WW X (Rv (Mfd (xG X) z h D M (aFd t x1 x2 x3 x4 x5).1 (aFd t x1 x2 x3 x4 x5).2)) (zad z ar (cI (xG X) 5 (wdV x1 x2 x3 x4 x5))) h2 0 0 63 [(9, .int (nI j)), (8, .int (nI 5)), (7, .ref ar), (0, .ref (D 0))] []
      refine ww_iload C dX4_feed_63 0 rfl ?_
      refine ww_iload C dX4_feed_65 1 rfl ?_
      refine ww_icmp_ge_f (tgt := 126) C dX4_feed_67 (by decide) (nI_ge hj (by decide)) ?_
      have hs := fdN_2 (t := t) (v := (wdV x1 x2 x3 x4 x5)) j
      refine ww_aload C dX4_feed_70 2 rfl rfl ?_
      refine ww_iload C dX4_feed_72 0 rfl ?_
      refine ww_iald C dX4_feed_74 (Or.inr zad_s) (by omega) (by decide) ?_
      refine ww_istore (lv' := [(10, .int ((wdV x1 x2 x3 x4 x5) j)), (9, .int (nI j)), (8, .int (nI 5)), (7, .ref ar), (0, .ref (D 0))]) C dX4_feed_75 (by decide) rfl ?_
      refine ww_bipush C dX4_feed_77 cB_24 ?_
      refine ww_istore (lv' := [(11, .int (nI 24)), (10, .int ((wdV x1 x2 x3 x4 x5) j)), (9, .int (nI j)), (8, .int (nI 5)), (7, .ref ar), (0, .ref (D 0))]) C dX4_feed_79 (by decide) rfl ?_
      have hsz : (fdN t (wdV x1 x2 x3 x4 x5) j).2 < 2000 := by rw [hs]; omega
      have X0_0 : h2 (D 0) = some (cMd M2.1 D) := hX2.m
      have Y1_0 : h2 (D 1) = some (cI (xG X) 2000 (M2.2.1 1)) := hX2.1 1 (by decide)
      refine ww_iload C dX4_feed_81 0 rfl ?_
      refine ww_if_lt_n (tgt := 120) C dX4_feed_83 (by decide) (by decide) ?_
      refine ww_aload_n C dX4_feed_86 rfl 5 rfl rfl ?_
      refine gf_X4_9_X4 C dX4_feed_87 (Or.inl X0_0) rfl ?_
      refine ww_aload_n C dX4_feed_90 rfl 5 rfl rfl ?_
      refine gf_X4_72_X4 C dX4_feed_91 (Or.inl X0_0) rfl ?_
      refine ww_st (st' := [.int (nI ((fdN t (wdV x1 x2 x3 x4 x5) j).2)), .ref (D 1)]) (by rw [hT2.1]) ?_
      refine ww_iload C dX4_feed_94 1 rfl ?_
      refine ww_iload C dX4_feed_96 0 rfl ?_
      refine ww_ishr C dX4_feed_98 ?_
      refine ww_sipush C dX4_feed_99 cS_255 ?_
      refine ww_iand C dX4_feed_102 ?_
      refine ww_st (st' := [.int (nI (fbN ((wdV x1 x2 x3 x4 x5) j) 24)), .int (nI ((fdN t (wdV x1 x2 x3 x4 x5) j).2)), .ref (D 1)]) (by rw [← fb_e]) ?_
      refine ww_iast C dX4_feed_103 Y1_0 (by omega) (by decide) ?_
      refine ww_gen (fun h8 hE8 => ?_)
      have X0_0_h8 : h8 (D 0) = some (.inr (3, [.int (M2.1 0), .ref (D 1), .int (M2.1 1), .int (M2.1 2), .ref (D 2), .ref (D 3), .ref (D 4), .ref (D 5), .int (M2.1 3), .int (M2.1 4), .int (M2.1 5), .int (M2.1 6), .int (M2.1 7), .ref (D 6), .ref (D 7), .ref (D 8), .ref (D 9), .ref (D 10), .ref (D 11), .ref (D 12), .ref (D 13), .int (M2.1 8), .int (M2.1 9), .int (M2.1 10)])) := by rw [hE8, up_n (fun q => by cases hX2.2 0 1 (by decide) (by decide) q)]; exact X0_0
      have Y1_0_h8 : h8 (D 1) = some (.inl (gA (xG X) 0, (2000, .inl (upd (M2.2.1 1) ((fdN t (wdV x1 x2 x3 x4 x5) j).2) (nI (fbN ((wdV x1 x2 x3 x4 x5) j) 24)))))) := by rw [hE8]; exact up_s
      refine ww_aload_n C dX4_feed_104 rfl 5 rfl rfl ?_
      refine ww_dup C dX4_feed_105 rfl ?_
      refine gf_X4_72_X4 C dX4_feed_106 (Or.inl X0_0_h8) rfl ?_
      refine ww_iconst C dX4_feed_109 cI_1 ?_
      refine ww_iadd C dX4_feed_110 ?_
      refine pf_X4_72_X4 (fs' := [.int (M2.1 0), .ref (D 1), .int ((M2.1 1) + (nI 1)), .int (M2.1 2), .ref (D 2), .ref (D 3), .ref (D 4), .ref (D 5), .int (M2.1 3), .int (M2.1 4), .int (M2.1 5), .int (M2.1 6), .int (M2.1 7), .ref (D 6), .ref (D 7), .ref (D 8), .ref (D 9), .ref (D 10), .ref (D 11), .ref (D 12), .ref (D 13), .int (M2.1 8), .int (M2.1 9), .int (M2.1 10)]) C dX4_feed_111 X0_0_h8 rfl rfl (Nat.le_of_ble_eq_true rfl) rfl ?_
      refine ww_gen (fun h9 hE9 => ?_)
      have Y1_0_h9 : h9 (D 1) = some (.inl (gA (xG X) 0, (2000, .inl (upd (M2.2.1 1) ((fdN t (wdV x1 x2 x3 x4 x5) j).2) (nI (fbN ((wdV x1 x2 x3 x4 x5) j) 24)))))) := by rw [hE9, up_n (Ne.symm (fun q => by cases hX2.2 0 1 (by decide) (by decide) q))]; exact Y1_0_h8
      have X0_0_h9 : h9 (D 0) = some (.inr (3, [.int (M2.1 0), .ref (D 1), .int ((M2.1 1) + (nI 1)), .int (M2.1 2), .ref (D 2), .ref (D 3), .ref (D 4), .ref (D 5), .int (M2.1 3), .int (M2.1 4), .int (M2.1 5), .int (M2.1 6), .int (M2.1 7), .ref (D 6), .ref (D 7), .ref (D 8), .ref (D 9), .ref (D 10), .ref (D 11), .ref (D 12), .ref (D 13), .int (M2.1 8), .int (M2.1 9), .int (M2.1 10)])) := by rw [hE9]; exact up_s
      refine ww_iinc (lv' := [(11, .int (nI 24 + Int32.ofInt (-8))), (10, .int ((wdV x1 x2 x3 x4 x5) j)), (9, .int (nI j)), (8, .int (nI 5)), (7, .ref ar), (0, .ref (D 0))]) C dX4_feed_114 0 rfl rfl (by decide) rfl ?_
      obtain ⟨M30, hX30, hF30, hQ30, hT30⟩ := fd_step (b := fbN ((wdV x1 x2 x3 x4 x5) j) 24) hX2 hF2 hQ2 hT2 (h2 := h9) (by rw [hE9, hE8]; rfl)
      refine ww_lv (lv' := [(11, .int (nI 16)), (10, .int ((wdV x1 x2 x3 x4 x5) j)), (9, .int (nI j)), (8, .int (nI 5)), (7, .ref ar), (0, .ref (D 0))]) (by rfl) ?_
      refine ww_goto (tgt := 81) C dX4_feed_117 (by decide) ?_
      have hsz : (ptB (fdN t (wdV x1 x2 x3 x4 x5) j) (fbN ((wdV x1 x2 x3 x4 x5) j) 24)).2 < 2000 := by rw [show (ptB (fdN t (wdV x1 x2 x3 x4 x5) j) (fbN ((wdV x1 x2 x3 x4 x5) j) 24)).2 = (fdN t (wdV x1 x2 x3 x4 x5) j).2 + 1 from rfl, hs]; omega
      have X0_1 : h9 (D 0) = some (cMd M30.1 D) := hX30.m
      have Y1_1 : h9 (D 1) = some (cI (xG X) 2000 (M30.2.1 1)) := hX30.1 1 (by decide)
      refine ww_iload C dX4_feed_81 0 rfl ?_
      refine ww_if_lt_n (tgt := 120) C dX4_feed_83 (by decide) (by decide) ?_
      refine ww_aload_n C dX4_feed_86 rfl 5 rfl rfl ?_
      refine gf_X4_9_X4 C dX4_feed_87 (Or.inl X0_1) rfl ?_
      refine ww_aload_n C dX4_feed_90 rfl 5 rfl rfl ?_
      refine gf_X4_72_X4 C dX4_feed_91 (Or.inl X0_1) rfl ?_
      refine ww_st (st' := [.int (nI ((ptB (fdN t (wdV x1 x2 x3 x4 x5) j) (fbN ((wdV x1 x2 x3 x4 x5) j) 24)).2)), .ref (D 1)]) (by rw [hT30.1]) ?_
      refine ww_iload C dX4_feed_94 1 rfl ?_
      refine ww_iload C dX4_feed_96 0 rfl ?_
      refine ww_ishr C dX4_feed_98 ?_
      refine ww_sipush C dX4_feed_99 cS_255 ?_
      refine ww_iand C dX4_feed_102 ?_
      refine ww_st (st' := [.int (nI (fbN ((wdV x1 x2 x3 x4 x5) j) 16)), .int (nI ((ptB (fdN t (wdV x1 x2 x3 x4 x5) j) (fbN ((wdV x1 x2 x3 x4 x5) j) 24)).2)), .ref (D 1)]) (by rw [← fb_e]) ?_
      refine ww_iast C dX4_feed_103 Y1_1 (by omega) (by decide) ?_
      refine ww_gen (fun h10 hE10 => ?_)
      have X0_1_h10 : h10 (D 0) = some (.inr (3, [.int (M30.1 0), .ref (D 1), .int (M30.1 1), .int (M30.1 2), .ref (D 2), .ref (D 3), .ref (D 4), .ref (D 5), .int (M30.1 3), .int (M30.1 4), .int (M30.1 5), .int (M30.1 6), .int (M30.1 7), .ref (D 6), .ref (D 7), .ref (D 8), .ref (D 9), .ref (D 10), .ref (D 11), .ref (D 12), .ref (D 13), .int (M30.1 8), .int (M30.1 9), .int (M30.1 10)])) := by rw [hE10, up_n (fun q => by cases hX30.2 0 1 (by decide) (by decide) q)]; exact X0_1
      have Y1_1_h10 : h10 (D 1) = some (.inl (gA (xG X) 0, (2000, .inl (upd (M30.2.1 1) ((ptB (fdN t (wdV x1 x2 x3 x4 x5) j) (fbN ((wdV x1 x2 x3 x4 x5) j) 24)).2) (nI (fbN ((wdV x1 x2 x3 x4 x5) j) 16)))))) := by rw [hE10]; exact up_s
      refine ww_aload_n C dX4_feed_104 rfl 5 rfl rfl ?_
      refine ww_dup C dX4_feed_105 rfl ?_
      refine gf_X4_72_X4 C dX4_feed_106 (Or.inl X0_1_h10) rfl ?_
      refine ww_iconst C dX4_feed_109 cI_1 ?_
      refine ww_iadd C dX4_feed_110 ?_
      refine pf_X4_72_X4 (fs' := [.int (M30.1 0), .ref (D 1), .int ((M30.1 1) + (nI 1)), .int (M30.1 2), .ref (D 2), .ref (D 3), .ref (D 4), .ref (D 5), .int (M30.1 3), .int (M30.1 4), .int (M30.1 5), .int (M30.1 6), .int (M30.1 7), .ref (D 6), .ref (D 7), .ref (D 8), .ref (D 9), .ref (D 10), .ref (D 11), .ref (D 12), .ref (D 13), .int (M30.1 8), .int (M30.1 9), .int (M30.1 10)]) C dX4_feed_111 X0_1_h10 rfl rfl (Nat.le_of_ble_eq_true rfl) rfl ?_
      refine ww_gen (fun h11 hE11 => ?_)
      have Y1_1_h11 : h11 (D 1) = some (.inl (gA (xG X) 0, (2000, .inl (upd (M30.2.1 1) ((ptB (fdN t (wdV x1 x2 x3 x4 x5) j) (fbN ((wdV x1 x2 x3 x4 x5) j) 24)).2) (nI (fbN ((wdV x1 x2 x3 x4 x5) j) 16)))))) := by rw [hE11, up_n (Ne.symm (fun q => by cases hX30.2 0 1 (by decide) (by decide) q))]; exact Y1_1_h10
      have X0_1_h11 : h11 (D 0) = some (.inr (3, [.int (M30.1 0), .ref (D 1), .int ((M30.1 1) + (nI 1)), .int (M30.1 2), .ref (D 2), .ref (D 3), .ref (D 4), .ref (D 5), .int (M30.1 3), .int (M30.1 4), .int (M30.1 5), .int (M30.1 6), .int (M30.1 7), .ref (D 6), .ref (D 7), .ref (D 8), .ref (D 9), .ref (D 10), .ref (D 11), .ref (D 12), .ref (D 13), .int (M30.1 8), .int (M30.1 9), .int (M30.1 10)])) := by rw [hE11]; exact up_s
      refine ww_iinc (lv' := [(11, .int (nI 16 + Int32.ofInt (-8))), (10, .int ((wdV x1 x2 x3 x4 x5) j)), (9, .int (nI j)), (8, .int (nI 5)), (7, .ref ar), (0, .ref (D 0))]) C dX4_feed_114 0 rfl rfl (by decide) rfl ?_
      obtain ⟨M31, hX31, hF31, hQ31, hT31⟩ := fd_step (b := fbN ((wdV x1 x2 x3 x4 x5) j) 16) hX30 hF30 hQ30 hT30 (h2 := h11) (by rw [hE11, hE10]; rfl)
      refine ww_lv (lv' := [(11, .int (nI 8)), (10, .int ((wdV x1 x2 x3 x4 x5) j)), (9, .int (nI j)), (8, .int (nI 5)), (7, .ref ar), (0, .ref (D 0))]) (by rfl) ?_
      refine ww_goto (tgt := 81) C dX4_feed_117 (by decide) ?_
      have hsz : (ptB (ptB (fdN t (wdV x1 x2 x3 x4 x5) j) (fbN ((wdV x1 x2 x3 x4 x5) j) 24)) (fbN ((wdV x1 x2 x3 x4 x5) j) 16)).2 < 2000 := by rw [show (ptB (ptB (fdN t (wdV x1 x2 x3 x4 x5) j) (fbN ((wdV x1 x2 x3 x4 x5) j) 24)) (fbN ((wdV x1 x2 x3 x4 x5) j) 16)).2 = (fdN t (wdV x1 x2 x3 x4 x5) j).2 + 2 from rfl, hs]; omega
      have X0_2 : h11 (D 0) = some (cMd M31.1 D) := hX31.m
      have Y1_2 : h11 (D 1) = some (cI (xG X) 2000 (M31.2.1 1)) := hX31.1 1 (by decide)
      refine ww_iload C dX4_feed_81 0 rfl ?_
      refine ww_if_lt_n (tgt := 120) C dX4_feed_83 (by decide) (by decide) ?_
      refine ww_aload_n C dX4_feed_86 rfl 5 rfl rfl ?_
      refine gf_X4_9_X4 C dX4_feed_87 (Or.inl X0_2) rfl ?_
      refine ww_aload_n C dX4_feed_90 rfl 5 rfl rfl ?_
      refine gf_X4_72_X4 C dX4_feed_91 (Or.inl X0_2) rfl ?_
      refine ww_st (st' := [.int (nI ((ptB (ptB (fdN t (wdV x1 x2 x3 x4 x5) j) (fbN ((wdV x1 x2 x3 x4 x5) j) 24)) (fbN ((wdV x1 x2 x3 x4 x5) j) 16)).2)), .ref (D 1)]) (by rw [hT31.1]) ?_
      refine ww_iload C dX4_feed_94 1 rfl ?_
      refine ww_iload C dX4_feed_96 0 rfl ?_
      refine ww_ishr C dX4_feed_98 ?_
      refine ww_sipush C dX4_feed_99 cS_255 ?_
      refine ww_iand C dX4_feed_102 ?_
      refine ww_st (st' := [.int (nI (fbN ((wdV x1 x2 x3 x4 x5) j) 8)), .int (nI ((ptB (ptB (fdN t (wdV x1 x2 x3 x4 x5) j) (fbN ((wdV x1 x2 x3 x4 x5) j) 24)) (fbN ((wdV x1 x2 x3 x4 x5) j) 16)).2)), .ref (D 1)]) (by rw [← fb_e]) ?_
      refine ww_iast C dX4_feed_103 Y1_2 (by omega) (by decide) ?_
      refine ww_gen (fun h12 hE12 => ?_)
      have X0_2_h12 : h12 (D 0) = some (.inr (3, [.int (M31.1 0), .ref (D 1), .int (M31.1 1), .int (M31.1 2), .ref (D 2), .ref (D 3), .ref (D 4), .ref (D 5), .int (M31.1 3), .int (M31.1 4), .int (M31.1 5), .int (M31.1 6), .int (M31.1 7), .ref (D 6), .ref (D 7), .ref (D 8), .ref (D 9), .ref (D 10), .ref (D 11), .ref (D 12), .ref (D 13), .int (M31.1 8), .int (M31.1 9), .int (M31.1 10)])) := by rw [hE12, up_n (fun q => by cases hX31.2 0 1 (by decide) (by decide) q)]; exact X0_2
      have Y1_2_h12 : h12 (D 1) = some (.inl (gA (xG X) 0, (2000, .inl (upd (M31.2.1 1) ((ptB (ptB (fdN t (wdV x1 x2 x3 x4 x5) j) (fbN ((wdV x1 x2 x3 x4 x5) j) 24)) (fbN ((wdV x1 x2 x3 x4 x5) j) 16)).2) (nI (fbN ((wdV x1 x2 x3 x4 x5) j) 8)))))) := by rw [hE12]; exact up_s
      refine ww_aload_n C dX4_feed_104 rfl 5 rfl rfl ?_
      refine ww_dup C dX4_feed_105 rfl ?_
      refine gf_X4_72_X4 C dX4_feed_106 (Or.inl X0_2_h12) rfl ?_
      refine ww_iconst C dX4_feed_109 cI_1 ?_
      refine ww_iadd C dX4_feed_110 ?_
      refine pf_X4_72_X4 (fs' := [.int (M31.1 0), .ref (D 1), .int ((M31.1 1) + (nI 1)), .int (M31.1 2), .ref (D 2), .ref (D 3), .ref (D 4), .ref (D 5), .int (M31.1 3), .int (M31.1 4), .int (M31.1 5), .int (M31.1 6), .int (M31.1 7), .ref (D 6), .ref (D 7), .ref (D 8), .ref (D 9), .ref (D 10), .ref (D 11), .ref (D 12), .ref (D 13), .int (M31.1 8), .int (M31.1 9), .int (M31.1 10)]) C dX4_feed_111 X0_2_h12 rfl rfl (Nat.le_of_ble_eq_true rfl) rfl ?_
      refine ww_gen (fun h13 hE13 => ?_)
      have Y1_2_h13 : h13 (D 1) = some (.inl (gA (xG X) 0, (2000, .inl (upd (M31.2.1 1) ((ptB (ptB (fdN t (wdV x1 x2 x3 x4 x5) j) (fbN ((wdV x1 x2 x3 x4 x5) j) 24)) (fbN ((wdV x1 x2 x3 x4 x5) j) 16)).2) (nI (fbN ((wdV x1 x2 x3 x4 x5) j) 8)))))) := by rw [hE13, up_n (Ne.symm (fun q => by cases hX31.2 0 1 (by decide) (by decide) q))]; exact Y1_2_h12
      have X0_2_h13 : h13 (D 0) = some (.inr (3, [.int (M31.1 0), .ref (D 1), .int ((M31.1 1) + (nI 1)), .int (M31.1 2), .ref (D 2), .ref (D 3), .ref (D 4), .ref (D 5), .int (M31.1 3), .int (M31.1 4), .int (M31.1 5), .int (M31.1 6), .int (M31.1 7), .ref (D 6), .ref (D 7), .ref (D 8), .ref (D 9), .ref (D 10), .ref (D 11), .ref (D 12), .ref (D 13), .int (M31.1 8), .int (M31.1 9), .int (M31.1 10)])) := by rw [hE13]; exact up_s
      refine ww_iinc (lv' := [(11, .int (nI 8 + Int32.ofInt (-8))), (10, .int ((wdV x1 x2 x3 x4 x5) j)), (9, .int (nI j)), (8, .int (nI 5)), (7, .ref ar), (0, .ref (D 0))]) C dX4_feed_114 0 rfl rfl (by decide) rfl ?_
      obtain ⟨M32, hX32, hF32, hQ32, hT32⟩ := fd_step (b := fbN ((wdV x1 x2 x3 x4 x5) j) 8) hX31 hF31 hQ31 hT31 (h2 := h13) (by rw [hE13, hE12]; rfl)
      refine ww_lv (lv' := [(11, .int (nI 0)), (10, .int ((wdV x1 x2 x3 x4 x5) j)), (9, .int (nI j)), (8, .int (nI 5)), (7, .ref ar), (0, .ref (D 0))]) (by rfl) ?_
      refine ww_goto (tgt := 81) C dX4_feed_117 (by decide) ?_
      have hsz : (ptB (ptB (ptB (fdN t (wdV x1 x2 x3 x4 x5) j) (fbN ((wdV x1 x2 x3 x4 x5) j) 24)) (fbN ((wdV x1 x2 x3 x4 x5) j) 16)) (fbN ((wdV x1 x2 x3 x4 x5) j) 8)).2 < 2000 := by rw [show (ptB (ptB (ptB (fdN t (wdV x1 x2 x3 x4 x5) j) (fbN ((wdV x1 x2 x3 x4 x5) j) 24)) (fbN ((wdV x1 x2 x3 x4 x5) j) 16)) (fbN ((wdV x1 x2 x3 x4 x5) j) 8)).2 = (fdN t (wdV x1 x2 x3 x4 x5) j).2 + 3 from rfl, hs]; omega
      have X0_3 : h13 (D 0) = some (cMd M32.1 D) := hX32.m
      have Y1_3 : h13 (D 1) = some (cI (xG X) 2000 (M32.2.1 1)) := hX32.1 1 (by decide)
      refine ww_iload C dX4_feed_81 0 rfl ?_
      refine ww_if_lt_n (tgt := 120) C dX4_feed_83 (by decide) (by decide) ?_
      refine ww_aload_n C dX4_feed_86 rfl 5 rfl rfl ?_
      refine gf_X4_9_X4 C dX4_feed_87 (Or.inl X0_3) rfl ?_
      refine ww_aload_n C dX4_feed_90 rfl 5 rfl rfl ?_
      refine gf_X4_72_X4 C dX4_feed_91 (Or.inl X0_3) rfl ?_
      refine ww_st (st' := [.int (nI ((ptB (ptB (ptB (fdN t (wdV x1 x2 x3 x4 x5) j) (fbN ((wdV x1 x2 x3 x4 x5) j) 24)) (fbN ((wdV x1 x2 x3 x4 x5) j) 16)) (fbN ((wdV x1 x2 x3 x4 x5) j) 8)).2)), .ref (D 1)]) (by rw [hT32.1]) ?_
      refine ww_iload C dX4_feed_94 1 rfl ?_
      refine ww_iload C dX4_feed_96 0 rfl ?_
      refine ww_ishr C dX4_feed_98 ?_
      refine ww_sipush C dX4_feed_99 cS_255 ?_
      refine ww_iand C dX4_feed_102 ?_
      refine ww_st (st' := [.int (nI (fbN ((wdV x1 x2 x3 x4 x5) j) 0)), .int (nI ((ptB (ptB (ptB (fdN t (wdV x1 x2 x3 x4 x5) j) (fbN ((wdV x1 x2 x3 x4 x5) j) 24)) (fbN ((wdV x1 x2 x3 x4 x5) j) 16)) (fbN ((wdV x1 x2 x3 x4 x5) j) 8)).2)), .ref (D 1)]) (by rw [← fb_e]) ?_
      refine ww_iast C dX4_feed_103 Y1_3 (by omega) (by decide) ?_
      refine ww_gen (fun h14 hE14 => ?_)
      have X0_3_h14 : h14 (D 0) = some (.inr (3, [.int (M32.1 0), .ref (D 1), .int (M32.1 1), .int (M32.1 2), .ref (D 2), .ref (D 3), .ref (D 4), .ref (D 5), .int (M32.1 3), .int (M32.1 4), .int (M32.1 5), .int (M32.1 6), .int (M32.1 7), .ref (D 6), .ref (D 7), .ref (D 8), .ref (D 9), .ref (D 10), .ref (D 11), .ref (D 12), .ref (D 13), .int (M32.1 8), .int (M32.1 9), .int (M32.1 10)])) := by rw [hE14, up_n (fun q => by cases hX32.2 0 1 (by decide) (by decide) q)]; exact X0_3
      have Y1_3_h14 : h14 (D 1) = some (.inl (gA (xG X) 0, (2000, .inl (upd (M32.2.1 1) ((ptB (ptB (ptB (fdN t (wdV x1 x2 x3 x4 x5) j) (fbN ((wdV x1 x2 x3 x4 x5) j) 24)) (fbN ((wdV x1 x2 x3 x4 x5) j) 16)) (fbN ((wdV x1 x2 x3 x4 x5) j) 8)).2) (nI (fbN ((wdV x1 x2 x3 x4 x5) j) 0)))))) := by rw [hE14]; exact up_s
      refine ww_aload_n C dX4_feed_104 rfl 5 rfl rfl ?_
      refine ww_dup C dX4_feed_105 rfl ?_
      refine gf_X4_72_X4 C dX4_feed_106 (Or.inl X0_3_h14) rfl ?_
      refine ww_iconst C dX4_feed_109 cI_1 ?_
      refine ww_iadd C dX4_feed_110 ?_
      refine pf_X4_72_X4 (fs' := [.int (M32.1 0), .ref (D 1), .int ((M32.1 1) + (nI 1)), .int (M32.1 2), .ref (D 2), .ref (D 3), .ref (D 4), .ref (D 5), .int (M32.1 3), .int (M32.1 4), .int (M32.1 5), .int (M32.1 6), .int (M32.1 7), .ref (D 6), .ref (D 7), .ref (D 8), .ref (D 9), .ref (D 10), .ref (D 11), .ref (D 12), .ref (D 13), .int (M32.1 8), .int (M32.1 9), .int (M32.1 10)]) C dX4_feed_111 X0_3_h14 rfl rfl (Nat.le_of_ble_eq_true rfl) rfl ?_
      refine ww_gen (fun h15 hE15 => ?_)
      have Y1_3_h15 : h15 (D 1) = some (.inl (gA (xG X) 0, (2000, .inl (upd (M32.2.1 1) ((ptB (ptB (ptB (fdN t (wdV x1 x2 x3 x4 x5) j) (fbN ((wdV x1 x2 x3 x4 x5) j) 24)) (fbN ((wdV x1 x2 x3 x4 x5) j) 16)) (fbN ((wdV x1 x2 x3 x4 x5) j) 8)).2) (nI (fbN ((wdV x1 x2 x3 x4 x5) j) 0)))))) := by rw [hE15, up_n (Ne.symm (fun q => by cases hX32.2 0 1 (by decide) (by decide) q))]; exact Y1_3_h14
      have X0_3_h15 : h15 (D 0) = some (.inr (3, [.int (M32.1 0), .ref (D 1), .int ((M32.1 1) + (nI 1)), .int (M32.1 2), .ref (D 2), .ref (D 3), .ref (D 4), .ref (D 5), .int (M32.1 3), .int (M32.1 4), .int (M32.1 5), .int (M32.1 6), .int (M32.1 7), .ref (D 6), .ref (D 7), .ref (D 8), .ref (D 9), .ref (D 10), .ref (D 11), .ref (D 12), .ref (D 13), .int (M32.1 8), .int (M32.1 9), .int (M32.1 10)])) := by rw [hE15]; exact up_s
      refine ww_iinc (lv' := [(11, .int (nI 0 + Int32.ofInt (-8))), (10, .int ((wdV x1 x2 x3 x4 x5) j)), (9, .int (nI j)), (8, .int (nI 5)), (7, .ref ar), (0, .ref (D 0))]) C dX4_feed_114 0 rfl rfl (by decide) rfl ?_
      obtain ⟨M33, hX33, hF33, hQ33, hT33⟩ := fd_step (b := fbN ((wdV x1 x2 x3 x4 x5) j) 0) hX32 hF32 hQ32 hT32 (h2 := h15) (by rw [hE15, hE14]; rfl)
      refine ww_goto (tgt := 81) C dX4_feed_117 (by decide) ?_
      refine ww_iload C dX4_feed_81 0 rfl ?_
      refine ww_if_lt_t (tgt := 120) C dX4_feed_83 (by decide) (by decide) ?_
      refine ww_iinc (lv' := [(9, .int (nI (j + 1))), (11, .int (nI 0 + Int32.ofInt (-8))), (10, .int ((wdV x1 x2 x3 x4 x5) j)), (8, .int (nI 5)), (7, .ref ar), (0, .ref (D 0))]) C dX4_feed_120 2 rfl (inc_n _) (by decide) rfl ?_
      refine ww_goto (tgt := 63) C dX4_feed_123 (by decide) ?_
      refine ww_sub [0, 3, 4, 5] rfl ?_
      exact ih h15 M33 hX33 hF33 hQ33 hT33
  · skip
    refine ww_aload_n C dX4_feed_18 rfl 0 rfl rfl ?_
    refine ww_iconst C dX4_feed_19 cI_1 ?_
    refine cv_X4_254_q (As := [.int (nI 1)]) (rest := []) C dX4_feed_20 (ct_X4_no (Cx.fl C) (Cx.ok C) X1) (rc_X4 (Cx.ok C) (Or.inl X1)) rfl rfl (Nat.le_of_ble_eq_true rfl) (by decide) (Nat.zero_le _) (Nat.zero_le _) (fun v z9 h9 q => ?_)
    obtain ⟨rfl, hq1, hq2⟩ := q; replace hq1 := hq1.symm; subst hq1
    have hfd : (aFd t x1 x2 x3 x4 x5) = ((nI 0, 1), t) := if_neg (by omega)
    exact ww_iret C dX4_feed_23 ⟨by rw [hfd], rfl, (upd M.1 0 (nI 1), M.2), ⟨fun j hj => upd_ne (by omega), fun _ _ => rfl, rfl⟩, by rw [hfd]; exact ⟨hv.1, hv.2⟩, by rw [hfd]; rfl, by rw [hq2, hE1, up_up, upd_upd]; exact hX.thr _, by rw [hq2]; exact FrD.w hF1 (i := 0) (by decide)⟩
end MO28
