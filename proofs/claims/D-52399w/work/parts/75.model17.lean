section MO17
set_option maxRecDepth 100000
def frB (x : Int32) : Bool := decide (nI 1 ≤ x) && decide (x ≤ nI 20)
theorem frB_t {x : Int32} (h : frB x = true) : ∃ c, 1 ≤ c ∧ c ≤ 20 ∧ x = nI c := by
  unfold frB at h
  rw [Bool.and_eq_true, decide_eq_true_eq, decide_eq_true_eq, Int32.le_iff_toInt_le, Int32.le_iff_toInt_le] at h
  have e1 : (nI 1).toInt = 1 := rfl
  have e2 : (nI 20).toInt = 20 := rfl
  rw [e1, e2] at h
  refine ⟨x.toInt.toNat, by omega, by omega, ?_⟩
  apply Int32.toInt_inj.mp
  rw [nI_toInt (by omega)]
  omega
theorem nI_nat {c : Nat} (h : c < 2 ^ 31) : (nI c).toNatClampNeg = c := by
  show (nI c).toInt.toNat = c
  rw [nI_toInt h]; rfl
theorem nI_lt1 {a b : Nat} (h : b < a) (ha : a < 2 ^ 31) : nI b < nI a := (nI_ltI (by omega) ha).mpr h
theorem nI_nl2 {a b : Nat} (h : a ≤ b) (hb : b < 2 ^ 31) : ¬ nI b < nI a := fun q => absurd ((nI_ltI hb (by omega)).mp q) (by omega)
/-- all but the board's state and the rounds stays -/
def Mgw (M M' : MS) : Prop := (∀ j, (j = 1 ∨ j = 2 ∨ (20 ≤ j ∧ j < 25)) → M'.1 j = M.1 j) ∧ ∀ i, (i = 1 ∨ (20 ≤ i ∧ i < 30)) → M'.2.1 i = M.2.1 i
theorem Mgw.rf {M : MS} : Mgw M M := ⟨fun _ _ => rfl, fun _ _ => rfl⟩
theorem Mgw.thr {M M1 : MS} (a : Mgw M M1) {v : Int32} : Mgw M (upd M1.1 0 v, M1.2) := ⟨fun j hj => (upd_ne (by omega)).trans (a.1 j hj), a.2⟩
theorem Mgw.sr {M M1 M2 : MS} (a : Mgw M M1) (b : Msr 30 40 M1 M2) : Mgw M M2 := ⟨fun j hj => (b.1 j (by omega) (by omega)).trans (a.1 j hj), fun i hi => (b.2 i (by omega) (by omega) (by omega) (by omega)).trans (a.2 i hi)⟩
theorem TdP.gw {M M' : MS} {T : TD} (h : TdP M T) (hs : Mgw M M') : TdP M' T := by
  obtain ⟨h1, h2, h3, h4, h5⟩ := h
  refine ⟨(hs.1 23 (by omega)).trans h1, fun i k hi hk => ?_, fun k p hk hd hp => ?_, fun k hk => ?_, fun i k hi hk => ?_⟩
  · rw [hs.2 i (by omega)]; exact h2 i k hi hk
  · rw [hs.2 25 (by omega)]; exact h3 k p hk hd hp
  · rw [hs.2 26 (by omega)]; exact h4 k hk
  · rw [hs.2 i (by omega)]; exact h5 i k hi hk
/-- ahead alone has changed -/
def Mah (M M' : MS) : Prop := (∀ j, (j = 1 ∨ j = 2 ∨ (20 ≤ j ∧ j < 25) ∨ j = 30 ∨ j = 31) → M'.1 j = M.1 j) ∧ ∀ i, (i = 1 ∨ (20 ≤ i ∧ i < 30) ∨ (40 ≤ i ∧ i < 43)) → M'.2.1 i = M.2.1 i
theorem Mah.ag {M M' : MS} (a : Mah M M') : Mag M M' := a
theorem Mah.sr {M M1 M2 : MS} (a : Mah M M1) (b : Msr 32 43 M1 M2) : Mah M M2 := ⟨fun j hj => (b.1 j (by omega) (by omega)).trans (a.1 j hj), fun i hi => (b.2 i (by omega) (by omega) (by omega) (by omega)).trans (a.2 i hi)⟩
theorem Mah.bec {M : MS} : Mah M (becS (upd M.1 0 (nI 0), M.2)) := by
  refine ⟨fun j hj => ?_, fun i hi => ?_⟩
  · show upd (upd (upd M.1 0 _) 32 _) 33 _ j = _; rw [upd_ne (by omega), upd_ne (by omega), upd_ne (by omega)]
  · show va_up (va_up (va_up M.2.1 43 _) 44 _) 45 _ i = _; rw [va_ne (by omega), va_ne (by omega), va_ne (by omega)]
theorem TdP.ah {M M' : MS} {T : TD} (h : TdP M T) (hs : Mah M M') : TdP M' T := h.gw ⟨fun j hj => hs.1 j (by omega), fun i hi => hs.2 i (by omega)⟩
theorem TdP.bec {M : MS} {T : TD} (h : TdP M T) : TdP (becS M) T := by
  refine h.gw ⟨fun j hj => ?_, fun i hi => ?_⟩
  · show upd (upd M.1 32 _) 33 _ j = _; rw [upd_ne (by omega), upd_ne (by omega)]
  · show va_up (va_up (va_up M.2.1 43 _) 44 _) 45 _ i = _; rw [va_ne (by omega), va_ne (by omega), va_ne (by omega)]
theorem MBd.bec {M : MS} {B : GB} (h : MBd M 30 40 B) : MBd (becS M) 32 43 B := by
  obtain ⟨h1, h2, h3, h4, h5, h6, h7, h8⟩ := h
  exact ⟨h1, h2, h3, h4, h5, h6, h7, h8⟩
def Mw (Γ : Gm) (z : ZR) (h : AH) (D : Nat → Nat) (M : MS) (B' : GB) (rn' : Int32) (q : Int32 × Nat) : Value → ZR → AH → Prop := fun v z' h' => v = .int q.1 ∧ z' = z ∧ ∃ M', Mgw M M' ∧ MBd M' 30 40 B' ∧ M'.1 31 = rn' ∧ M'.1 0 = nI q.2 ∧ Mx Γ h' D M' ∧ FrD h h' D
theorem Mw.of {Γ : Gm} {z : ZR} {h h' : AH} {D : Nat → Nat} {M : MS} {B B' : GB} {rn' : Int32} {q : Int32 × Nat} {x : Int32} (hX : Mx Γ h D M) (hb : MBd M 30 40 B) (hB : B' = B) (hr : rn' = M.1 31) (h1 : x = q.1) (h2 : h' = up h (D 0) (cMd (upd M.1 0 (nI q.2)) D)) : Mw Γ z h D M B' rn' q (.int x) z h' := by
  subst h2; subst hB; subst hr
  exact ⟨by rw [h1], rfl, (upd M.1 0 (nI q.2), M.2), Mgw.rf.thr, hb.thr, rfl, rfl, hX.thr _, FrD.rf.w (by decide)⟩
/-- rounds that are played: the answer, the board, the rounds -/
def uPla (T : TD) (B : GB) (rn x : Int32) : (Int32 × Nat) × GB × Int32 := match frB x with
  | false => ((nI 0, 1), B, rn)
  | true => ((nI (plN_ T B rn x.toNatClampNeg).1, 0), (plN_ T B rn x.toNatClampNeg).2, rn + x)
def aPAf (T : TD) (B : GB) (rn x : Int32) : Int32 × Nat := match frB x with
  | false => (nI 0, 1)
  | true => (nI (poN (plN_ T B rn x.toNatClampNeg).2), 0)
def ruN (T : TD) (B : GB) (rn : Int32) : Option Nat := ff (fun k => decide (0 < rgN (plN_ T B rn k).2)) 21 0
set_option maxHeartbeats 2000000 in
theorem ct_X4_playRounds {l : Launch} {Γ : Gm} (hl : l.flags = flags0) (hΓ : GOK Γ) {z : ZR} {h : AH} {B : GB} {M : MS} {D : Nat → Nat} {T : TD} {x : Int32} (hz : zle (cst Γ) z) (hX : Mx Γ h D M) (hb : MBd M 30 40 B) (hC : BC B) (hT : TdP M T) (hS : TdS B T) (hR : TdR T) : Ct l Γ yX4_playRounds cX4_playRounds 4 (some .int) 11 0 0 [.ref (D 0), .int x] z h (Rv (Mw Γ z h D M (uPla T B (M.1 31) x).2.1 (uPla T B (M.1 31) x).2.2 (uPla T B (M.1 31) x).1)) := by
  refine Ct.of hl hΓ (by decide +kernel) (Nat.le_of_ble_eq_true rfl) (fun X e1 e2 C => ?_)
  subst e1; subst e2
  have C : Cx X cX4_playRounds 4 "RingDominoModel" "playRounds" (some .int) [] 11 := C
  show WW X (Rv (Mw (xG X) z h D M (uPla T B (M.1 31) x).2.1 (uPla T B (M.1 31) x).2.2 (uPla T B (M.1 31) x).1)) z h 0 0 0 [(0, .ref (D 0)), (1, .int x)] []
  have X0 : h (D 0) = some (cMd M.1 D) := hX.m
  refine ww_aload_n C dX4_playRounds_0 rfl 0 rfl rfl ?_
  refine ww_iconst C dX4_playRounds_1 cI_0 ?_
  refine pf_X4_65_X4 (fs' := [.int (nI 0), .ref (D 1), .int (M.1 1), .int (M.1 2), .ref (D 2), .ref (D 3), .ref (D 4), .ref (D 5), .int (M.1 3), .int (M.1 4), .int (M.1 5), .int (M.1 6), .int (M.1 7), .ref (D 6), .ref (D 7), .ref (D 8), .ref (D 9), .ref (D 10), .ref (D 11), .ref (D 12), .ref (D 13), .int (M.1 8), .int (M.1 9), .int (M.1 10)]) C dX4_playRounds_2 X0 rfl rfl (Nat.le_of_ble_eq_true rfl) rfl ?_
  refine ww_gen (fun h1 hE1 => ?_)
  have X0_h1 : h1 (D 0) = some (.inr (3, [.int (nI 0), .ref (D 1), .int (M.1 1), .int (M.1 2), .ref (D 2), .ref (D 3), .ref (D 4), .ref (D 5), .int (M.1 3), .int (M.1 4), .int (M.1 5), .int (M.1 6), .int (M.1 7), .ref (D 6), .ref (D 7), .ref (D 8), .ref (D 9), .ref (D 10), .ref (D 11), .ref (D 12), .ref (D 13), .int (M.1 8), .int (M.1 9), .int (M.1 10)])) := by rw [hE1]; exact up_s
  have hX0 : Mx (xG X) h1 D (upd M.1 0 (nI 0), M.2) := by rw [hE1]; exact hX.thr _
  have hF0 : FrD h h1 D := by rw [hE1]; exact FrD.w FrD.rf (i := 0) (by decide)
  have hb0 : MBd (upd M.1 0 (nI 0), M.2) 30 40 B := hb.thr
  have hT0 : TdP (upd M.1 0 (nI 0), M.2) T := hT
  have X0a : h1 (D 0) = some (cMd (upd M.1 0 (nI 0), M.2).1 D) := hX0.m
  have X10a : h1 (D 10) = some (cSt (fun i => D (40 + i)) ((upd M.1 0 (nI 0), M.2).1 30) ((upd M.1 0 (nI 0), M.2).1 31)) := hX0.1 10 (by decide)
  have X11a : h1 (D 11) = some (cSt (fun i => D (43 + i)) ((upd M.1 0 (nI 0), M.2).1 32) ((upd M.1 0 (nI 0), M.2).1 33)) := hX0.1 11 (by decide)
  refine ww_iload_n C dX4_playRounds_5 rfl 1 rfl ?_
  refine ww_iconst C dX4_playRounds_6 cI_1 ?_
  refine ww_bipush C dX4_playRounds_7 cB_20 ?_
  refine cs_X4_68_r (As := [.int x, .int (nI 1), .int (nI 20)]) (rest := []) C dX4_playRounds_9 (ct_X4_isIn (Cx.fl C) (Cx.ok C)) rfl rfl (Nat.le_of_ble_eq_true rfl) (by decide) (Nat.zero_le _) (Nat.zero_le _) ?_
  refine ww_if_ne_b (tgt := 21) C dX4_playRounds_12 (by decide) (fun c_12 => ?_) (fun c_12 => ?_)
  · skip
    have c_12 : frB x = true := c_12
    obtain ⟨c, hc1, hc2, rfl⟩ := frB_t c_12
    have hcn : (nI c).toNatClampNeg = c := nI_nat (by omega)
    have hu : uPla T B (M.1 31) (nI c) = ((nI (plN_ T B (M.1 31) c).1, 0), (plN_ T B (M.1 31) c).2, M.1 31 + nI c) := by unfold uPla; rw [c_12, hcn]
    refine ww_iconst C dX4_playRounds_21 cI_0 ?_
    refine ww_istore_n (lv' := [(2, .int (nI 0)), (0, .ref (D 0)), (1, .int (nI c))]) C dX4_playRounds_22 rfl (by decide) rfl ?_
    refine ww_iconst C dX4_playRounds_23 cI_0 ?_
    refine ww_istore_n (lv' := [(3, .int (nI 0)), (2, .int (nI 0)), (0, .ref (D 0)), (1, .int (nI c))]) C dX4_playRounds_24 rfl (by decide) rfl ?_
    refine loop_up (N := c) (M := fun k => ∀ (M1 : MS) (h1 : AH), (Mgw M M1) → (MBd M1 30 40 (plN_ T B (M.1 31) k).2) → (M1.1 31 = M.1 31 + nI k) → (M1.1 0 = nI 0) → (Mx (xG X) h1 D M1) → (FrD h h1 D) → WW X (Rv (Mw (xG X) z h D M (uPla T B (M.1 31) (nI c)).2.1 (uPla T B (M.1 31) (nI c)).2.2 (uPla T B (M.1 31) (nI c)).1)) z h1 0 0 25 [(3, .int (nI k)), (2, .int (nI ((plN_ T B (M.1 31) k).1))), (0, .ref (D 0)), (1, .int (nI c))] []) ?_ ?_ 0 (Nat.zero_le _) _ _ Mgw.rf.thr hb0 (by rw [show nI 0 = 0 from rfl, Int32.add_zero]; rfl) rfl hX0 hF0
    · intro M1 h1 hm hb1 hr1 ht1 hX1 hF1
      show WW X (Rv (Mw (xG X) z h D M (uPla T B (M.1 31) (nI c)).2.1 (uPla T B (M.1 31) (nI c)).2.2 (uPla T B (M.1 31) (nI c)).1)) z h1 0 0 25 [(3, .int (nI c)), (2, .int (nI ((plN_ T B (M.1 31) c).1))), (0, .ref (D 0)), (1, .int (nI c))] []
      refine ww_iload_n C dX4_playRounds_25 rfl 0 rfl ?_
      refine ww_iload_n C dX4_playRounds_26 rfl 3 rfl ?_
      refine ww_icmp_ge_t (tgt := 47) C dX4_playRounds_27 (by decide) (nI_le (Nat.le_refl _) (by omega)) ?_
      refine ww_iload_n C dX4_playRounds_47 rfl 1 rfl ?_
      exact ww_iret C dX4_playRounds_48 ⟨by rw [hu], rfl, M1, hm, by rw [hu]; exact hb1, by rw [hu]; exact hr1, by rw [hu]; exact ht1, hX1, hF1⟩
    · intro k hi ih M1 h1 hm hb1 hr1 ht1 hX1 hF1
      show WW X (Rv (Mw (xG X) z h D M (uPla T B (M.1 31) (nI c)).2.1 (uPla T B (M.1 31) (nI c)).2.2 (uPla T B (M.1 31) (nI c)).1)) z h1 0 0 25 [(3, .int (nI k)), (2, .int (nI ((plN_ T B (M.1 31) k).1))), (0, .ref (D 0)), (1, .int (nI c))] []
      obtain ⟨p1, p2, p3, p4⟩ := plN_ok hC (rn := M.1 31) hS k
      have hT1 : TdP M1 T := hT.gw hm
      refine ww_iload_n C dX4_playRounds_25 rfl 0 rfl ?_
      refine ww_iload_n C dX4_playRounds_26 rfl 3 rfl ?_
      refine ww_icmp_ge_f (tgt := 47) C dX4_playRounds_27 (by decide) (nI_ge hi (by omega)) ?_
      have X0 : h1 (D 0) = some (cMd M1.1 D) := hX1.m
      refine ww_iload_n C dX4_playRounds_30 rfl 1 rfl ?_
      refine ww_aload_n C dX4_playRounds_31 rfl 2 rfl rfl ?_
      refine ww_aload_n C dX4_playRounds_32 rfl 2 rfl rfl ?_
      refine gf_X4_48_X4 C dX4_playRounds_33 (Or.inl X0) rfl ?_
      refine cv_X4_412_q (As := [.ref (D 10)]) (rest := [.int (nI ((plN_ T B (M.1 31) k).1))]) C dX4_playRounds_36 (ct_X4_play (Cx.fl C) (Cx.ok C) hz hX1 hb1 p1 hT1 (hS.c p2) hR) (rc_X4 (Cx.ok C) (Or.inl X0)) rfl rfl (Nat.le_of_ble_eq_true rfl) (by decide) (Nat.zero_le _) (Nat.zero_le _) (fun v z9 h9 q => ?_)
      rw [hr1] at q
      obtain ⟨rfl, hq1, M2, hq2, hq3, hq4, hX2, hF2⟩ := q; replace hq1 := hq1.symm; subst hq1
      refine ww_iaddn C dX4_playRounds_39 ?_
      refine ww_istore_n (lv' := [(2, .int (nI (((plN_ T B (M.1 31) k).1) + ((plR (plN_ T B (M.1 31) k).2 (M.1 31 + nI k) T T.1.1).1)))), (3, .int (nI k)), (0, .ref (D 0)), (1, .int (nI c))]) C dX4_playRounds_40 rfl (by decide) rfl ?_
      refine ww_iinc (lv' := [(3, .int (nI (k + 1))), (2, .int (nI (((plN_ T B (M.1 31) k).1) + ((plR (plN_ T B (M.1 31) k).2 (M.1 31 + nI k) T T.1.1).1)))), (0, .ref (D 0)), (1, .int (nI c))]) C dX4_playRounds_41 1 rfl (inc_n _) (by decide) rfl ?_
      refine ww_goto (tgt := 25) C dX4_playRounds_44 (by decide) ?_
      exact ih M2 h9 (hm.sr hq2) hq3 (by rw [hq4, ← nI_1 k, Int32.add_assoc]; rfl) ((hq2.1 0 (by decide) (by decide)).trans ht1) hX2 (hF1.tr hF2)
  · skip
    have c_12 : frB x = false := c_12
    refine ww_aload_n C dX4_playRounds_15 rfl 0 rfl rfl ?_
    refine ww_iconst C dX4_playRounds_16 cI_1 ?_
    refine cv_X4_254_q (As := [.int (nI 1)]) (rest := []) C dX4_playRounds_17 (ct_X4_no (Cx.fl C) (Cx.ok C) X0a) (rc_X4 (Cx.ok C) (Or.inl X0a)) rfl rfl (Nat.le_of_ble_eq_true rfl) (by decide) (Nat.zero_le _) (Nat.zero_le _) (fun v z9 h9 q => ?_)
    obtain ⟨rfl, hq1, hq2⟩ := q; replace hq1 := hq1.symm; subst hq1
    exact ww_iret C dX4_playRounds_20 (Mw.of hX hb (by unfold uPla; rw [c_12]) (by unfold uPla; rw [c_12]) (by unfold uPla; rw [c_12]) (by rw [hq2, hE1, up_up, upd_upd]; unfold uPla; rw [c_12]))
set_option maxHeartbeats 2000000 in
theorem ct_X4_pointsAfter {l : Launch} {Γ : Gm} (hl : l.flags = flags0) (hΓ : GOK Γ) {z : ZR} {h : AH} {B : GB} {M : MS} {D : Nat → Nat} {T : TD} {x : Int32} (hz : zle (cst Γ) z) (hX : Mx Γ h D M) (hb : MBd M 30 40 B) (hC : BC B) (hT : TdP M T) (hS : TdS B T) (hR : TdR T) : Ct l Γ yX4_pointsAfter cX4_pointsAfter 3 (some .int) 11 0 0 [.ref (D 0), .int x] z h (Rv (Mq Γ z h D M (aPAf T B (M.1 31) x))) := by
  refine Ct.of hl hΓ (by decide +kernel) (Nat.le_of_ble_eq_true rfl) (fun X e1 e2 C => ?_)
  subst e1; subst e2
  have C : Cx X cX4_pointsAfter 3 "RingDominoModel" "pointsAfter" (some .int) [] 11 := C
  show WW X (Rv (Mq (xG X) z h D M (aPAf T B (M.1 31) x))) z h 0 0 0 [(0, .ref (D 0)), (1, .int x)] []
  have X0 : h (D 0) = some (cMd M.1 D) := hX.m
  refine ww_aload_n C dX4_pointsAfter_0 rfl 0 rfl rfl ?_
  refine ww_iconst C dX4_pointsAfter_1 cI_0 ?_
  refine pf_X4_65_X4 (fs' := [.int (nI 0), .ref (D 1), .int (M.1 1), .int (M.1 2), .ref (D 2), .ref (D 3), .ref (D 4), .ref (D 5), .int (M.1 3), .int (M.1 4), .int (M.1 5), .int (M.1 6), .int (M.1 7), .ref (D 6), .ref (D 7), .ref (D 8), .ref (D 9), .ref (D 10), .ref (D 11), .ref (D 12), .ref (D 13), .int (M.1 8), .int (M.1 9), .int (M.1 10)]) C dX4_pointsAfter_2 X0 rfl rfl (Nat.le_of_ble_eq_true rfl) rfl ?_
  refine ww_gen (fun h1 hE1 => ?_)
  have X0_h1 : h1 (D 0) = some (.inr (3, [.int (nI 0), .ref (D 1), .int (M.1 1), .int (M.1 2), .ref (D 2), .ref (D 3), .ref (D 4), .ref (D 5), .int (M.1 3), .int (M.1 4), .int (M.1 5), .int (M.1 6), .int (M.1 7), .ref (D 6), .ref (D 7), .ref (D 8), .ref (D 9), .ref (D 10), .ref (D 11), .ref (D 12), .ref (D 13), .int (M.1 8), .int (M.1 9), .int (M.1 10)])) := by rw [hE1]; exact up_s
  have hX0 : Mx (xG X) h1 D (upd M.1 0 (nI 0), M.2) := by rw [hE1]; exact hX.thr _
  have hF0 : FrD h h1 D := by rw [hE1]; exact FrD.w FrD.rf (i := 0) (by decide)
  have hb0 : MBd (upd M.1 0 (nI 0), M.2) 30 40 B := hb.thr
  have hT0 : TdP (upd M.1 0 (nI 0), M.2) T := hT
  have X0a : h1 (D 0) = some (cMd (upd M.1 0 (nI 0), M.2).1 D) := hX0.m
  have X10a : h1 (D 10) = some (cSt (fun i => D (40 + i)) ((upd M.1 0 (nI 0), M.2).1 30) ((upd M.1 0 (nI 0), M.2).1 31)) := hX0.1 10 (by decide)
  have X11a : h1 (D 11) = some (cSt (fun i => D (43 + i)) ((upd M.1 0 (nI 0), M.2).1 32) ((upd M.1 0 (nI 0), M.2).1 33)) := hX0.1 11 (by decide)
  refine ww_iload_n C dX4_pointsAfter_5 rfl 1 rfl ?_
  refine ww_iconst C dX4_pointsAfter_6 cI_1 ?_
  refine ww_bipush C dX4_pointsAfter_7 cB_20 ?_
  refine cs_X4_68_r (As := [.int x, .int (nI 1), .int (nI 20)]) (rest := []) C dX4_pointsAfter_9 (ct_X4_isIn (Cx.fl C) (Cx.ok C)) rfl rfl (Nat.le_of_ble_eq_true rfl) (by decide) (Nat.zero_le _) (Nat.zero_le _) ?_
  refine ww_if_ne_b (tgt := 21) C dX4_pointsAfter_12 (by decide) (fun c_12 => ?_) (fun c_12 => ?_)
  · skip
    have c_12 : frB x = true := c_12
    obtain ⟨c, hc1, hc2, rfl⟩ := frB_t c_12
    have hcn : (nI c).toNatClampNeg = c := nI_nat (by omega)
    have hu : aPAf T B (M.1 31) (nI c) = (nI (poN (plN_ T B (M.1 31) c).2), 0) := by unfold aPAf; rw [c_12, hcn]
    refine ww_aload_n C dX4_pointsAfter_21 rfl 0 rfl rfl ?_
    refine gf_X4_52_X4 C dX4_pointsAfter_22 (Or.inl X0a) rfl ?_
    refine ww_aload_n C dX4_pointsAfter_25 rfl 0 rfl rfl ?_
    refine gf_X4_48_X4 C dX4_pointsAfter_26 (Or.inl X0a) rfl ?_
    refine cv_X4_415_q (As := [.ref (D 10)]) (rest := []) C dX4_pointsAfter_29 (ct_X6_become (Cx.fl C) (Cx.ok C) hX0) (rc_X6 (Cx.ok C) (Or.inl X11a)) rfl rfl (Nat.le_of_ble_eq_true rfl) (by decide) (Nat.zero_le _) (Nat.zero_le _) (fun z9 h9 q => ?_)
    obtain ⟨hq1, hXa, hFa⟩ := q; replace hq1 := hq1.symm; subst hq1
    have hba : MBd (becS (upd M.1 0 (nI 0), M.2)) 32 43 B := hb0.bec
    have hTa : TdP (becS (upd M.1 0 (nI 0), M.2)) T := hT0.bec
    refine ww_iconst C dX4_pointsAfter_32 cI_0 ?_
    refine ww_istore_n (lv' := [(2, .int (nI 0)), (0, .ref (D 0)), (1, .int (nI c))]) C dX4_pointsAfter_33 rfl (by decide) rfl ?_
    refine loop_up (N := c) (M := fun k => ∀ (M1 : MS) (h1 : AH), (Mah M M1) → (MBd M1 32 43 (plN_ T B (M.1 31) k).2) → (M1.1 33 = M.1 31 + nI k) → (M1.1 0 = nI 0) → (Mx (xG X) h1 D M1) → (FrD h h1 D) → WW X (Rv (Mq (xG X) z h D M (aPAf T B (M.1 31) (nI c)))) z h1 0 0 34 [(2, .int (nI k)), (0, .ref (D 0)), (1, .int (nI c))] []) ?_ ?_ 0 (Nat.zero_le _) _ _ Mah.bec hba (by rw [show nI 0 = 0 from rfl, Int32.add_zero]; rfl) rfl hXa (hF0.tr hFa)
    · intro M1 h1 hm hb1 hr1 ht1 hX1 hF1
      show WW X (Rv (Mq (xG X) z h D M (aPAf T B (M.1 31) (nI c)))) z h1 0 0 34 [(2, .int (nI c)), (0, .ref (D 0)), (1, .int (nI c))] []
      obtain ⟨p1, p2, p3, p4⟩ := plN_ok hC (rn := M.1 31) hS c
      refine ww_iload_n C dX4_pointsAfter_34 rfl 0 rfl ?_
      refine ww_iload_n C dX4_pointsAfter_35 rfl 2 rfl ?_
      refine ww_icmp_ge_t (tgt := 54) C dX4_pointsAfter_36 (by decide) (nI_le (Nat.le_refl _) (by omega)) ?_
      have X0 : h1 (D 0) = some (cMd M1.1 D) := hX1.m
      refine ww_aload_n C dX4_pointsAfter_54 rfl 1 rfl rfl ?_
      refine ww_aload_n C dX4_pointsAfter_55 rfl 1 rfl rfl ?_
      refine gf_X4_52_X4 C dX4_pointsAfter_56 (Or.inl X0) rfl ?_
      have hP1 : MrP (xG X) z h1 (D 0) (D 11) (plN_ T B (M.1 31) c).2 := ⟨_, D, Or.inl X0, Mx.a hX1 hb1⟩
      refine cv_X4_349_r (As := [.ref (D 11)]) (rest := []) C dX4_pointsAfter_59 (ct_X4_points_2 (Cx.fl C) (Cx.ok C) hz hP1 p1) (rc_X4 (Cx.ok C) (Or.inl X0)) rfl rfl (Nat.le_of_ble_eq_true rfl) (by decide) (Nat.zero_le _) (Nat.zero_le _) ?_
      exact ww_iret C dX4_pointsAfter_62 ⟨by rw [hu], rfl, M1, hm.ag, by rw [hu]; exact ht1, hX1, hF1⟩
    · intro k hi ih M1 h1 hm hb1 hr1 ht1 hX1 hF1
      show WW X (Rv (Mq (xG X) z h D M (aPAf T B (M.1 31) (nI c)))) z h1 0 0 34 [(2, .int (nI k)), (0, .ref (D 0)), (1, .int (nI c))] []
      obtain ⟨p1, p2, p3, p4⟩ := plN_ok hC (rn := M.1 31) hS k
      refine ww_iload_n C dX4_pointsAfter_34 rfl 0 rfl ?_
      refine ww_iload_n C dX4_pointsAfter_35 rfl 2 rfl ?_
      refine ww_icmp_ge_f (tgt := 54) C dX4_pointsAfter_36 (by decide) (nI_ge hi (by omega)) ?_
      have hT1 : TdP M1 T := hT.ah hm
      have X0 : h1 (D 0) = some (cMd M1.1 D) := hX1.m
      refine ww_aload_n C dX4_pointsAfter_39 rfl 1 rfl rfl ?_
      refine ww_aload_n C dX4_pointsAfter_40 rfl 1 rfl rfl ?_
      refine gf_X4_52_X4 C dX4_pointsAfter_41 (Or.inl X0) rfl ?_
      refine cv_X4_412_q (As := [.ref (D 11)]) (rest := []) C dX4_pointsAfter_44 (ct_X4_play_a (Cx.fl C) (Cx.ok C) hz hX1 hb1 p1 hT1 (hS.c p2) hR) (rc_X4 (Cx.ok C) (Or.inl X0)) rfl rfl (Nat.le_of_ble_eq_true rfl) (by decide) (Nat.zero_le _) (Nat.zero_le _) (fun v z9 h9 q => ?_)
      rw [hr1] at q
      obtain ⟨rfl, hq1, M2, hq2, hq3, hq4, hX2, hF2⟩ := q; replace hq1 := hq1.symm; subst hq1
      refine ww_pop C dX4_pointsAfter_47 rfl ?_
      refine ww_iinc (lv' := [(2, .int (nI (k + 1))), (0, .ref (D 0)), (1, .int (nI c))]) C dX4_pointsAfter_48 0 rfl (inc_n _) (by decide) rfl ?_
      refine ww_goto (tgt := 34) C dX4_pointsAfter_51 (by decide) ?_
      exact ih M2 h9 (hm.sr hq2) hq3 (by rw [hq4, ← nI_1 k, Int32.add_assoc]; rfl) ((hq2.1 0 (by decide) (by decide)).trans ht1) hX2 (hF1.tr hF2)
  · skip
    have c_12 : frB x = false := c_12
    refine ww_aload_n C dX4_pointsAfter_15 rfl 0 rfl rfl ?_
    refine ww_iconst C dX4_pointsAfter_16 cI_1 ?_
    refine cv_X4_254_q (As := [.int (nI 1)]) (rest := []) C dX4_pointsAfter_17 (ct_X4_no (Cx.fl C) (Cx.ok C) X0a) (rc_X4 (Cx.ok C) (Or.inl X0a)) rfl rfl (Nat.le_of_ble_eq_true rfl) (by decide) (Nat.zero_le _) (Nat.zero_le _) (fun v z9 h9 q => ?_)
    obtain ⟨rfl, hq1, hq2⟩ := q; replace hq1 := hq1.symm; subst hq1
    exact ww_iret C dX4_pointsAfter_20 (Mq.of hX (by unfold aPAf; rw [c_12]) (by rw [hq2, hE1, up_up, upd_upd]; unfold aPAf; rw [c_12]))
set_option maxHeartbeats 2000000 in
theorem ct_X4_roundsUntilRing {l : Launch} {Γ : Gm} (hl : l.flags = flags0) (hΓ : GOK Γ) {z : ZR} {h : AH} {B : GB} {M : MS} {D : Nat → Nat} {T : TD} (hz : zle (cst Γ) z) (hX : Mx Γ h D M) (hb : MBd M 30 40 B) (hC : BC B) (hT : TdP M T) (hS : TdS B T) (hR : TdR T) : Ct l Γ yX4_roundsUntilRing cX4_roundsUntilRing 2 (some .int) 11 0 0 [.ref (D 0)] z h (Rv (Mq Γ z h D M (oI (ruN T B (M.1 31)), 0))) := by
  refine Ct.of hl hΓ (by decide +kernel) (Nat.le_of_ble_eq_true rfl) (fun X e1 e2 C => ?_)
  subst e1; subst e2
  have C : Cx X cX4_roundsUntilRing 2 "RingDominoModel" "roundsUntilRing" (some .int) [] 11 := C
  show WW X (Rv (Mq (xG X) z h D M (oI (ruN T B (M.1 31)), 0))) z h 0 0 0 [(0, .ref (D 0))] []
  have X0 : h (D 0) = some (cMd M.1 D) := hX.m
  refine ww_aload_n C dX4_roundsUntilRing_0 rfl 0 rfl rfl ?_
  refine ww_iconst C dX4_roundsUntilRing_1 cI_0 ?_
  refine pf_X4_65_X4 (fs' := [.int (nI 0), .ref (D 1), .int (M.1 1), .int (M.1 2), .ref (D 2), .ref (D 3), .ref (D 4), .ref (D 5), .int (M.1 3), .int (M.1 4), .int (M.1 5), .int (M.1 6), .int (M.1 7), .ref (D 6), .ref (D 7), .ref (D 8), .ref (D 9), .ref (D 10), .ref (D 11), .ref (D 12), .ref (D 13), .int (M.1 8), .int (M.1 9), .int (M.1 10)]) C dX4_roundsUntilRing_2 X0 rfl rfl (Nat.le_of_ble_eq_true rfl) rfl ?_
  refine ww_gen (fun h1 hE1 => ?_)
  have X0_h1 : h1 (D 0) = some (.inr (3, [.int (nI 0), .ref (D 1), .int (M.1 1), .int (M.1 2), .ref (D 2), .ref (D 3), .ref (D 4), .ref (D 5), .int (M.1 3), .int (M.1 4), .int (M.1 5), .int (M.1 6), .int (M.1 7), .ref (D 6), .ref (D 7), .ref (D 8), .ref (D 9), .ref (D 10), .ref (D 11), .ref (D 12), .ref (D 13), .int (M.1 8), .int (M.1 9), .int (M.1 10)])) := by rw [hE1]; exact up_s
  have hX0 : Mx (xG X) h1 D (upd M.1 0 (nI 0), M.2) := by rw [hE1]; exact hX.thr _
  have hF0 : FrD h h1 D := by rw [hE1]; exact FrD.w FrD.rf (i := 0) (by decide)
  have hb0 : MBd (upd M.1 0 (nI 0), M.2) 30 40 B := hb.thr
  have hT0 : TdP (upd M.1 0 (nI 0), M.2) T := hT
  have X0a : h1 (D 0) = some (cMd (upd M.1 0 (nI 0), M.2).1 D) := hX0.m
  have X10a : h1 (D 10) = some (cSt (fun i => D (40 + i)) ((upd M.1 0 (nI 0), M.2).1 30) ((upd M.1 0 (nI 0), M.2).1 31)) := hX0.1 10 (by decide)
  have X11a : h1 (D 11) = some (cSt (fun i => D (43 + i)) ((upd M.1 0 (nI 0), M.2).1 32) ((upd M.1 0 (nI 0), M.2).1 33)) := hX0.1 11 (by decide)
  refine ww_aload_n C dX4_roundsUntilRing_5 rfl 0 rfl rfl ?_
  refine gf_X4_52_X4 C dX4_roundsUntilRing_6 (Or.inl X0a) rfl ?_
  refine ww_aload_n C dX4_roundsUntilRing_9 rfl 0 rfl rfl ?_
  refine gf_X4_48_X4 C dX4_roundsUntilRing_10 (Or.inl X0a) rfl ?_
  refine cv_X4_415_q (As := [.ref (D 10)]) (rest := []) C dX4_roundsUntilRing_13 (ct_X6_become (Cx.fl C) (Cx.ok C) hX0) (rc_X6 (Cx.ok C) (Or.inl X11a)) rfl rfl (Nat.le_of_ble_eq_true rfl) (by decide) (Nat.zero_le _) (Nat.zero_le _) (fun z9 h9 q => ?_)
  obtain ⟨hq1, hXa, hFa⟩ := q; replace hq1 := hq1.symm; subst hq1
  have hba : MBd (becS (upd M.1 0 (nI 0), M.2)) 32 43 B := hb0.bec
  have hTa : TdP (becS (upd M.1 0 (nI 0), M.2)) T := hT0.bec
  refine ww_iconst C dX4_roundsUntilRing_16 cI_0 ?_
  refine ww_istore_n (lv' := [(1, .int (nI 0)), (0, .ref (D 0))]) C dX4_roundsUntilRing_17 rfl (by decide) rfl ?_
  refine loop_up (N := 21) (M := fun k => ∀ (M1 : MS) (h1 : AH), (Mah M M1) → (MBd M1 32 43 (plN_ T B (M.1 31) k).2) → (M1.1 33 = M.1 31 + nI k) → (M1.1 0 = nI 0) → (Mx (xG X) h1 D M1) → (FrD h h1 D) → (ff (fun k => decide (0 < rgN (plN_ T B (M.1 31) k).2)) 21 0 = ff (fun k => decide (0 < rgN (plN_ T B (M.1 31) k).2)) (21 - k) k) → WW X (Rv (Mq (xG X) z h D M (oI (ruN T B (M.1 31)), 0))) z h1 0 0 18 [(1, .int (nI k)), (0, .ref (D 0))] []) ?_ ?_ 0 (Nat.zero_le _) _ _ Mah.bec hba (by rw [show nI 0 = 0 from rfl, Int32.add_zero]; rfl) rfl hXa (hF0.tr hFa) rfl
  · intro M1 h1 hm hb1 hr1 ht1 hX1 hF1 hv
    show WW X (Rv (Mq (xG X) z h D M (oI (ruN T B (M.1 31)), 0))) z h1 0 0 18 [(1, .int (nI 21)), (0, .ref (D 0))] []
    refine ww_iload_n C dX4_roundsUntilRing_18 rfl 0 rfl ?_
    refine ww_bipush C dX4_roundsUntilRing_19 cB_20 ?_
    refine ww_icmp_gt_t (tgt := 52) C dX4_roundsUntilRing_21 (by decide) (nI_lt1 (by decide) (by decide)) ?_
    refine ww_iconst C dX4_roundsUntilRing_52 cI_m1 ?_
    exact ww_iret C dX4_roundsUntilRing_53 ⟨by unfold ruN; rw [hv, ff_0]; rfl, rfl, M1, hm.ag, ht1, hX1, hF1⟩
  · intro k hi ih M1 h1 hm hb1 hr1 ht1 hX1 hF1 hv
    show WW X (Rv (Mq (xG X) z h D M (oI (ruN T B (M.1 31)), 0))) z h1 0 0 18 [(1, .int (nI k)), (0, .ref (D 0))] []
    obtain ⟨p1, p2, p3, p4⟩ := plN_ok hC (rn := M.1 31) hS k
    have hB1 := p1.1
    have hzz := BO.z hB1
    have hrl : rgN (plN_ T B (M.1 31) k).2 ≤ Bz (plN_ T B (M.1 31) k).2 := cnt_le _ _
    refine ww_iload_n C dX4_roundsUntilRing_18 rfl 0 rfl ?_
    refine ww_bipush C dX4_roundsUntilRing_19 cB_20 ?_
    refine ww_icmp_gt_f (tgt := 52) C dX4_roundsUntilRing_21 (by decide) (nI_nl2 (by omega) (by decide)) ?_
    have X0 : h1 (D 0) = some (cMd M1.1 D) := hX1.m
    refine ww_aload_n C dX4_roundsUntilRing_24 rfl 1 rfl rfl ?_
    refine ww_aload_n C dX4_roundsUntilRing_25 rfl 1 rfl rfl ?_
    refine gf_X4_52_X4 C dX4_roundsUntilRing_26 (Or.inl X0) rfl ?_
    have hP1 : MrP (xG X) z h1 (D 0) (D 11) (plN_ T B (M.1 31) k).2 := ⟨_, D, Or.inl X0, Mx.a hX1 hb1⟩
    refine cv_X4_325_r (As := [.ref (D 11)]) (rest := []) C dX4_roundsUntilRing_29 (ct_X4_rings (Cx.fl C) (Cx.ok C) hz hP1 p1) (rc_X4 (Cx.ok C) (Or.inl X0)) rfl rfl (Nat.le_of_ble_eq_true rfl) (by decide) (Nat.zero_le _) (Nat.zero_le _) ?_
    refine ww_if_le_n (tgt := 37) C dX4_roundsUntilRing_32 (by decide) (by omega) (fun c_32 => ?_) (fun c_32 => ?_)
    · skip
      have hp : (fun k => decide (0 < rgN (plN_ T B (M.1 31) k).2)) k = false := decide_eq_false (by omega)
      have hT1 : TdP M1 T := hT.ah hm
      have X0 : h1 (D 0) = some (cMd M1.1 D) := hX1.m
      refine ww_aload_n C dX4_roundsUntilRing_37 rfl 1 rfl rfl ?_
      refine ww_aload_n C dX4_roundsUntilRing_38 rfl 1 rfl rfl ?_
      refine gf_X4_52_X4 C dX4_roundsUntilRing_39 (Or.inl X0) rfl ?_
      refine cv_X4_412_q (As := [.ref (D 11)]) (rest := []) C dX4_roundsUntilRing_42 (ct_X4_play_a (Cx.fl C) (Cx.ok C) hz hX1 hb1 p1 hT1 (hS.c p2) hR) (rc_X4 (Cx.ok C) (Or.inl X0)) rfl rfl (Nat.le_of_ble_eq_true rfl) (by decide) (Nat.zero_le _) (Nat.zero_le _) (fun v z9 h9 q => ?_)
      rw [hr1] at q
      obtain ⟨rfl, hq1, M2, hq2, hq3, hq4, hX2, hF2⟩ := q; replace hq1 := hq1.symm; subst hq1
      refine ww_pop C dX4_roundsUntilRing_45 rfl ?_
      refine ww_iinc (lv' := [(1, .int (nI (k + 1))), (0, .ref (D 0))]) C dX4_roundsUntilRing_46 0 rfl (inc_n _) (by decide) rfl ?_
      refine ww_goto (tgt := 18) C dX4_roundsUntilRing_49 (by decide) ?_
      exact ih M2 h9 (hm.sr hq2) hq3 (by rw [hq4, ← nI_1 k, Int32.add_assoc]; rfl) ((hq2.1 0 (by decide) (by decide)).trans ht1) hX2 (hF1.tr hF2) (hv.trans (ff_f hi hp))
    · skip
      have hp : (fun k => decide (0 < rgN (plN_ T B (M.1 31) k).2)) k = true := decide_eq_true c_32
      refine ww_iload_n C dX4_roundsUntilRing_35 rfl 0 rfl ?_
      exact ww_iret C dX4_roundsUntilRing_36 ⟨by unfold ruN; rw [hv, ff_t hi hp]; rfl, rfl, M1, hm.ag, ht1, hX1, hF1⟩
end MO17
