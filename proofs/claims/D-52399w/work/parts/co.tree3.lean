section TREE3
set_option maxRecDepth 100000
/-- a bin -/
def bx (nt : Nat) (x : Int32) : Nat := (nI (nt - 1) &&& x).toBitVec.toNat
theorem bx_e {nt : Nat} (h : nt = 16 ∨ nt = 32 ∨ nt = 64) (x : Int32) : nI (nt - 1) &&& x = nI (bx nt x) ∧ bx nt x < nt := by
  have hlt : bx nt x < nt := by
    unfold bx
    rw [Int32.toBitVec_and, BitVec.toNat_and]
    have h2 : (nI (nt - 1)).toBitVec.toNat = nt - 1 := by rcases h with rfl | rfl | rfl <;> rfl
    rw [h2]
    have := Nat.and_le_left (n := nt - 1) (m := x.toBitVec.toNat)
    omega
  refine ⟨?_, hlt⟩
  apply Int32.toBitVec_inj.mp
  apply BitVec.eq_of_toNat_eq
  show bx nt x = (nI (bx nt x)).toBitVec.toNat
  have : (nI (bx nt x)).toBitVec.toNat = bx nt x % 2 ^ 32 := rfl
  rw [this, Nat.mod_eq_of_lt (by omega)]
theorem nI_le0 {n : Nat} (h : nI n ≤ 0) (hn : n < 2 ^ 31) : n = 0 := by
  rw [Int32.le_iff_toInt_le, nI_toInt hn] at h
  have : (0 : Int32).toInt = 0 := rfl
  omega
/-- next and prev stay in the tree -/
def ClN (G : Nat → Prop) (p : PT) : Prop := ∀ i, G i → ∀ f, (f = 0 ∨ f = 4) → ∀ j, p f i = some j → G j
theorem ClN.st {G : Nat → Prop} {p : PT} {f i : Nat} {o : Option Nat} (h : ClN G p) (ho : ∀ j, o = some j → G j) : ClN G (pst p f i o) := fun k hk g hg j hj => by
  by_cases e : g = f ∧ k = i
  · rw [e.1, e.2, pst_e] at hj; exact ho j hj
  · rw [pst_n e] at hj; exact h k hk g hg j hj
theorem TnH.ot {h : AH} {G : Nat → Prop} {E : ND} {p : PT} {rd : Nat → Bool} {a : Nat} {e : va_E} (hT : TnH h G E p rd) (ha : ∀ i, G i → a ≠ nA E i) : TnH (up h a e) G E p rd := ⟨fun i hi => by rw [up_n (Ne.symm (ha i hi))]; exact hT.1 i hi, hT.2⟩
theorem mv_same {T0 : Nat → Option Nat} {b : Nat} {o : Option Nat} (h : T0 b = o) : va_up T0 b o = T0 := by
  funext i
  by_cases e : i = b
  · rw [e, va_eq, h]
  · rw [va_ne e]
/-- the root lies first in its bin -/
def MvP (Γ : Gm) (z : ZR) (h : AH) (G : Nat → Prop) (E : ND) (rd : Nat → Bool) (p : PT) (x f tb nt : Nat) (T0 : Nat → Option Nat) : Oc → ZR → AH → Prop := Rn (fun z' h' => z' = z ∧ ∃ p', TnH h' G E p' rd ∧ (∀ f i, (f = 1 ∨ f = 2 ∨ f = 3) → p' f i = p f i) ∧ ClN G p' ∧ (p 0 f ≠ none → p' 0 x ≠ none) ∧ h' tb = some (.inl (gA Γ 5, (nt, refs (va_up T0 (bx nt (nH E x)) (some (nA E x)))))) ∧ ∀ q e, h q = some e → q ≠ tb → (∀ i, G i → q ≠ nA E i) → h' q = some e)
set_option maxHeartbeats 2000000 in
theorem ct_J28_root {l : Launch} {Γ : Gm} (hl : l.flags = flags0) (hΓ : GOK Γ) {z : ZR} {h : AH} {G : Nat → Prop} {lt : Nat → Nat → Prop} {E : ND} {p : PT} {rd : Nat → Bool} {D : Nat → List Nat} {x rt : Nat} (hT : TnH h G E p rd) (hG : TrG G lt p D rt) (gx : G x) : Ct l Γ yJ28_root cJ28_root 3 (some (.object "java/util/HashMap$TreeNode")) 1 0 0 [.ref (nA E x)] z h (RdP z h (some (.ref (nA E rt)))) := by
  refine Ct.of hl hΓ (by decide +kernel) (Nat.le_of_ble_eq_true rfl) (fun X e1 e2 C => ?_)
  subst e1; subst e2
  have C : Cx X cJ28_root 3 "java/util/HashMap$TreeNode" "root" (some (.object "java/util/HashMap$TreeNode")) [] 1 := C
  show WW X (RdP z h (some (.ref (nA E rt)))) z h 0 0 0 [(0, .ref (nA E x))] []
  refine ww_aload_n C dJ28_root_0 rfl 0 rfl rfl ?_
  refine ww_astore_n (lv' := [(1, .ref (nA E x)), (0, .ref (nA E x))]) C dJ28_root_1 rfl (by decide) rfl rfl ?_
  have key : ∀ (fu x1 : Nat), (D rt).length - (D x1).length < fu → G x1 → WW X (RdP z h (some (.ref (nA E rt)))) z h 0 0 2 [(1, .ref (nA E x1)), (0, .ref (nA E x))] [] := by
    intro fu
    induction fu with
    | zero => intro x1 q; omega
    | succ fu ih =>
      intro x1 hfu gx1
      refine ww_aload_n C dJ28_root_2 rfl 0 rfl rfl ?_
      refine gf_J28_9_J28 C dJ28_root_3 (Or.inl (hT.1 x1 gx1)) rfl ?_
      refine ww_dup C dJ28_root_6 (va_rf_cat _) ?_
      refine ww_astore_n (lv' := [(2, va_rf ((p 1 x1).map (nA E))), (1, .ref (nA E x1)), (0, .ref (nA E x))]) C dJ28_root_7 rfl (by decide) (va_rf_isRef _) rfl ?_
      rcases h_k : p 1 x1 with _ | k
      · skip
        show WW X (RdP z h (some (.ref (nA E rt)))) z h 0 0 8 [(2, .null), (1, .ref (nA E x1)), (0, .ref (nA E x))] [.null]
        refine ww_ifnonnull_f C dJ28_root_8 ?_
        refine ww_aload_n C dJ28_root_11 rfl 1 rfl rfl ?_
        exact ww_aret C (Or.inl ⟨_, rfl⟩) dJ28_root_12 rfl (RdP.v (by rw [hG.top gx1 h_k]))
      · skip
        show WW X (RdP z h (some (.ref (nA E rt)))) z h 0 0 8 [(2, .ref (nA E k)), (1, .ref (nA E x1)), (0, .ref (nA E x))] [.ref (nA E k)]
        have hk := hG.len1 gx1 h_k
        have hk2 := hG.le hk.1
        refine ww_ifnonnull_t (tgt := 13) C dJ28_root_8 (by decide) ?_
        refine ww_aload_n C dJ28_root_13 rfl 0 rfl rfl ?_
        refine ww_astore_n (lv' := [(1, .ref (nA E k)), (2, .ref (nA E k)), (0, .ref (nA E x))]) C dJ28_root_14 rfl (by decide) rfl rfl ?_
        refine ww_goto (tgt := 2) C dJ28_root_15 (by decide) ?_
        refine ww_sub [0, 2] rfl ?_
        exact ih k (by omega) hk.1
  exact key _ x (Nat.lt_succ_self _) gx
set_option maxHeartbeats 2000000 in
theorem ct_J28_moveRootToFront {l : Launch} {Γ : Gm} (hl : l.flags = flags0) (hΓ : GOK Γ) {z : ZR} {h : AH} {G : Nat → Prop} {E : ND} {p : PT} {rd : Nat → Bool} {x f tb nt : Nat} {T0 : Nat → Option Nat} (hT : TnH h G E p rd) (gx : G x) (gf : G f) (hcl : ClN G p) (hnt : nt = 16 ∨ nt = 32 ∨ nt = 64) (Htb : h tb = some (.inl (gA Γ 5, (nt, refs T0)))) (hf : T0 (bx nt (nH E x)) = some (nA E f)) : Ct l Γ yJ28_moveRootToFront cJ28_moveRootToFront 7 none 2 0 0 [.ref tb, .ref (nA E x)] z h (MvP Γ z h G E rd p x f tb nt T0) := by
  refine Ct.of hl hΓ (by decide +kernel) (Nat.le_of_ble_eq_true rfl) (fun X e1 e2 C => ?_)
  subst e1; subst e2
  have C : Cx X cJ28_moveRootToFront 7 "java/util/HashMap$TreeNode" "moveRootToFront" none [] 2 := C
  have Htb : h tb = some (.inl (gA (xG X) 5, (nt, refs T0))) := Htb
  have hb := bx_e hnt (nH E x)
  have hn9 : 16 ≤ nt ∧ nt ≤ 64 := by omega
  have hto : ∀ i, G i → tb ≠ nA E i := fun i gi => ne_ob Htb (hT.1 i gi) (by simp [cTn])
  show WW X (MvP (xG X) z h G E rd p x f tb nt T0) z h 0 0 0 [(0, .ref tb), (1, .ref (nA E x))] []
  refine ww_aload_n C dJ28_moveRootToFront_0 rfl 1 rfl rfl ?_
  refine ww_ifnull_f C dJ28_moveRootToFront_1 ?_
  refine ww_aload_n C dJ28_moveRootToFront_4 rfl 0 rfl rfl ?_
  refine ww_ifnull_f C dJ28_moveRootToFront_5 ?_
  refine ww_aload_n C dJ28_moveRootToFront_8 rfl 0 rfl rfl ?_
  refine ww_alen (t := 5) C dJ28_moveRootToFront_9 (by decide) (Or.inl Htb) ?_
  refine ww_dup C dJ28_moveRootToFront_10 rfl ?_
  refine ww_istore_n (lv' := [(2, .int (nI nt)), (0, .ref tb), (1, .ref (nA E x))]) C dJ28_moveRootToFront_11 rfl (by decide) rfl ?_
  refine ww_if_le_f (tgt := 123) C dJ28_moveRootToFront_12 (by decide) (fun q => absurd (nI_le0 q (by omega)) (by omega)) ?_
  refine ww_iload_n C dJ28_moveRootToFront_15 rfl 0 rfl ?_
  refine ww_iconst C dJ28_moveRootToFront_16 cI_1 ?_
  refine ww_isubn C dJ28_moveRootToFront_17 (by omega) ?_
  refine ww_aload_n C dJ28_moveRootToFront_18 rfl 2 rfl rfl ?_
  refine gf_J28_15_J28 C dJ28_moveRootToFront_19 (Or.inl (hT.1 x gx)) rfl ?_
  refine ww_iand C dJ28_moveRootToFront_22 ?_
  refine ww_st (st' := [.int (nI (bx nt (nH E x)))]) (by rw [hb.1]) ?_
  refine ww_istore_n (lv' := [(3, .int (nI (bx nt (nH E x)))), (2, .int (nI nt)), (0, .ref tb), (1, .ref (nA E x))]) C dJ28_moveRootToFront_23 rfl (by decide) rfl ?_
  refine ww_aload_n C dJ28_moveRootToFront_24 rfl 2 rfl rfl ?_
  refine ww_iload_n C dJ28_moveRootToFront_25 rfl 0 rfl ?_
  refine ww_aald (t := 5) C dJ28_moveRootToFront_26 (by decide) rfl (Or.inl Htb) (by omega) (by omega) ?_
  refine ww_st (st' := [.ref (nA E f)]) (by rw [hf]; rfl) ?_
  refine ww_castS (ci := 29) C q1606 rfl dJ28_moveRootToFront_27 (rc_J28 (Cx.ok C) (Or.inl (hT.1 f gf))) ?_
  refine ww_astore (lv' := [(4, .ref (nA E f)), (3, .int (nI (bx nt (nH E x)))), (2, .int (nI nt)), (0, .ref tb), (1, .ref (nA E x))]) C dJ28_moveRootToFront_30 (by decide) rfl rfl ?_
  refine ww_aload_n C dJ28_moveRootToFront_32 rfl 4 rfl rfl ?_
  refine ww_aload C dJ28_moveRootToFront_33 0 rfl rfl ?_
  by_cases exf : x = f
  · skip
    refine ww_acmp_eq_t (rx := (some (nA E x))) (ry := (some (nA E f))) (tgt := 102) C dJ28_moveRootToFront_35 (by decide) (by rw [exf]) ?_
    refine ww_gsv C (si_12 (Cx.ok C)) q1661 (fun _ q => q) dJ28_moveRootToFront_102 ?_
    refine ww_if_ne_t (tgt := 123) C dJ28_moveRootToFront_105 (by decide) (by decide) ?_
    exact ww_vret C dJ28_moveRootToFront_123 ⟨rfl, p, hT, fun _ _ _ => rfl, hcl, fun q => by rw [exf]; exact q, by rw [mv_same (by rw [hf, exf])]; exact Htb, fun q e hq _ _ => hq⟩
  · skip
    refine ww_acmp_eq_f (rx := (some (nA E x))) (ry := (some (nA E f))) (tgt := 102) C dJ28_moveRootToFront_35 (by decide) (fun q => exf (hT.2 x f gx gf (Option.some.inj q))) ?_
    refine ww_aload_n C dJ28_moveRootToFront_38 rfl 3 rfl rfl ?_
    refine ww_iload_n C dJ28_moveRootToFront_39 rfl 1 rfl ?_
    refine ww_aload_n C dJ28_moveRootToFront_40 rfl 4 rfl rfl ?_
    refine ww_aast (t := 5) (E := "java/util/HashMap$Node") C dJ28_moveRootToFront_41 (by decide) rfl q3457 Htb (rc_J28 (Cx.ok C) (Or.inl (hT.1 x gx))) (by omega) (by omega) ?_
    refine ww_gen (fun h1 hE1 => ?_)
    have Htb_h1 : h1 tb = some (.inl (gA (xG X) 5, (nt, refs (va_up T0 (bx nt (nH E x)) (some (nA E x)))))) := by rw [hE1]; exact up_s
    have hT0 : TnH h1 G E p rd := by rw [hE1]; exact hT.ot hto
    have hF0 : FrT G E h1 h1 := FrT.rf
    have Htb0 := Htb_h1
    refine ww_aload_n C dJ28_moveRootToFront_42 rfl 4 rfl rfl ?_
    refine gf_J28_19_J28 C dJ28_moveRootToFront_43 (Or.inl (hT0.1 x gx)) rfl ?_
    refine ww_astore (lv' := [(6, va_rf ((p 4 x).map (nA E))), (4, .ref (nA E f)), (3, .int (nI (bx nt (nH E x)))), (2, .int (nI nt)), (0, .ref tb), (1, .ref (nA E x))]) C dJ28_moveRootToFront_46 (by decide) (va_rf_isRef _) rfl ?_
    refine ww_aload_n C dJ28_moveRootToFront_48 rfl 5 rfl rfl ?_
    refine gf_J28_22_J28 C dJ28_moveRootToFront_49 (Or.inl (hT0.1 x gx)) rfl ?_
    refine ww_dup C dJ28_moveRootToFront_52 (va_rf_cat _) ?_
    refine ww_astore (lv' := [(5, va_rf ((p 0 x).map (nA E))), (6, va_rf ((p 4 x).map (nA E))), (4, .ref (nA E f)), (3, .int (nI (bx nt (nH E x)))), (2, .int (nI nt)), (0, .ref tb), (1, .ref (nA E x))]) C dJ28_moveRootToFront_53 (by decide) (va_rf_isRef _) rfl ?_
    rcases h_j : p 0 x with _ | j
    · skip
      show WW X (MvP (xG X) z h G E rd p x f tb nt T0) z h1 0 0 55 [(5, .null), (6, va_rf ((p 4 x).map (nA E))), (4, .ref (nA E f)), (3, .int (nI (bx nt (nH E x)))), (2, .int (nI nt)), (0, .ref tb), (1, .ref (nA E x))] [.null]
      refine ww_ifnull_t (tgt := 68) C dJ28_moveRootToFront_55 (by decide) ?_
      refine ww_aload C dJ28_moveRootToFront_68 1 rfl (va_rf_isRef _) ?_
      rcases h_m : p 4 x with _ | m
      · skip
        show WW X (MvP (xG X) z h G E rd p x f tb nt T0) z h1 0 0 70 [(5, .null), (6, .null), (4, .ref (nA E f)), (3, .int (nI (bx nt (nH E x)))), (2, .int (nI nt)), (0, .ref tb), (1, .ref (nA E x))] [.null]
        refine ww_ifnull_t (tgt := 80) C dJ28_moveRootToFront_70 (by decide) ?_
        refine ww_aload C dJ28_moveRootToFront_80 2 rfl rfl ?_
        refine ww_ifnull_f C dJ28_moveRootToFront_82 ?_
        refine ww_aload C dJ28_moveRootToFront_85 2 rfl rfl ?_
        refine ww_aload_n C dJ28_moveRootToFront_87 rfl 6 rfl rfl ?_
        refine pf_J28_19_J28 (fs' := [.null, .null, .int (nH E f), .ref (nK E f), .ref (nV E f), va_rf ((p 0 f).map (nA E)), va_rf ((p 1 f).map (nA E)), va_rf ((p 2 f).map (nA E)), va_rf ((p 3 f).map (nA E)), .ref (nA E x), .int (bI (rd f))]) C dJ28_moveRootToFront_88 (hT0.1 f gf) rfl rfl (Nat.le_of_ble_eq_true rfl) rfl ?_
        refine ww_gen (fun h22 hE22 => ?_)
        obtain ⟨p22, ep22⟩ : ∃ Q9, Q9 = pst p 4 f (some x) := ⟨_, rfl⟩
        have hT22 : TnH h22 G E p22 rd := by rw [ep22, hE22]; exact hT0.p4 (o := (some x)) gf
        have hF22 : FrT G E h1 h22 := by rw [hE22]; exact hF0.put gf
        refine ww_aload_n C dJ28_moveRootToFront_91 rfl 6 rfl rfl ?_
        refine ww_aload C dJ28_moveRootToFront_92 2 rfl rfl ?_
        refine pf_J28_22_J28 (fs' := [.null, .null, .int (nH E x), .ref (nK E x), .ref (nV E x), .ref (nA E f), va_rf ((p22 1 x).map (nA E)), va_rf ((p22 2 x).map (nA E)), va_rf ((p22 3 x).map (nA E)), va_rf ((p22 4 x).map (nA E)), .int (bI (rd x))]) C dJ28_moveRootToFront_94 (hT22.1 x gx) rfl rfl (Nat.le_of_ble_eq_true rfl) rfl ?_
        refine ww_gen (fun h23 hE23 => ?_)
        obtain ⟨p23, ep23⟩ : ∃ Q9, Q9 = pst p22 0 x (some f) := ⟨_, rfl⟩
        have hT23 : TnH h23 G E p23 rd := by rw [ep23, hE23]; exact hT22.p0 (o := (some f)) gx
        have hF23 : FrT G E h1 h23 := by rw [hE23]; exact hF22.put gx
        refine ww_aload_n C dJ28_moveRootToFront_97 rfl 6 rfl rfl ?_
        refine ww_null C dJ28_moveRootToFront_98 ?_
        refine pf_J28_19_J28 (fs' := [.null, .null, .int (nH E x), .ref (nK E x), .ref (nV E x), va_rf ((p23 0 x).map (nA E)), va_rf ((p23 1 x).map (nA E)), va_rf ((p23 2 x).map (nA E)), va_rf ((p23 3 x).map (nA E)), .null, .int (bI (rd x))]) C dJ28_moveRootToFront_99 (hT23.1 x gx) rfl rfl (Nat.le_of_ble_eq_true rfl) rfl ?_
        refine ww_gen (fun h24 hE24 => ?_)
        obtain ⟨p24, ep24⟩ : ∃ Q9, Q9 = pst p23 4 x none := ⟨_, rfl⟩
        have hT24 : TnH h24 G E p24 rd := by rw [ep24, hE24]; exact hT23.p4 (o := none) gx
        have hF24 : FrT G E h1 h24 := by rw [hE24]; exact hF23.put gx
        refine ww_gsv C (si_12 (Cx.ok C)) q1661 (fun _ q => q) dJ28_moveRootToFront_102 ?_
        refine ww_if_ne_t (tgt := 123) C dJ28_moveRootToFront_105 (by decide) (by decide) ?_
        exact ww_vret C dJ28_moveRootToFront_123 ⟨rfl, p24, hT24, fun f9 i q9 => by rw [ep24, ep23, ep22]; simp only [pst]; rw [if_neg (by omega), if_neg (by omega), if_neg (by omega)], by rw [ep24, ep23, ep22]; exact ((hcl.st (fun j hj => by cases hj; exact gx)).st (fun j hj => by cases hj; exact gf)).st (fun j hj => by cases hj), fun _ => by rw [ep24, ep23, @pst_f _ 4 x 0 x none (by decide), pst_e]; simp, hF24 tb _ Htb0 hto, fun q e hq n1 n2 => hF24 q e (by rw [hE1, up_n n1]; exact hq) n2⟩
      · skip
        show WW X (MvP (xG X) z h G E rd p x f tb nt T0) z h1 0 0 70 [(5, .null), (6, .ref (nA E m)), (4, .ref (nA E f)), (3, .int (nI (bx nt (nH E x)))), (2, .int (nI nt)), (0, .ref tb), (1, .ref (nA E x))] [.ref (nA E m)]
        have gm : G m := hcl x gx 4 (Or.inr rfl) m h_m
        refine ww_ifnull_f C dJ28_moveRootToFront_70 ?_
        refine ww_aload C dJ28_moveRootToFront_73 1 rfl rfl ?_
        refine ww_aload C dJ28_moveRootToFront_75 0 rfl rfl ?_
        refine pf_J28_22_J28 (fs' := [.null, .null, .int (nH E m), .ref (nK E m), .ref (nV E m), .null, va_rf ((p 1 m).map (nA E)), va_rf ((p 2 m).map (nA E)), va_rf ((p 3 m).map (nA E)), va_rf ((p 4 m).map (nA E)), .int (bI (rd m))]) C dJ28_moveRootToFront_77 (hT0.1 m gm) rfl rfl (Nat.le_of_ble_eq_true rfl) rfl ?_
        refine ww_gen (fun h25 hE25 => ?_)
        obtain ⟨p25, ep25⟩ : ∃ Q9, Q9 = pst p 0 m none := ⟨_, rfl⟩
        have hT25 : TnH h25 G E p25 rd := by rw [ep25, hE25]; exact hT0.p0 (o := none) gm
        have hF25 : FrT G E h1 h25 := by rw [hE25]; exact hF0.put gm
        refine ww_aload C dJ28_moveRootToFront_80 2 rfl rfl ?_
        refine ww_ifnull_f C dJ28_moveRootToFront_82 ?_
        refine ww_aload C dJ28_moveRootToFront_85 2 rfl rfl ?_
        refine ww_aload_n C dJ28_moveRootToFront_87 rfl 6 rfl rfl ?_
        refine pf_J28_19_J28 (fs' := [.null, .null, .int (nH E f), .ref (nK E f), .ref (nV E f), va_rf ((p25 0 f).map (nA E)), va_rf ((p25 1 f).map (nA E)), va_rf ((p25 2 f).map (nA E)), va_rf ((p25 3 f).map (nA E)), .ref (nA E x), .int (bI (rd f))]) C dJ28_moveRootToFront_88 (hT25.1 f gf) rfl rfl (Nat.le_of_ble_eq_true rfl) rfl ?_
        refine ww_gen (fun h26 hE26 => ?_)
        obtain ⟨p26, ep26⟩ : ∃ Q9, Q9 = pst p25 4 f (some x) := ⟨_, rfl⟩
        have hT26 : TnH h26 G E p26 rd := by rw [ep26, hE26]; exact hT25.p4 (o := (some x)) gf
        have hF26 : FrT G E h1 h26 := by rw [hE26]; exact hF25.put gf
        refine ww_aload_n C dJ28_moveRootToFront_91 rfl 6 rfl rfl ?_
        refine ww_aload C dJ28_moveRootToFront_92 2 rfl rfl ?_
        refine pf_J28_22_J28 (fs' := [.null, .null, .int (nH E x), .ref (nK E x), .ref (nV E x), .ref (nA E f), va_rf ((p26 1 x).map (nA E)), va_rf ((p26 2 x).map (nA E)), va_rf ((p26 3 x).map (nA E)), va_rf ((p26 4 x).map (nA E)), .int (bI (rd x))]) C dJ28_moveRootToFront_94 (hT26.1 x gx) rfl rfl (Nat.le_of_ble_eq_true rfl) rfl ?_
        refine ww_gen (fun h27 hE27 => ?_)
        obtain ⟨p27, ep27⟩ : ∃ Q9, Q9 = pst p26 0 x (some f) := ⟨_, rfl⟩
        have hT27 : TnH h27 G E p27 rd := by rw [ep27, hE27]; exact hT26.p0 (o := (some f)) gx
        have hF27 : FrT G E h1 h27 := by rw [hE27]; exact hF26.put gx
        refine ww_aload_n C dJ28_moveRootToFront_97 rfl 6 rfl rfl ?_
        refine ww_null C dJ28_moveRootToFront_98 ?_
        refine pf_J28_19_J28 (fs' := [.null, .null, .int (nH E x), .ref (nK E x), .ref (nV E x), va_rf ((p27 0 x).map (nA E)), va_rf ((p27 1 x).map (nA E)), va_rf ((p27 2 x).map (nA E)), va_rf ((p27 3 x).map (nA E)), .null, .int (bI (rd x))]) C dJ28_moveRootToFront_99 (hT27.1 x gx) rfl rfl (Nat.le_of_ble_eq_true rfl) rfl ?_
        refine ww_gen (fun h28 hE28 => ?_)
        obtain ⟨p28, ep28⟩ : ∃ Q9, Q9 = pst p27 4 x none := ⟨_, rfl⟩
        have hT28 : TnH h28 G E p28 rd := by rw [ep28, hE28]; exact hT27.p4 (o := none) gx
        have hF28 : FrT G E h1 h28 := by rw [hE28]; exact hF27.put gx
        refine ww_gsv C (si_12 (Cx.ok C)) q1661 (fun _ q => q) dJ28_moveRootToFront_102 ?_
        refine ww_if_ne_t (tgt := 123) C dJ28_moveRootToFront_105 (by decide) (by decide) ?_
        exact ww_vret C dJ28_moveRootToFront_123 ⟨rfl, p28, hT28, fun f9 i q9 => by rw [ep28, ep27, ep26, ep25]; simp only [pst]; rw [if_neg (by omega), if_neg (by omega), if_neg (by omega), if_neg (by omega)], by rw [ep28, ep27, ep26, ep25]; exact (((hcl.st (fun j hj => by cases hj)).st (fun j hj => by cases hj; exact gx)).st (fun j hj => by cases hj; exact gf)).st (fun j hj => by cases hj), fun _ => by rw [ep28, ep27, @pst_f _ 4 x 0 x none (by decide), pst_e]; simp, hF28 tb _ Htb0 hto, fun q e hq n1 n2 => hF28 q e (by rw [hE1, up_n n1]; exact hq) n2⟩
    · skip
      show WW X (MvP (xG X) z h G E rd p x f tb nt T0) z h1 0 0 55 [(5, .ref (nA E j)), (6, va_rf ((p 4 x).map (nA E))), (4, .ref (nA E f)), (3, .int (nI (bx nt (nH E x)))), (2, .int (nI nt)), (0, .ref tb), (1, .ref (nA E x))] [.ref (nA E j)]
      have gj : G j := hcl x gx 0 (Or.inl rfl) j h_j
      refine ww_ifnull_f C dJ28_moveRootToFront_55 ?_
      refine ww_aload C dJ28_moveRootToFront_58 0 rfl rfl ?_
      refine ww_castS (ci := 29) C q1606 rfl dJ28_moveRootToFront_60 (rc_J28 (Cx.ok C) (Or.inl (hT0.1 j gj))) ?_
      refine ww_aload C dJ28_moveRootToFront_63 1 rfl (va_rf_isRef _) ?_
      refine pf_J28_19_J28 (fs' := [.null, .null, .int (nH E j), .ref (nK E j), .ref (nV E j), va_rf ((p 0 j).map (nA E)), va_rf ((p 1 j).map (nA E)), va_rf ((p 2 j).map (nA E)), va_rf ((p 3 j).map (nA E)), va_rf ((p 4 x).map (nA E)), .int (bI (rd j))]) C dJ28_moveRootToFront_65 (hT0.1 j gj) (va_rf_nar _) (va_rf_fit _) (Nat.le_of_ble_eq_true rfl) rfl ?_
      refine ww_gen (fun h29 hE29 => ?_)
      obtain ⟨p29, ep29⟩ : ∃ Q9, Q9 = pst p 4 j (p 4 x) := ⟨_, rfl⟩
      have hT29 : TnH h29 G E p29 rd := by rw [ep29, hE29]; exact hT0.p4 (o := (p 4 x)) gj
      have hF29 : FrT G E h1 h29 := by rw [hE29]; exact hF0.put gj
      refine ww_aload C dJ28_moveRootToFront_68 1 rfl (va_rf_isRef _) ?_
      rcases h_m : p 4 x with _ | m
      · skip
        show WW X (MvP (xG X) z h G E rd p x f tb nt T0) z h29 0 0 70 [(5, .ref (nA E j)), (6, .null), (4, .ref (nA E f)), (3, .int (nI (bx nt (nH E x)))), (2, .int (nI nt)), (0, .ref tb), (1, .ref (nA E x))] [.null]
        refine ww_ifnull_t (tgt := 80) C dJ28_moveRootToFront_70 (by decide) ?_
        refine ww_aload C dJ28_moveRootToFront_80 2 rfl rfl ?_
        refine ww_ifnull_f C dJ28_moveRootToFront_82 ?_
        refine ww_aload C dJ28_moveRootToFront_85 2 rfl rfl ?_
        refine ww_aload_n C dJ28_moveRootToFront_87 rfl 6 rfl rfl ?_
        refine pf_J28_19_J28 (fs' := [.null, .null, .int (nH E f), .ref (nK E f), .ref (nV E f), va_rf ((p29 0 f).map (nA E)), va_rf ((p29 1 f).map (nA E)), va_rf ((p29 2 f).map (nA E)), va_rf ((p29 3 f).map (nA E)), .ref (nA E x), .int (bI (rd f))]) C dJ28_moveRootToFront_88 (hT29.1 f gf) rfl rfl (Nat.le_of_ble_eq_true rfl) rfl ?_
        refine ww_gen (fun h30 hE30 => ?_)
        obtain ⟨p30, ep30⟩ : ∃ Q9, Q9 = pst p29 4 f (some x) := ⟨_, rfl⟩
        have hT30 : TnH h30 G E p30 rd := by rw [ep30, hE30]; exact hT29.p4 (o := (some x)) gf
        have hF30 : FrT G E h1 h30 := by rw [hE30]; exact hF29.put gf
        refine ww_aload_n C dJ28_moveRootToFront_91 rfl 6 rfl rfl ?_
        refine ww_aload C dJ28_moveRootToFront_92 2 rfl rfl ?_
        refine pf_J28_22_J28 (fs' := [.null, .null, .int (nH E x), .ref (nK E x), .ref (nV E x), .ref (nA E f), va_rf ((p30 1 x).map (nA E)), va_rf ((p30 2 x).map (nA E)), va_rf ((p30 3 x).map (nA E)), va_rf ((p30 4 x).map (nA E)), .int (bI (rd x))]) C dJ28_moveRootToFront_94 (hT30.1 x gx) rfl rfl (Nat.le_of_ble_eq_true rfl) rfl ?_
        refine ww_gen (fun h31 hE31 => ?_)
        obtain ⟨p31, ep31⟩ : ∃ Q9, Q9 = pst p30 0 x (some f) := ⟨_, rfl⟩
        have hT31 : TnH h31 G E p31 rd := by rw [ep31, hE31]; exact hT30.p0 (o := (some f)) gx
        have hF31 : FrT G E h1 h31 := by rw [hE31]; exact hF30.put gx
        refine ww_aload_n C dJ28_moveRootToFront_97 rfl 6 rfl rfl ?_
        refine ww_null C dJ28_moveRootToFront_98 ?_
        refine pf_J28_19_J28 (fs' := [.null, .null, .int (nH E x), .ref (nK E x), .ref (nV E x), va_rf ((p31 0 x).map (nA E)), va_rf ((p31 1 x).map (nA E)), va_rf ((p31 2 x).map (nA E)), va_rf ((p31 3 x).map (nA E)), .null, .int (bI (rd x))]) C dJ28_moveRootToFront_99 (hT31.1 x gx) rfl rfl (Nat.le_of_ble_eq_true rfl) rfl ?_
        refine ww_gen (fun h32 hE32 => ?_)
        obtain ⟨p32, ep32⟩ : ∃ Q9, Q9 = pst p31 4 x none := ⟨_, rfl⟩
        have hT32 : TnH h32 G E p32 rd := by rw [ep32, hE32]; exact hT31.p4 (o := none) gx
        have hF32 : FrT G E h1 h32 := by rw [hE32]; exact hF31.put gx
        refine ww_gsv C (si_12 (Cx.ok C)) q1661 (fun _ q => q) dJ28_moveRootToFront_102 ?_
        refine ww_if_ne_t (tgt := 123) C dJ28_moveRootToFront_105 (by decide) (by decide) ?_
        exact ww_vret C dJ28_moveRootToFront_123 ⟨rfl, p32, hT32, fun f9 i q9 => by rw [ep32, ep31, ep30, ep29]; simp only [pst]; rw [if_neg (by omega), if_neg (by omega), if_neg (by omega), if_neg (by omega)], by rw [ep32, ep31, ep30, ep29]; exact (((hcl.st (fun j hj => hcl x gx 4 (Or.inr rfl) j hj)).st (fun j hj => by cases hj; exact gx)).st (fun j hj => by cases hj; exact gf)).st (fun j hj => by cases hj), fun _ => by rw [ep32, ep31, @pst_f _ 4 x 0 x none (by decide), pst_e]; simp, hF32 tb _ Htb0 hto, fun q e hq n1 n2 => hF32 q e (by rw [hE1, up_n n1]; exact hq) n2⟩
      · skip
        show WW X (MvP (xG X) z h G E rd p x f tb nt T0) z h29 0 0 70 [(5, .ref (nA E j)), (6, .ref (nA E m)), (4, .ref (nA E f)), (3, .int (nI (bx nt (nH E x)))), (2, .int (nI nt)), (0, .ref tb), (1, .ref (nA E x))] [.ref (nA E m)]
        have gm : G m := hcl x gx 4 (Or.inr rfl) m h_m
        refine ww_ifnull_f C dJ28_moveRootToFront_70 ?_
        refine ww_aload C dJ28_moveRootToFront_73 1 rfl rfl ?_
        refine ww_aload C dJ28_moveRootToFront_75 0 rfl rfl ?_
        refine pf_J28_22_J28 (fs' := [.null, .null, .int (nH E m), .ref (nK E m), .ref (nV E m), .ref (nA E j), va_rf ((p29 1 m).map (nA E)), va_rf ((p29 2 m).map (nA E)), va_rf ((p29 3 m).map (nA E)), va_rf ((p29 4 m).map (nA E)), .int (bI (rd m))]) C dJ28_moveRootToFront_77 (hT29.1 m gm) rfl rfl (Nat.le_of_ble_eq_true rfl) rfl ?_
        refine ww_gen (fun h33 hE33 => ?_)
        obtain ⟨p33, ep33⟩ : ∃ Q9, Q9 = pst p29 0 m (some j) := ⟨_, rfl⟩
        have hT33 : TnH h33 G E p33 rd := by rw [ep33, hE33]; exact hT29.p0 (o := (some j)) gm
        have hF33 : FrT G E h1 h33 := by rw [hE33]; exact hF29.put gm
        refine ww_aload C dJ28_moveRootToFront_80 2 rfl rfl ?_
        refine ww_ifnull_f C dJ28_moveRootToFront_82 ?_
        refine ww_aload C dJ28_moveRootToFront_85 2 rfl rfl ?_
        refine ww_aload_n C dJ28_moveRootToFront_87 rfl 6 rfl rfl ?_
        refine pf_J28_19_J28 (fs' := [.null, .null, .int (nH E f), .ref (nK E f), .ref (nV E f), va_rf ((p33 0 f).map (nA E)), va_rf ((p33 1 f).map (nA E)), va_rf ((p33 2 f).map (nA E)), va_rf ((p33 3 f).map (nA E)), .ref (nA E x), .int (bI (rd f))]) C dJ28_moveRootToFront_88 (hT33.1 f gf) rfl rfl (Nat.le_of_ble_eq_true rfl) rfl ?_
        refine ww_gen (fun h34 hE34 => ?_)
        obtain ⟨p34, ep34⟩ : ∃ Q9, Q9 = pst p33 4 f (some x) := ⟨_, rfl⟩
        have hT34 : TnH h34 G E p34 rd := by rw [ep34, hE34]; exact hT33.p4 (o := (some x)) gf
        have hF34 : FrT G E h1 h34 := by rw [hE34]; exact hF33.put gf
        refine ww_aload_n C dJ28_moveRootToFront_91 rfl 6 rfl rfl ?_
        refine ww_aload C dJ28_moveRootToFront_92 2 rfl rfl ?_
        refine pf_J28_22_J28 (fs' := [.null, .null, .int (nH E x), .ref (nK E x), .ref (nV E x), .ref (nA E f), va_rf ((p34 1 x).map (nA E)), va_rf ((p34 2 x).map (nA E)), va_rf ((p34 3 x).map (nA E)), va_rf ((p34 4 x).map (nA E)), .int (bI (rd x))]) C dJ28_moveRootToFront_94 (hT34.1 x gx) rfl rfl (Nat.le_of_ble_eq_true rfl) rfl ?_
        refine ww_gen (fun h35 hE35 => ?_)
        obtain ⟨p35, ep35⟩ : ∃ Q9, Q9 = pst p34 0 x (some f) := ⟨_, rfl⟩
        have hT35 : TnH h35 G E p35 rd := by rw [ep35, hE35]; exact hT34.p0 (o := (some f)) gx
        have hF35 : FrT G E h1 h35 := by rw [hE35]; exact hF34.put gx
        refine ww_aload_n C dJ28_moveRootToFront_97 rfl 6 rfl rfl ?_
        refine ww_null C dJ28_moveRootToFront_98 ?_
        refine pf_J28_19_J28 (fs' := [.null, .null, .int (nH E x), .ref (nK E x), .ref (nV E x), va_rf ((p35 0 x).map (nA E)), va_rf ((p35 1 x).map (nA E)), va_rf ((p35 2 x).map (nA E)), va_rf ((p35 3 x).map (nA E)), .null, .int (bI (rd x))]) C dJ28_moveRootToFront_99 (hT35.1 x gx) rfl rfl (Nat.le_of_ble_eq_true rfl) rfl ?_
        refine ww_gen (fun h36 hE36 => ?_)
        obtain ⟨p36, ep36⟩ : ∃ Q9, Q9 = pst p35 4 x none := ⟨_, rfl⟩
        have hT36 : TnH h36 G E p36 rd := by rw [ep36, hE36]; exact hT35.p4 (o := none) gx
        have hF36 : FrT G E h1 h36 := by rw [hE36]; exact hF35.put gx
        refine ww_gsv C (si_12 (Cx.ok C)) q1661 (fun _ q => q) dJ28_moveRootToFront_102 ?_
        refine ww_if_ne_t (tgt := 123) C dJ28_moveRootToFront_105 (by decide) (by decide) ?_
        exact ww_vret C dJ28_moveRootToFront_123 ⟨rfl, p36, hT36, fun f9 i q9 => by rw [ep36, ep35, ep34, ep33, ep29]; simp only [pst]; rw [if_neg (by omega), if_neg (by omega), if_neg (by omega), if_neg (by omega), if_neg (by omega)], by rw [ep36, ep35, ep34, ep33, ep29]; exact ((((hcl.st (fun j hj => hcl x gx 4 (Or.inr rfl) j hj)).st (fun j hj => by cases hj; exact gj)).st (fun j hj => by cases hj; exact gx)).st (fun j hj => by cases hj; exact gf)).st (fun j hj => by cases hj), fun _ => by rw [ep36, ep35, @pst_f _ 4 x 0 x none (by decide), pst_e]; simp, hF36 tb _ Htb0 hto, fun q e hq n1 n2 => hF36 q e (by rw [hE1, up_n n1]; exact hq) n2⟩
end TREE3
