section TREE0
set_option maxRecDepth 100000
/-- nodes: addresses, keys, values, hashes -/
abbrev ND : Type := (Nat → Nat) × (Nat → Nat) × (Nat → Nat) × (Nat → Int32)
abbrev nA (E : ND) : Nat → Nat := E.1
abbrev nK (E : ND) : Nat → Nat := E.2.1
abbrev nV (E : ND) : Nat → Nat := E.2.2.1
abbrev nH (E : ND) : Nat → Int32 := E.2.2.2
/-- a tree node's cell -/
def cTn (E : ND) (p : PT) (rd : Nat → Bool) (i : Nat) : va_E := .inr (29, [.null, .null, .int (nH E i), .ref (nK E i), .ref (nV E i), va_rf ((p 0 i).map (nA E)), va_rf ((p 1 i).map (nA E)), va_rf ((p 2 i).map (nA E)), va_rf ((p 3 i).map (nA E)), va_rf ((p 4 i).map (nA E)), .int (bI (rd i))])
/-- the tree nodes of G lie in the heap -/
def TnH (h : AH) (G : Nat → Prop) (E : ND) (p : PT) (rd : Nat → Bool) : Prop := (∀ i, G i → h (nA E i) = some (cTn E p rd i)) ∧ ∀ i j, G i → G j → nA E i = nA E j → i = j
/-- all else is kept -/
def FrT (G : Nat → Prop) (E : ND) (h h' : AH) : Prop := ∀ q e, h q = some e → (∀ i, G i → q ≠ nA E i) → h' q = some e
theorem FrT.rf {G : Nat → Prop} {E : ND} {h : AH} : FrT G E h h := fun _ _ q _ => q
theorem FrT.put {G : Nat → Prop} {E : ND} {h h1 : AH} {i : Nat} {e : va_E} (hF : FrT G E h h1) (hi : G i) : FrT G E h (up h1 (nA E i) e) := fun q e' hq hn => by
  rw [up_n (hn i hi)]; exact hF q e' hq hn
theorem FrT.tr {G : Nat → Prop} {E : ND} {h h1 h2 : AH} (a : FrT G E h h1) (b : FrT G E h1 h2) : FrT G E h h2 := fun q e hq hn => b q e (a q e hq hn) hn
theorem TnH.wr {h : AH} {G : Nat → Prop} {E : ND} {p p' : PT} {rd rd' : Nat → Bool} {i : Nat} (hT : TnH h G E p rd) (hi : G i) (ho : ∀ j, j ≠ i → cTn E p' rd' j = cTn E p rd j) : TnH (up h (nA E i) (cTn E p' rd' i)) G E p' rd' := by
  refine ⟨fun j hj => ?_, hT.2⟩
  by_cases e : j = i
  · rw [e, up_s]
  · rw [up_n (fun q => e (hT.2 j i hj hi q)), ho j e]; exact hT.1 j hj
theorem cTn_o {E : ND} {p : PT} {rd : Nat → Bool} {f i j : Nat} {o : Option Nat} (h : j ≠ i) : cTn E (pst p f i o) rd j = cTn E p rd j := by
  unfold cTn
  rw [pst_i h, pst_i h, pst_i h, pst_i h, pst_i h]
theorem TnH.p0 {h : AH} {G : Nat → Prop} {E : ND} {p : PT} {rd : Nat → Bool} {i : Nat} {o : Option Nat} (hT : TnH h G E p rd) (hi : G i) : TnH (up h (nA E i) (.inr (29, [.null, .null, .int (nH E i), .ref (nK E i), .ref (nV E i), va_rf (o.map (nA E)), va_rf ((p 1 i).map (nA E)), va_rf ((p 2 i).map (nA E)), va_rf ((p 3 i).map (nA E)), va_rf ((p 4 i).map (nA E)), .int (bI (rd i))]))) G E (pst p 0 i o) rd := by
  have := hT.wr (p' := pst p 0 i o) (rd' := rd) hi (fun j hj => cTn_o hj)
  unfold cTn at this
  rw [pst_e, @pst_f p 0 i 1 i o (by decide), @pst_f p 0 i 2 i o (by decide), @pst_f p 0 i 3 i o (by decide), @pst_f p 0 i 4 i o (by decide)] at this
  exact this
theorem TnH.p1 {h : AH} {G : Nat → Prop} {E : ND} {p : PT} {rd : Nat → Bool} {i : Nat} {o : Option Nat} (hT : TnH h G E p rd) (hi : G i) : TnH (up h (nA E i) (.inr (29, [.null, .null, .int (nH E i), .ref (nK E i), .ref (nV E i), va_rf ((p 0 i).map (nA E)), va_rf (o.map (nA E)), va_rf ((p 2 i).map (nA E)), va_rf ((p 3 i).map (nA E)), va_rf ((p 4 i).map (nA E)), .int (bI (rd i))]))) G E (pst p 1 i o) rd := by
  have := hT.wr (p' := pst p 1 i o) (rd' := rd) hi (fun j hj => cTn_o hj)
  unfold cTn at this
  rw [@pst_f p 1 i 0 i o (by decide), pst_e, @pst_f p 1 i 2 i o (by decide), @pst_f p 1 i 3 i o (by decide), @pst_f p 1 i 4 i o (by decide)] at this
  exact this
theorem TnH.p2 {h : AH} {G : Nat → Prop} {E : ND} {p : PT} {rd : Nat → Bool} {i : Nat} {o : Option Nat} (hT : TnH h G E p rd) (hi : G i) : TnH (up h (nA E i) (.inr (29, [.null, .null, .int (nH E i), .ref (nK E i), .ref (nV E i), va_rf ((p 0 i).map (nA E)), va_rf ((p 1 i).map (nA E)), va_rf (o.map (nA E)), va_rf ((p 3 i).map (nA E)), va_rf ((p 4 i).map (nA E)), .int (bI (rd i))]))) G E (pst p 2 i o) rd := by
  have := hT.wr (p' := pst p 2 i o) (rd' := rd) hi (fun j hj => cTn_o hj)
  unfold cTn at this
  rw [@pst_f p 2 i 0 i o (by decide), @pst_f p 2 i 1 i o (by decide), pst_e, @pst_f p 2 i 3 i o (by decide), @pst_f p 2 i 4 i o (by decide)] at this
  exact this
theorem TnH.p3 {h : AH} {G : Nat → Prop} {E : ND} {p : PT} {rd : Nat → Bool} {i : Nat} {o : Option Nat} (hT : TnH h G E p rd) (hi : G i) : TnH (up h (nA E i) (.inr (29, [.null, .null, .int (nH E i), .ref (nK E i), .ref (nV E i), va_rf ((p 0 i).map (nA E)), va_rf ((p 1 i).map (nA E)), va_rf ((p 2 i).map (nA E)), va_rf (o.map (nA E)), va_rf ((p 4 i).map (nA E)), .int (bI (rd i))]))) G E (pst p 3 i o) rd := by
  have := hT.wr (p' := pst p 3 i o) (rd' := rd) hi (fun j hj => cTn_o hj)
  unfold cTn at this
  rw [@pst_f p 3 i 0 i o (by decide), @pst_f p 3 i 1 i o (by decide), @pst_f p 3 i 2 i o (by decide), pst_e, @pst_f p 3 i 4 i o (by decide)] at this
  exact this
theorem TnH.p4 {h : AH} {G : Nat → Prop} {E : ND} {p : PT} {rd : Nat → Bool} {i : Nat} {o : Option Nat} (hT : TnH h G E p rd) (hi : G i) : TnH (up h (nA E i) (.inr (29, [.null, .null, .int (nH E i), .ref (nK E i), .ref (nV E i), va_rf ((p 0 i).map (nA E)), va_rf ((p 1 i).map (nA E)), va_rf ((p 2 i).map (nA E)), va_rf ((p 3 i).map (nA E)), va_rf (o.map (nA E)), .int (bI (rd i))]))) G E (pst p 4 i o) rd := by
  have := hT.wr (p' := pst p 4 i o) (rd' := rd) hi (fun j hj => cTn_o hj)
  unfold cTn at this
  rw [@pst_f p 4 i 0 i o (by decide), @pst_f p 4 i 1 i o (by decide), @pst_f p 4 i 2 i o (by decide), @pst_f p 4 i 3 i o (by decide), pst_e] at this
  exact this
theorem TnH.red {h : AH} {G : Nat → Prop} {E : ND} {p : PT} {rd : Nat → Bool} {i : Nat} {b : Bool} (hT : TnH h G E p rd) (hi : G i) : TnH (up h (nA E i) (.inr (29, [.null, .null, .int (nH E i), .ref (nK E i), .ref (nV E i), va_rf ((p 0 i).map (nA E)), va_rf ((p 1 i).map (nA E)), va_rf ((p 2 i).map (nA E)), va_rf ((p 3 i).map (nA E)), va_rf ((p 4 i).map (nA E)), .int (bI b)]))) G E p (va_up rd i b) := by
  have := hT.wr (p' := p) (rd' := va_up rd i b) hi (fun j hj => by unfold cTn; rw [va_ne hj])
  unfold cTn at this
  rw [va_eq] at this
  exact this
/-- what a rotation leaves -/
def RoP (z : ZR) (h : AH) (G : Nat → Prop) (E : ND) (rd : Nat → Bool) (p p' : PT) (x r rt : Nat) : Oc → ZR → AH → Prop := Rv (fun v z' h' => z' = z ∧ v = .ref (nA E (rotT p x r rt)) ∧ TnH h' G E p' (if p 1 x = none then va_up rd r false else rd) ∧ FrT G E h h')
theorem opm {h : AH} {G : Nat → Prop} {E : ND} {p : PT} {rd : Nat → Bool} {o : Option Nat} {x : Nat} (hT : TnH h G E p rd) (gx : G x) (hq : o.map (nA E) = some (nA E x)) (hg : ∀ j, o = some j → G j) : o = some x := by
  cases o with
  | none => cases hq
  | some j => rw [hT.2 j x (hg j rfl) gx (Option.some.inj hq)]
set_option maxHeartbeats 2000000 in
theorem ct_J28_rotateLeft {l : Launch} {Γ : Gm} (hl : l.flags = flags0) (hΓ : GOK Γ) {z : ZR} {h : AH} {G : Nat → Prop} {lt : Nat → Nat → Prop} {E : ND} {p : PT} {rd : Nat → Bool} {D : Nat → List Nat} {x r rt : Nat} (hT : TnH h G E p rd) (hG : TrG G lt p D rt) (gx : G x) (hr : p 3 x = some r) : Ct l Γ yJ28_rotateLeft cJ28_rotateLeft 5 (some (.object "java/util/HashMap$TreeNode")) 1 0 0 [.ref (nA E rt), .ref (nA E x)] z h (RoP z h G E rd p (rotL p x r) x r rt) := by
  refine Ct.of hl hΓ (by decide +kernel) (Nat.le_of_ble_eq_true rfl) (fun X e1 e2 C => ?_)
  subst e1; subst e2
  have C : Cx X cJ28_rotateLeft 5 "java/util/HashMap$TreeNode" "rotateLeft" (some (.object "java/util/HashMap$TreeNode")) [] 1 := C
  have gr : G r := (hG.2.1 x r gx (Or.inr hr)).1
  obtain ⟨hxr, n1, n2, n3, n4⟩ := hG.rne gx hr
  have hF : FrT G E h h := FrT.rf
  show WW X (RoP z h G E rd p (rotL p x r) x r rt) z h 0 0 0 [(0, .ref (nA E rt)), (1, .ref (nA E x))] []
  refine ww_aload_n C dJ28_rotateLeft_0 rfl 1 rfl rfl ?_
  refine ww_ifnull_f C dJ28_rotateLeft_1 ?_
  refine ww_aload_n C dJ28_rotateLeft_4 rfl 1 rfl rfl ?_
  refine gf_J28_42_J28 C dJ28_rotateLeft_5 (Or.inl (hT.1 x gx)) rfl ?_
  refine ww_st (st' := [.ref (nA E r)]) (by rw [hr]; rfl) ?_
  refine ww_dup C dJ28_rotateLeft_8 rfl ?_
  refine ww_astore_n (lv' := [(2, .ref (nA E r)), (0, .ref (nA E rt)), (1, .ref (nA E x))]) C dJ28_rotateLeft_9 rfl (by decide) rfl rfl ?_
  refine ww_ifnull_f C dJ28_rotateLeft_10 ?_
  refine ww_aload_n C dJ28_rotateLeft_13 rfl 2 rfl rfl ?_
  refine ww_aload_n C dJ28_rotateLeft_14 rfl 0 rfl rfl ?_
  refine gf_J28_39_J28 C dJ28_rotateLeft_15 (Or.inl (hT.1 r gr)) rfl ?_
  refine ww_dup_x1 C dJ28_rotateLeft_18 (va_rf_cat _) rfl ?_
  refine pf_J28_42_J28 (fs' := [.null, .null, .int (nH E x), .ref (nK E x), .ref (nV E x), va_rf ((p 0 x).map (nA E)), va_rf ((p 1 x).map (nA E)), va_rf ((p 2 x).map (nA E)), va_rf ((p 2 r).map (nA E)), va_rf ((p 4 x).map (nA E)), .int (bI (rd x))]) C dJ28_rotateLeft_19 (hT.1 x gx) (va_rf_nar _) (va_rf_fit _) (Nat.le_of_ble_eq_true rfl) rfl ?_
  refine ww_gen (fun h1 hE1 => ?_)
  obtain ⟨p1, ep1⟩ : ∃ Q9, Q9 = pst p 3 x (p 2 r) := ⟨_, rfl⟩
  have hT1 : TnH h1 G E p1 rd := by rw [ep1, hE1]; exact hT.p3 (o := (p 2 r)) gx
  have hF1 : FrT G E h h1 := by rw [hE1]; exact hF.put gx
  refine ww_dup C dJ28_rotateLeft_22 (va_rf_cat _) ?_
  refine ww_astore (lv' := [(4, va_rf ((p 2 r).map (nA E))), (2, .ref (nA E r)), (0, .ref (nA E rt)), (1, .ref (nA E x))]) C dJ28_rotateLeft_23 (by decide) (va_rf_isRef _) rfl ?_
  rcases h_c : p 2 r with _ | c
  · skip
    show WW X (RoP z h G E rd p (rotL p x r) x r rt) z h1 0 0 25 [(4, .null), (2, .ref (nA E r)), (0, .ref (nA E rt)), (1, .ref (nA E x))] [.null]
    refine ww_ifnull_t (tgt := 34) C dJ28_rotateLeft_25 (by decide) ?_
    have q1x : p1 1 x = p 1 x := by rw [ep1, pst_f (by decide)]
    refine ww_aload_n C dJ28_rotateLeft_34 rfl 1 rfl rfl ?_
    refine ww_aload_n C dJ28_rotateLeft_35 rfl 3 rfl rfl ?_
    refine gf_J28_9_J28 C dJ28_rotateLeft_36 (Or.inl (hT1.1 x gx)) rfl ?_
    refine ww_st (st' := [va_rf ((p 1 x).map (nA E)), .ref (nA E r)]) (by rw [q1x]) ?_
    refine ww_dup_x1 C dJ28_rotateLeft_39 (va_rf_cat _) rfl ?_
    refine pf_J28_9_J28 (fs' := [.null, .null, .int (nH E r), .ref (nK E r), .ref (nV E r), va_rf ((p1 0 r).map (nA E)), va_rf ((p 1 x).map (nA E)), va_rf ((p1 2 r).map (nA E)), va_rf ((p1 3 r).map (nA E)), va_rf ((p1 4 r).map (nA E)), .int (bI (rd r))]) C dJ28_rotateLeft_40 (hT1.1 r gr) (va_rf_nar _) (va_rf_fit _) (Nat.le_of_ble_eq_true rfl) rfl ?_
    refine ww_gen (fun h2 hE2 => ?_)
    obtain ⟨p2, ep2⟩ : ∃ Q9, Q9 = pst p1 1 r (p 1 x) := ⟨_, rfl⟩
    have hT2 : TnH h2 G E p2 rd := by rw [ep2, hE2]; exact hT1.p1 (o := (p 1 x)) gr
    have hF2 : FrT G E h h2 := by rw [hE2]; exact hF1.put gr
    refine ww_dup C dJ28_rotateLeft_43 (va_rf_cat _) ?_
    refine ww_astore_n (lv' := [(3, va_rf ((p 1 x).map (nA E))), (4, .null), (2, .ref (nA E r)), (0, .ref (nA E rt)), (1, .ref (nA E x))]) C dJ28_rotateLeft_44 rfl (by decide) (va_rf_isRef _) rfl ?_
    rcases h_k : p 1 x with _ | k
    · skip
      show WW X (RoP z h G E rd p (rotL p x r) x r rt) z h2 0 0 45 [(3, .null), (4, .null), (2, .ref (nA E r)), (0, .ref (nA E rt)), (1, .ref (nA E x))] [.null]
      refine ww_ifnonnull_f C dJ28_rotateLeft_45 ?_
      refine ww_aload_n C dJ28_rotateLeft_48 rfl 2 rfl rfl ?_
      refine ww_dup C dJ28_rotateLeft_49 rfl ?_
      refine ww_astore_n (lv' := [(0, .ref (nA E r)), (3, .null), (4, .null), (2, .ref (nA E r)), (1, .ref (nA E x))]) C dJ28_rotateLeft_50 rfl (by decide) rfl rfl ?_
      refine ww_iconst C dJ28_rotateLeft_51 cI_0 ?_
      refine pf_J28_93_J28 (fs' := [.null, .null, .int (nH E r), .ref (nK E r), .ref (nV E r), va_rf ((p2 0 r).map (nA E)), va_rf ((p2 1 r).map (nA E)), va_rf ((p2 2 r).map (nA E)), va_rf ((p2 3 r).map (nA E)), va_rf ((p2 4 r).map (nA E)), .int (nI 0)]) C dJ28_rotateLeft_52 (hT2.1 r gr) nar_z0 fit_z0 (Nat.le_of_ble_eq_true rfl) rfl ?_
      refine ww_gen (fun h3 hE3 => ?_)
      obtain ⟨rd3, erd3⟩ : ∃ Q9, Q9 = va_up rd r false := ⟨_, rfl⟩
      have hT3 : TnH h3 G E p2 rd3 := by rw [erd3, hE3]; exact hT2.red (b := false) gr
      have hF3 : FrT G E h h3 := by rw [hE3]; exact hF2.put gr
      refine ww_goto (tgt := 79) C dJ28_rotateLeft_55 (by decide) ?_
      refine ww_aload_n C dJ28_rotateLeft_79 rfl 3 rfl rfl ?_
      refine ww_aload_n C dJ28_rotateLeft_80 rfl 4 rfl rfl ?_
      refine pf_J28_39_J28 (fs' := [.null, .null, .int (nH E r), .ref (nK E r), .ref (nV E r), va_rf ((p2 0 r).map (nA E)), va_rf ((p2 1 r).map (nA E)), .ref (nA E x), va_rf ((p2 3 r).map (nA E)), va_rf ((p2 4 r).map (nA E)), .int (bI (rd3 r))]) C dJ28_rotateLeft_81 (hT3.1 r gr) rfl rfl (Nat.le_of_ble_eq_true rfl) rfl ?_
      refine ww_gen (fun h4 hE4 => ?_)
      obtain ⟨p4, ep4⟩ : ∃ Q9, Q9 = pst p2 2 r (some x) := ⟨_, rfl⟩
      have hT4 : TnH h4 G E p4 rd3 := by rw [ep4, hE4]; exact hT3.p2 (o := (some x)) gr
      have hF4 : FrT G E h h4 := by rw [hE4]; exact hF3.put gr
      refine ww_aload_n C dJ28_rotateLeft_84 rfl 4 rfl rfl ?_
      refine ww_aload_n C dJ28_rotateLeft_85 rfl 3 rfl rfl ?_
      refine pf_J28_9_J28 (fs' := [.null, .null, .int (nH E x), .ref (nK E x), .ref (nV E x), va_rf ((p4 0 x).map (nA E)), .ref (nA E r), va_rf ((p4 2 x).map (nA E)), va_rf ((p4 3 x).map (nA E)), va_rf ((p4 4 x).map (nA E)), .int (bI (rd3 x))]) C dJ28_rotateLeft_86 (hT4.1 x gx) rfl rfl (Nat.le_of_ble_eq_true rfl) rfl ?_
      refine ww_gen (fun h5 hE5 => ?_)
      obtain ⟨p5, ep5⟩ : ∃ Q9, Q9 = pst p4 1 x (some r) := ⟨_, rfl⟩
      have hT5 : TnH h5 G E p5 rd3 := by rw [ep5, hE5]; exact hT4.p1 (o := (some r)) gx
      have hF5 : FrT G E h h5 := by rw [hE5]; exact hF4.put gx
      refine ww_aload_n C dJ28_rotateLeft_89 rfl 0 rfl rfl ?_
      have hfin : p5 = rotL p x r := by rw [ep5, ep4, ep2, ep1, ← rqe_eq hxr n1 n2 n3 n4]; unfold rqe rqd rqb; simp only [h_c, h_k]
      exact ww_aret C (Or.inl ⟨_, rfl⟩) dJ28_rotateLeft_90 rfl ⟨rfl, by unfold rotT; rw [if_pos h_k] <;> rfl, by rw [← hfin, if_pos h_k, ← erd3]; exact hT5, hF5⟩
    · skip
      show WW X (RoP z h G E rd p (rotL p x r) x r rt) z h2 0 0 45 [(3, .ref (nA E k)), (4, .null), (2, .ref (nA E r)), (0, .ref (nA E rt)), (1, .ref (nA E x))] [.ref (nA E k)]
      have gk : G k := (hG.len1 gx h_k).1
      have hkx : k ≠ x := fun e => n2 (by rw [h_k, e])
      have hkr : k ≠ r := fun e => n1 (by rw [h_k, e])
      refine ww_ifnonnull_t (tgt := 58) C dJ28_rotateLeft_45 (by decide) ?_
      refine ww_aload_n C dJ28_rotateLeft_58 rfl 0 rfl rfl ?_
      refine gf_J28_39_J28 C dJ28_rotateLeft_59 (Or.inl (hT2.1 k gk)) rfl ?_
      have q2k : p2 2 k = p 2 k := by rw [ep2, pst_f (by decide), ep1, pst_f (by decide)]
      refine ww_st (st' := [va_rf ((p 2 k).map (nA E))]) (by rw [q2k]) ?_
      refine ww_aload_n C dJ28_rotateLeft_62 rfl 4 rfl rfl ?_
      by_cases e4 : p 2 k = some x
      · skip
        refine ww_acmp_ne_f (rx := ((p 2 k).map (nA E))) (ry := (some (nA E x))) (tgt := 74) C dJ28_rotateLeft_63 (by decide) (by rw [e4]; rfl) ?_
        refine ww_aload_n C dJ28_rotateLeft_66 rfl 0 rfl rfl ?_
        refine ww_aload_n C dJ28_rotateLeft_67 rfl 2 rfl rfl ?_
        refine pf_J28_39_J28 (fs' := [.null, .null, .int (nH E k), .ref (nK E k), .ref (nV E k), va_rf ((p2 0 k).map (nA E)), va_rf ((p2 1 k).map (nA E)), .ref (nA E r), va_rf ((p2 3 k).map (nA E)), va_rf ((p2 4 k).map (nA E)), .int (bI (rd k))]) C dJ28_rotateLeft_68 (hT2.1 k gk) rfl rfl (Nat.le_of_ble_eq_true rfl) rfl ?_
        refine ww_gen (fun h6 hE6 => ?_)
        obtain ⟨p6, ep6⟩ : ∃ Q9, Q9 = pst p2 2 k (some r) := ⟨_, rfl⟩
        have hT6 : TnH h6 G E p6 rd := by rw [ep6, hE6]; exact hT2.p2 (o := (some r)) gk
        have hF6 : FrT G E h h6 := by rw [hE6]; exact hF2.put gk
        refine ww_goto (tgt := 79) C dJ28_rotateLeft_71 (by decide) ?_
        refine ww_aload_n C dJ28_rotateLeft_79 rfl 2 rfl rfl ?_
        refine ww_aload_n C dJ28_rotateLeft_80 rfl 4 rfl rfl ?_
        refine pf_J28_39_J28 (fs' := [.null, .null, .int (nH E r), .ref (nK E r), .ref (nV E r), va_rf ((p6 0 r).map (nA E)), va_rf ((p6 1 r).map (nA E)), .ref (nA E x), va_rf ((p6 3 r).map (nA E)), va_rf ((p6 4 r).map (nA E)), .int (bI (rd r))]) C dJ28_rotateLeft_81 (hT6.1 r gr) rfl rfl (Nat.le_of_ble_eq_true rfl) rfl ?_
        refine ww_gen (fun h7 hE7 => ?_)
        obtain ⟨p7, ep7⟩ : ∃ Q9, Q9 = pst p6 2 r (some x) := ⟨_, rfl⟩
        have hT7 : TnH h7 G E p7 rd := by rw [ep7, hE7]; exact hT6.p2 (o := (some x)) gr
        have hF7 : FrT G E h h7 := by rw [hE7]; exact hF6.put gr
        refine ww_aload_n C dJ28_rotateLeft_84 rfl 4 rfl rfl ?_
        refine ww_aload_n C dJ28_rotateLeft_85 rfl 2 rfl rfl ?_
        refine pf_J28_9_J28 (fs' := [.null, .null, .int (nH E x), .ref (nK E x), .ref (nV E x), va_rf ((p7 0 x).map (nA E)), .ref (nA E r), va_rf ((p7 2 x).map (nA E)), va_rf ((p7 3 x).map (nA E)), va_rf ((p7 4 x).map (nA E)), .int (bI (rd x))]) C dJ28_rotateLeft_86 (hT7.1 x gx) rfl rfl (Nat.le_of_ble_eq_true rfl) rfl ?_
        refine ww_gen (fun h8 hE8 => ?_)
        obtain ⟨p8, ep8⟩ : ∃ Q9, Q9 = pst p7 1 x (some r) := ⟨_, rfl⟩
        have hT8 : TnH h8 G E p8 rd := by rw [ep8, hE8]; exact hT7.p1 (o := (some r)) gx
        have hF8 : FrT G E h h8 := by rw [hE8]; exact hF7.put gx
        refine ww_aload_n C dJ28_rotateLeft_89 rfl 3 rfl rfl ?_
        have hfin : p8 = rotL p x r := by rw [ep8, ep7, ep6, ep2, ep1, ← rqe_eq hxr n1 n2 n3 n4]; unfold rqe rqd rqb; simp only [h_c, h_k, if_pos e4]
        exact ww_aret C (Or.inl ⟨_, rfl⟩) dJ28_rotateLeft_90 rfl ⟨rfl, by unfold rotT; rw [if_neg (by rw [h_k]; simp)] <;> rfl, by rw [← hfin, if_neg (by rw [h_k]; simp)]; exact hT8, hF8⟩
      · skip
        refine ww_acmp_ne_t (rx := ((p 2 k).map (nA E))) (ry := (some (nA E x))) (tgt := 74) C dJ28_rotateLeft_63 (by decide) (fun q => e4 (opm hT gx (by first | exact q | exact Classical.not_not.mp q) (fun j hj => (hG.2.1 k j gk (Or.inl hj)).1))) ?_
        refine ww_aload_n C dJ28_rotateLeft_74 rfl 0 rfl rfl ?_
        refine ww_aload_n C dJ28_rotateLeft_75 rfl 2 rfl rfl ?_
        refine pf_J28_42_J28 (fs' := [.null, .null, .int (nH E k), .ref (nK E k), .ref (nV E k), va_rf ((p2 0 k).map (nA E)), va_rf ((p2 1 k).map (nA E)), va_rf ((p2 2 k).map (nA E)), .ref (nA E r), va_rf ((p2 4 k).map (nA E)), .int (bI (rd k))]) C dJ28_rotateLeft_76 (hT2.1 k gk) rfl rfl (Nat.le_of_ble_eq_true rfl) rfl ?_
        refine ww_gen (fun h9 hE9 => ?_)
        obtain ⟨p9, ep9⟩ : ∃ Q9, Q9 = pst p2 3 k (some r) := ⟨_, rfl⟩
        have hT9 : TnH h9 G E p9 rd := by rw [ep9, hE9]; exact hT2.p3 (o := (some r)) gk
        have hF9 : FrT G E h h9 := by rw [hE9]; exact hF2.put gk
        refine ww_aload_n C dJ28_rotateLeft_79 rfl 2 rfl rfl ?_
        refine ww_aload_n C dJ28_rotateLeft_80 rfl 4 rfl rfl ?_
        refine pf_J28_39_J28 (fs' := [.null, .null, .int (nH E r), .ref (nK E r), .ref (nV E r), va_rf ((p9 0 r).map (nA E)), va_rf ((p9 1 r).map (nA E)), .ref (nA E x), va_rf ((p9 3 r).map (nA E)), va_rf ((p9 4 r).map (nA E)), .int (bI (rd r))]) C dJ28_rotateLeft_81 (hT9.1 r gr) rfl rfl (Nat.le_of_ble_eq_true rfl) rfl ?_
        refine ww_gen (fun h10 hE10 => ?_)
        obtain ⟨p10, ep10⟩ : ∃ Q9, Q9 = pst p9 2 r (some x) := ⟨_, rfl⟩
        have hT10 : TnH h10 G E p10 rd := by rw [ep10, hE10]; exact hT9.p2 (o := (some x)) gr
        have hF10 : FrT G E h h10 := by rw [hE10]; exact hF9.put gr
        refine ww_aload_n C dJ28_rotateLeft_84 rfl 4 rfl rfl ?_
        refine ww_aload_n C dJ28_rotateLeft_85 rfl 2 rfl rfl ?_
        refine pf_J28_9_J28 (fs' := [.null, .null, .int (nH E x), .ref (nK E x), .ref (nV E x), va_rf ((p10 0 x).map (nA E)), .ref (nA E r), va_rf ((p10 2 x).map (nA E)), va_rf ((p10 3 x).map (nA E)), va_rf ((p10 4 x).map (nA E)), .int (bI (rd x))]) C dJ28_rotateLeft_86 (hT10.1 x gx) rfl rfl (Nat.le_of_ble_eq_true rfl) rfl ?_
        refine ww_gen (fun h11 hE11 => ?_)
        obtain ⟨p11, ep11⟩ : ∃ Q9, Q9 = pst p10 1 x (some r) := ⟨_, rfl⟩
        have hT11 : TnH h11 G E p11 rd := by rw [ep11, hE11]; exact hT10.p1 (o := (some r)) gx
        have hF11 : FrT G E h h11 := by rw [hE11]; exact hF10.put gx
        refine ww_aload_n C dJ28_rotateLeft_89 rfl 3 rfl rfl ?_
        have hfin : p11 = rotL p x r := by rw [ep11, ep10, ep9, ep2, ep1, ← rqe_eq hxr n1 n2 n3 n4]; unfold rqe rqd rqb; simp only [h_c, h_k, if_neg e4]
        exact ww_aret C (Or.inl ⟨_, rfl⟩) dJ28_rotateLeft_90 rfl ⟨rfl, by unfold rotT; rw [if_neg (by rw [h_k]; simp)] <;> rfl, by rw [← hfin, if_neg (by rw [h_k]; simp)]; exact hT11, hF11⟩
  · skip
    show WW X (RoP z h G E rd p (rotL p x r) x r rt) z h1 0 0 25 [(4, .ref (nA E c)), (2, .ref (nA E r)), (0, .ref (nA E rt)), (1, .ref (nA E x))] [.ref (nA E c)]
    have gc : G c := (hG.2.1 r c gr (Or.inl h_c)).1
    have hcx : c ≠ x := fun e => n3 (by rw [h_c, e])
    refine ww_ifnull_f C dJ28_rotateLeft_25 ?_
    refine ww_aload C dJ28_rotateLeft_28 0 rfl rfl ?_
    refine ww_aload_n C dJ28_rotateLeft_30 rfl 3 rfl rfl ?_
    refine pf_J28_9_J28 (fs' := [.null, .null, .int (nH E c), .ref (nK E c), .ref (nV E c), va_rf ((p1 0 c).map (nA E)), .ref (nA E x), va_rf ((p1 2 c).map (nA E)), va_rf ((p1 3 c).map (nA E)), va_rf ((p1 4 c).map (nA E)), .int (bI (rd c))]) C dJ28_rotateLeft_31 (hT1.1 c gc) rfl rfl (Nat.le_of_ble_eq_true rfl) rfl ?_
    refine ww_gen (fun h12 hE12 => ?_)
    obtain ⟨p12, ep12⟩ : ∃ Q9, Q9 = pst p1 1 c (some x) := ⟨_, rfl⟩
    have hT12 : TnH h12 G E p12 rd := by rw [ep12, hE12]; exact hT1.p1 (o := (some x)) gc
    have hF12 : FrT G E h h12 := by rw [hE12]; exact hF1.put gc
    have q1x : p12 1 x = p 1 x := by rw [ep12, pst_i (Ne.symm hcx), ep1, pst_f (by decide)]
    refine ww_aload_n C dJ28_rotateLeft_34 rfl 1 rfl rfl ?_
    refine ww_aload_n C dJ28_rotateLeft_35 rfl 3 rfl rfl ?_
    refine gf_J28_9_J28 C dJ28_rotateLeft_36 (Or.inl (hT12.1 x gx)) rfl ?_
    refine ww_st (st' := [va_rf ((p 1 x).map (nA E)), .ref (nA E r)]) (by rw [q1x]) ?_
    refine ww_dup_x1 C dJ28_rotateLeft_39 (va_rf_cat _) rfl ?_
    refine pf_J28_9_J28 (fs' := [.null, .null, .int (nH E r), .ref (nK E r), .ref (nV E r), va_rf ((p12 0 r).map (nA E)), va_rf ((p 1 x).map (nA E)), va_rf ((p12 2 r).map (nA E)), va_rf ((p12 3 r).map (nA E)), va_rf ((p12 4 r).map (nA E)), .int (bI (rd r))]) C dJ28_rotateLeft_40 (hT12.1 r gr) (va_rf_nar _) (va_rf_fit _) (Nat.le_of_ble_eq_true rfl) rfl ?_
    refine ww_gen (fun h13 hE13 => ?_)
    obtain ⟨p13, ep13⟩ : ∃ Q9, Q9 = pst p12 1 r (p 1 x) := ⟨_, rfl⟩
    have hT13 : TnH h13 G E p13 rd := by rw [ep13, hE13]; exact hT12.p1 (o := (p 1 x)) gr
    have hF13 : FrT G E h h13 := by rw [hE13]; exact hF12.put gr
    refine ww_dup C dJ28_rotateLeft_43 (va_rf_cat _) ?_
    refine ww_astore_n (lv' := [(3, va_rf ((p 1 x).map (nA E))), (4, .ref (nA E c)), (2, .ref (nA E r)), (0, .ref (nA E rt)), (1, .ref (nA E x))]) C dJ28_rotateLeft_44 rfl (by decide) (va_rf_isRef _) rfl ?_
    rcases h_k : p 1 x with _ | k
    · skip
      show WW X (RoP z h G E rd p (rotL p x r) x r rt) z h13 0 0 45 [(3, .null), (4, .ref (nA E c)), (2, .ref (nA E r)), (0, .ref (nA E rt)), (1, .ref (nA E x))] [.null]
      refine ww_ifnonnull_f C dJ28_rotateLeft_45 ?_
      refine ww_aload_n C dJ28_rotateLeft_48 rfl 2 rfl rfl ?_
      refine ww_dup C dJ28_rotateLeft_49 rfl ?_
      refine ww_astore_n (lv' := [(0, .ref (nA E r)), (3, .null), (4, .ref (nA E c)), (2, .ref (nA E r)), (1, .ref (nA E x))]) C dJ28_rotateLeft_50 rfl (by decide) rfl rfl ?_
      refine ww_iconst C dJ28_rotateLeft_51 cI_0 ?_
      refine pf_J28_93_J28 (fs' := [.null, .null, .int (nH E r), .ref (nK E r), .ref (nV E r), va_rf ((p13 0 r).map (nA E)), va_rf ((p13 1 r).map (nA E)), va_rf ((p13 2 r).map (nA E)), va_rf ((p13 3 r).map (nA E)), va_rf ((p13 4 r).map (nA E)), .int (nI 0)]) C dJ28_rotateLeft_52 (hT13.1 r gr) nar_z0 fit_z0 (Nat.le_of_ble_eq_true rfl) rfl ?_
      refine ww_gen (fun h14 hE14 => ?_)
      obtain ⟨rd14, erd14⟩ : ∃ Q9, Q9 = va_up rd r false := ⟨_, rfl⟩
      have hT14 : TnH h14 G E p13 rd14 := by rw [erd14, hE14]; exact hT13.red (b := false) gr
      have hF14 : FrT G E h h14 := by rw [hE14]; exact hF13.put gr
      refine ww_goto (tgt := 79) C dJ28_rotateLeft_55 (by decide) ?_
      refine ww_aload_n C dJ28_rotateLeft_79 rfl 3 rfl rfl ?_
      refine ww_aload_n C dJ28_rotateLeft_80 rfl 4 rfl rfl ?_
      refine pf_J28_39_J28 (fs' := [.null, .null, .int (nH E r), .ref (nK E r), .ref (nV E r), va_rf ((p13 0 r).map (nA E)), va_rf ((p13 1 r).map (nA E)), .ref (nA E x), va_rf ((p13 3 r).map (nA E)), va_rf ((p13 4 r).map (nA E)), .int (bI (rd14 r))]) C dJ28_rotateLeft_81 (hT14.1 r gr) rfl rfl (Nat.le_of_ble_eq_true rfl) rfl ?_
      refine ww_gen (fun h15 hE15 => ?_)
      obtain ⟨p15, ep15⟩ : ∃ Q9, Q9 = pst p13 2 r (some x) := ⟨_, rfl⟩
      have hT15 : TnH h15 G E p15 rd14 := by rw [ep15, hE15]; exact hT14.p2 (o := (some x)) gr
      have hF15 : FrT G E h h15 := by rw [hE15]; exact hF14.put gr
      refine ww_aload_n C dJ28_rotateLeft_84 rfl 4 rfl rfl ?_
      refine ww_aload_n C dJ28_rotateLeft_85 rfl 3 rfl rfl ?_
      refine pf_J28_9_J28 (fs' := [.null, .null, .int (nH E x), .ref (nK E x), .ref (nV E x), va_rf ((p15 0 x).map (nA E)), .ref (nA E r), va_rf ((p15 2 x).map (nA E)), va_rf ((p15 3 x).map (nA E)), va_rf ((p15 4 x).map (nA E)), .int (bI (rd14 x))]) C dJ28_rotateLeft_86 (hT15.1 x gx) rfl rfl (Nat.le_of_ble_eq_true rfl) rfl ?_
      refine ww_gen (fun h16 hE16 => ?_)
      obtain ⟨p16, ep16⟩ : ∃ Q9, Q9 = pst p15 1 x (some r) := ⟨_, rfl⟩
      have hT16 : TnH h16 G E p16 rd14 := by rw [ep16, hE16]; exact hT15.p1 (o := (some r)) gx
      have hF16 : FrT G E h h16 := by rw [hE16]; exact hF15.put gx
      refine ww_aload_n C dJ28_rotateLeft_89 rfl 0 rfl rfl ?_
      have hfin : p16 = rotL p x r := by rw [ep16, ep15, ep13, ep12, ep1, ← rqe_eq hxr n1 n2 n3 n4]; unfold rqe rqd rqb; simp only [h_c, h_k]
      exact ww_aret C (Or.inl ⟨_, rfl⟩) dJ28_rotateLeft_90 rfl ⟨rfl, by unfold rotT; rw [if_pos h_k] <;> rfl, by rw [← hfin, if_pos h_k, ← erd14]; exact hT16, hF16⟩
    · skip
      show WW X (RoP z h G E rd p (rotL p x r) x r rt) z h13 0 0 45 [(3, .ref (nA E k)), (4, .ref (nA E c)), (2, .ref (nA E r)), (0, .ref (nA E rt)), (1, .ref (nA E x))] [.ref (nA E k)]
      have gk : G k := (hG.len1 gx h_k).1
      have hkx : k ≠ x := fun e => n2 (by rw [h_k, e])
      have hkr : k ≠ r := fun e => n1 (by rw [h_k, e])
      refine ww_ifnonnull_t (tgt := 58) C dJ28_rotateLeft_45 (by decide) ?_
      refine ww_aload_n C dJ28_rotateLeft_58 rfl 0 rfl rfl ?_
      refine gf_J28_39_J28 C dJ28_rotateLeft_59 (Or.inl (hT13.1 k gk)) rfl ?_
      have q2k : p13 2 k = p 2 k := by rw [ep13, pst_f (by decide), ep12, pst_f (by decide), ep1, pst_f (by decide)]
      refine ww_st (st' := [va_rf ((p 2 k).map (nA E))]) (by rw [q2k]) ?_
      refine ww_aload_n C dJ28_rotateLeft_62 rfl 4 rfl rfl ?_
      by_cases e4 : p 2 k = some x
      · skip
        refine ww_acmp_ne_f (rx := ((p 2 k).map (nA E))) (ry := (some (nA E x))) (tgt := 74) C dJ28_rotateLeft_63 (by decide) (by rw [e4]; rfl) ?_
        refine ww_aload_n C dJ28_rotateLeft_66 rfl 0 rfl rfl ?_
        refine ww_aload_n C dJ28_rotateLeft_67 rfl 2 rfl rfl ?_
        refine pf_J28_39_J28 (fs' := [.null, .null, .int (nH E k), .ref (nK E k), .ref (nV E k), va_rf ((p13 0 k).map (nA E)), va_rf ((p13 1 k).map (nA E)), .ref (nA E r), va_rf ((p13 3 k).map (nA E)), va_rf ((p13 4 k).map (nA E)), .int (bI (rd k))]) C dJ28_rotateLeft_68 (hT13.1 k gk) rfl rfl (Nat.le_of_ble_eq_true rfl) rfl ?_
        refine ww_gen (fun h17 hE17 => ?_)
        obtain ⟨p17, ep17⟩ : ∃ Q9, Q9 = pst p13 2 k (some r) := ⟨_, rfl⟩
        have hT17 : TnH h17 G E p17 rd := by rw [ep17, hE17]; exact hT13.p2 (o := (some r)) gk
        have hF17 : FrT G E h h17 := by rw [hE17]; exact hF13.put gk
        refine ww_goto (tgt := 79) C dJ28_rotateLeft_71 (by decide) ?_
        refine ww_aload_n C dJ28_rotateLeft_79 rfl 2 rfl rfl ?_
        refine ww_aload_n C dJ28_rotateLeft_80 rfl 4 rfl rfl ?_
        refine pf_J28_39_J28 (fs' := [.null, .null, .int (nH E r), .ref (nK E r), .ref (nV E r), va_rf ((p17 0 r).map (nA E)), va_rf ((p17 1 r).map (nA E)), .ref (nA E x), va_rf ((p17 3 r).map (nA E)), va_rf ((p17 4 r).map (nA E)), .int (bI (rd r))]) C dJ28_rotateLeft_81 (hT17.1 r gr) rfl rfl (Nat.le_of_ble_eq_true rfl) rfl ?_
        refine ww_gen (fun h18 hE18 => ?_)
        obtain ⟨p18, ep18⟩ : ∃ Q9, Q9 = pst p17 2 r (some x) := ⟨_, rfl⟩
        have hT18 : TnH h18 G E p18 rd := by rw [ep18, hE18]; exact hT17.p2 (o := (some x)) gr
        have hF18 : FrT G E h h18 := by rw [hE18]; exact hF17.put gr
        refine ww_aload_n C dJ28_rotateLeft_84 rfl 4 rfl rfl ?_
        refine ww_aload_n C dJ28_rotateLeft_85 rfl 2 rfl rfl ?_
        refine pf_J28_9_J28 (fs' := [.null, .null, .int (nH E x), .ref (nK E x), .ref (nV E x), va_rf ((p18 0 x).map (nA E)), .ref (nA E r), va_rf ((p18 2 x).map (nA E)), va_rf ((p18 3 x).map (nA E)), va_rf ((p18 4 x).map (nA E)), .int (bI (rd x))]) C dJ28_rotateLeft_86 (hT18.1 x gx) rfl rfl (Nat.le_of_ble_eq_true rfl) rfl ?_
        refine ww_gen (fun h19 hE19 => ?_)
        obtain ⟨p19, ep19⟩ : ∃ Q9, Q9 = pst p18 1 x (some r) := ⟨_, rfl⟩
        have hT19 : TnH h19 G E p19 rd := by rw [ep19, hE19]; exact hT18.p1 (o := (some r)) gx
        have hF19 : FrT G E h h19 := by rw [hE19]; exact hF18.put gx
        refine ww_aload_n C dJ28_rotateLeft_89 rfl 3 rfl rfl ?_
        have hfin : p19 = rotL p x r := by rw [ep19, ep18, ep17, ep13, ep12, ep1, ← rqe_eq hxr n1 n2 n3 n4]; unfold rqe rqd rqb; simp only [h_c, h_k, if_pos e4]
        exact ww_aret C (Or.inl ⟨_, rfl⟩) dJ28_rotateLeft_90 rfl ⟨rfl, by unfold rotT; rw [if_neg (by rw [h_k]; simp)] <;> rfl, by rw [← hfin, if_neg (by rw [h_k]; simp)]; exact hT19, hF19⟩
      · skip
        refine ww_acmp_ne_t (rx := ((p 2 k).map (nA E))) (ry := (some (nA E x))) (tgt := 74) C dJ28_rotateLeft_63 (by decide) (fun q => e4 (opm hT gx (by first | exact q | exact Classical.not_not.mp q) (fun j hj => (hG.2.1 k j gk (Or.inl hj)).1))) ?_
        refine ww_aload_n C dJ28_rotateLeft_74 rfl 0 rfl rfl ?_
        refine ww_aload_n C dJ28_rotateLeft_75 rfl 2 rfl rfl ?_
        refine pf_J28_42_J28 (fs' := [.null, .null, .int (nH E k), .ref (nK E k), .ref (nV E k), va_rf ((p13 0 k).map (nA E)), va_rf ((p13 1 k).map (nA E)), va_rf ((p13 2 k).map (nA E)), .ref (nA E r), va_rf ((p13 4 k).map (nA E)), .int (bI (rd k))]) C dJ28_rotateLeft_76 (hT13.1 k gk) rfl rfl (Nat.le_of_ble_eq_true rfl) rfl ?_
        refine ww_gen (fun h20 hE20 => ?_)
        obtain ⟨p20, ep20⟩ : ∃ Q9, Q9 = pst p13 3 k (some r) := ⟨_, rfl⟩
        have hT20 : TnH h20 G E p20 rd := by rw [ep20, hE20]; exact hT13.p3 (o := (some r)) gk
        have hF20 : FrT G E h h20 := by rw [hE20]; exact hF13.put gk
        refine ww_aload_n C dJ28_rotateLeft_79 rfl 2 rfl rfl ?_
        refine ww_aload_n C dJ28_rotateLeft_80 rfl 4 rfl rfl ?_
        refine pf_J28_39_J28 (fs' := [.null, .null, .int (nH E r), .ref (nK E r), .ref (nV E r), va_rf ((p20 0 r).map (nA E)), va_rf ((p20 1 r).map (nA E)), .ref (nA E x), va_rf ((p20 3 r).map (nA E)), va_rf ((p20 4 r).map (nA E)), .int (bI (rd r))]) C dJ28_rotateLeft_81 (hT20.1 r gr) rfl rfl (Nat.le_of_ble_eq_true rfl) rfl ?_
        refine ww_gen (fun h21 hE21 => ?_)
        obtain ⟨p21, ep21⟩ : ∃ Q9, Q9 = pst p20 2 r (some x) := ⟨_, rfl⟩
        have hT21 : TnH h21 G E p21 rd := by rw [ep21, hE21]; exact hT20.p2 (o := (some x)) gr
        have hF21 : FrT G E h h21 := by rw [hE21]; exact hF20.put gr
        refine ww_aload_n C dJ28_rotateLeft_84 rfl 4 rfl rfl ?_
        refine ww_aload_n C dJ28_rotateLeft_85 rfl 2 rfl rfl ?_
        refine pf_J28_9_J28 (fs' := [.null, .null, .int (nH E x), .ref (nK E x), .ref (nV E x), va_rf ((p21 0 x).map (nA E)), .ref (nA E r), va_rf ((p21 2 x).map (nA E)), va_rf ((p21 3 x).map (nA E)), va_rf ((p21 4 x).map (nA E)), .int (bI (rd x))]) C dJ28_rotateLeft_86 (hT21.1 x gx) rfl rfl (Nat.le_of_ble_eq_true rfl) rfl ?_
        refine ww_gen (fun h22 hE22 => ?_)
        obtain ⟨p22, ep22⟩ : ∃ Q9, Q9 = pst p21 1 x (some r) := ⟨_, rfl⟩
        have hT22 : TnH h22 G E p22 rd := by rw [ep22, hE22]; exact hT21.p1 (o := (some r)) gx
        have hF22 : FrT G E h h22 := by rw [hE22]; exact hF21.put gx
        refine ww_aload_n C dJ28_rotateLeft_89 rfl 3 rfl rfl ?_
        have hfin : p22 = rotL p x r := by rw [ep22, ep21, ep20, ep13, ep12, ep1, ← rqe_eq hxr n1 n2 n3 n4]; unfold rqe rqd rqb; simp only [h_c, h_k, if_neg e4]
        exact ww_aret C (Or.inl ⟨_, rfl⟩) dJ28_rotateLeft_90 rfl ⟨rfl, by unfold rotT; rw [if_neg (by rw [h_k]; simp)] <;> rfl, by rw [← hfin, if_neg (by rw [h_k]; simp)]; exact hT22, hF22⟩
set_option maxHeartbeats 2000000 in
theorem ct_J28_rotateRight {l : Launch} {Γ : Gm} (hl : l.flags = flags0) (hΓ : GOK Γ) {z : ZR} {h : AH} {G : Nat → Prop} {lt : Nat → Nat → Prop} {E : ND} {p : PT} {rd : Nat → Bool} {D : Nat → List Nat} {x r rt : Nat} (hT : TnH h G E p rd) (hG : TrG G lt p D rt) (gx : G x) (hr : p 2 x = some r) : Ct l Γ yJ28_rotateRight cJ28_rotateRight 5 (some (.object "java/util/HashMap$TreeNode")) 1 0 0 [.ref (nA E rt), .ref (nA E x)] z h (RoP z h G E rd p (rotR p x r) x r rt) := by
  refine Ct.of hl hΓ (by decide +kernel) (Nat.le_of_ble_eq_true rfl) (fun X e1 e2 C => ?_)
  subst e1; subst e2
  have C : Cx X cJ28_rotateRight 5 "java/util/HashMap$TreeNode" "rotateRight" (some (.object "java/util/HashMap$TreeNode")) [] 1 := C
  have gr : G r := (hG.2.1 x r gx (Or.inl hr)).1
  obtain ⟨hxr, n1, n2, n3, n4⟩ := hG.mir.rne gx hr
  have hF : FrT G E h h := FrT.rf
  have n1 : p 1 x ≠ some r := n1
  have n2 : p 1 x ≠ some x := n2
  show WW X (RoP z h G E rd p (rotR p x r) x r rt) z h 0 0 0 [(0, .ref (nA E rt)), (1, .ref (nA E x))] []
  refine ww_aload_n C dJ28_rotateRight_0 rfl 1 rfl rfl ?_
  refine ww_ifnull_f C dJ28_rotateRight_1 ?_
  refine ww_aload_n C dJ28_rotateRight_4 rfl 1 rfl rfl ?_
  refine gf_J28_39_J28 C dJ28_rotateRight_5 (Or.inl (hT.1 x gx)) rfl ?_
  refine ww_st (st' := [.ref (nA E r)]) (by rw [hr]; rfl) ?_
  refine ww_dup C dJ28_rotateRight_8 rfl ?_
  refine ww_astore_n (lv' := [(2, .ref (nA E r)), (0, .ref (nA E rt)), (1, .ref (nA E x))]) C dJ28_rotateRight_9 rfl (by decide) rfl rfl ?_
  refine ww_ifnull_f C dJ28_rotateRight_10 ?_
  refine ww_aload_n C dJ28_rotateRight_13 rfl 2 rfl rfl ?_
  refine ww_aload_n C dJ28_rotateRight_14 rfl 0 rfl rfl ?_
  refine gf_J28_42_J28 C dJ28_rotateRight_15 (Or.inl (hT.1 r gr)) rfl ?_
  refine ww_dup_x1 C dJ28_rotateRight_18 (va_rf_cat _) rfl ?_
  refine pf_J28_39_J28 (fs' := [.null, .null, .int (nH E x), .ref (nK E x), .ref (nV E x), va_rf ((p 0 x).map (nA E)), va_rf ((p 1 x).map (nA E)), va_rf ((p 3 r).map (nA E)), va_rf ((p 3 x).map (nA E)), va_rf ((p 4 x).map (nA E)), .int (bI (rd x))]) C dJ28_rotateRight_19 (hT.1 x gx) (va_rf_nar _) (va_rf_fit _) (Nat.le_of_ble_eq_true rfl) rfl ?_
  refine ww_gen (fun h1 hE1 => ?_)
  obtain ⟨p1, ep1⟩ : ∃ Q9, Q9 = pst p 2 x (p 3 r) := ⟨_, rfl⟩
  have hT1 : TnH h1 G E p1 rd := by rw [ep1, hE1]; exact hT.p2 (o := (p 3 r)) gx
  have hF1 : FrT G E h h1 := by rw [hE1]; exact hF.put gx
  refine ww_dup C dJ28_rotateRight_22 (va_rf_cat _) ?_
  refine ww_astore (lv' := [(4, va_rf ((p 3 r).map (nA E))), (2, .ref (nA E r)), (0, .ref (nA E rt)), (1, .ref (nA E x))]) C dJ28_rotateRight_23 (by decide) (va_rf_isRef _) rfl ?_
  rcases h_c : p 3 r with _ | c
  · skip
    show WW X (RoP z h G E rd p (rotR p x r) x r rt) z h1 0 0 25 [(4, .null), (2, .ref (nA E r)), (0, .ref (nA E rt)), (1, .ref (nA E x))] [.null]
    refine ww_ifnull_t (tgt := 34) C dJ28_rotateRight_25 (by decide) ?_
    have q1x : p1 1 x = p 1 x := by rw [ep1, pst_f (by decide)]
    refine ww_aload_n C dJ28_rotateRight_34 rfl 1 rfl rfl ?_
    refine ww_aload_n C dJ28_rotateRight_35 rfl 3 rfl rfl ?_
    refine gf_J28_9_J28 C dJ28_rotateRight_36 (Or.inl (hT1.1 x gx)) rfl ?_
    refine ww_st (st' := [va_rf ((p 1 x).map (nA E)), .ref (nA E r)]) (by rw [q1x]) ?_
    refine ww_dup_x1 C dJ28_rotateRight_39 (va_rf_cat _) rfl ?_
    refine pf_J28_9_J28 (fs' := [.null, .null, .int (nH E r), .ref (nK E r), .ref (nV E r), va_rf ((p1 0 r).map (nA E)), va_rf ((p 1 x).map (nA E)), va_rf ((p1 2 r).map (nA E)), va_rf ((p1 3 r).map (nA E)), va_rf ((p1 4 r).map (nA E)), .int (bI (rd r))]) C dJ28_rotateRight_40 (hT1.1 r gr) (va_rf_nar _) (va_rf_fit _) (Nat.le_of_ble_eq_true rfl) rfl ?_
    refine ww_gen (fun h2 hE2 => ?_)
    obtain ⟨p2, ep2⟩ : ∃ Q9, Q9 = pst p1 1 r (p 1 x) := ⟨_, rfl⟩
    have hT2 : TnH h2 G E p2 rd := by rw [ep2, hE2]; exact hT1.p1 (o := (p 1 x)) gr
    have hF2 : FrT G E h h2 := by rw [hE2]; exact hF1.put gr
    refine ww_dup C dJ28_rotateRight_43 (va_rf_cat _) ?_
    refine ww_astore_n (lv' := [(3, va_rf ((p 1 x).map (nA E))), (4, .null), (2, .ref (nA E r)), (0, .ref (nA E rt)), (1, .ref (nA E x))]) C dJ28_rotateRight_44 rfl (by decide) (va_rf_isRef _) rfl ?_
    rcases h_k : p 1 x with _ | k
    · skip
      show WW X (RoP z h G E rd p (rotR p x r) x r rt) z h2 0 0 45 [(3, .null), (4, .null), (2, .ref (nA E r)), (0, .ref (nA E rt)), (1, .ref (nA E x))] [.null]
      refine ww_ifnonnull_f C dJ28_rotateRight_45 ?_
      refine ww_aload_n C dJ28_rotateRight_48 rfl 2 rfl rfl ?_
      refine ww_dup C dJ28_rotateRight_49 rfl ?_
      refine ww_astore_n (lv' := [(0, .ref (nA E r)), (3, .null), (4, .null), (2, .ref (nA E r)), (1, .ref (nA E x))]) C dJ28_rotateRight_50 rfl (by decide) rfl rfl ?_
      refine ww_iconst C dJ28_rotateRight_51 cI_0 ?_
      refine pf_J28_93_J28 (fs' := [.null, .null, .int (nH E r), .ref (nK E r), .ref (nV E r), va_rf ((p2 0 r).map (nA E)), va_rf ((p2 1 r).map (nA E)), va_rf ((p2 2 r).map (nA E)), va_rf ((p2 3 r).map (nA E)), va_rf ((p2 4 r).map (nA E)), .int (nI 0)]) C dJ28_rotateRight_52 (hT2.1 r gr) nar_z0 fit_z0 (Nat.le_of_ble_eq_true rfl) rfl ?_
      refine ww_gen (fun h3 hE3 => ?_)
      obtain ⟨rd3, erd3⟩ : ∃ Q9, Q9 = va_up rd r false := ⟨_, rfl⟩
      have hT3 : TnH h3 G E p2 rd3 := by rw [erd3, hE3]; exact hT2.red (b := false) gr
      have hF3 : FrT G E h h3 := by rw [hE3]; exact hF2.put gr
      refine ww_goto (tgt := 79) C dJ28_rotateRight_55 (by decide) ?_
      refine ww_aload_n C dJ28_rotateRight_79 rfl 3 rfl rfl ?_
      refine ww_aload_n C dJ28_rotateRight_80 rfl 4 rfl rfl ?_
      refine pf_J28_42_J28 (fs' := [.null, .null, .int (nH E r), .ref (nK E r), .ref (nV E r), va_rf ((p2 0 r).map (nA E)), va_rf ((p2 1 r).map (nA E)), va_rf ((p2 2 r).map (nA E)), .ref (nA E x), va_rf ((p2 4 r).map (nA E)), .int (bI (rd3 r))]) C dJ28_rotateRight_81 (hT3.1 r gr) rfl rfl (Nat.le_of_ble_eq_true rfl) rfl ?_
      refine ww_gen (fun h4 hE4 => ?_)
      obtain ⟨p4, ep4⟩ : ∃ Q9, Q9 = pst p2 3 r (some x) := ⟨_, rfl⟩
      have hT4 : TnH h4 G E p4 rd3 := by rw [ep4, hE4]; exact hT3.p3 (o := (some x)) gr
      have hF4 : FrT G E h h4 := by rw [hE4]; exact hF3.put gr
      refine ww_aload_n C dJ28_rotateRight_84 rfl 4 rfl rfl ?_
      refine ww_aload_n C dJ28_rotateRight_85 rfl 3 rfl rfl ?_
      refine pf_J28_9_J28 (fs' := [.null, .null, .int (nH E x), .ref (nK E x), .ref (nV E x), va_rf ((p4 0 x).map (nA E)), .ref (nA E r), va_rf ((p4 2 x).map (nA E)), va_rf ((p4 3 x).map (nA E)), va_rf ((p4 4 x).map (nA E)), .int (bI (rd3 x))]) C dJ28_rotateRight_86 (hT4.1 x gx) rfl rfl (Nat.le_of_ble_eq_true rfl) rfl ?_
      refine ww_gen (fun h5 hE5 => ?_)
      obtain ⟨p5, ep5⟩ : ∃ Q9, Q9 = pst p4 1 x (some r) := ⟨_, rfl⟩
      have hT5 : TnH h5 G E p5 rd3 := by rw [ep5, hE5]; exact hT4.p1 (o := (some r)) gx
      have hF5 : FrT G E h h5 := by rw [hE5]; exact hF4.put gx
      refine ww_aload_n C dJ28_rotateRight_89 rfl 0 rfl rfl ?_
      have hfin : p5 = rotR p x r := by rw [ep5, ep4, ep2, ep1]; show _ = pm (rotL (pm p) x r); rw [← rqe_eq (p := pm p) hxr n1 n2 n3 n4]; unfold rqe rqd rqb; simp only [show pm p 2 r = p 3 r from rfl, show pm p 1 x = p 1 x from rfl, h_c, h_k]; simp only [pm_pst, pm_pm, sw]; rfl
      exact ww_aret C (Or.inl ⟨_, rfl⟩) dJ28_rotateRight_90 rfl ⟨rfl, by unfold rotT; rw [if_pos h_k] <;> rfl, by rw [← hfin, if_pos h_k, ← erd3]; exact hT5, hF5⟩
    · skip
      show WW X (RoP z h G E rd p (rotR p x r) x r rt) z h2 0 0 45 [(3, .ref (nA E k)), (4, .null), (2, .ref (nA E r)), (0, .ref (nA E rt)), (1, .ref (nA E x))] [.ref (nA E k)]
      have gk : G k := (hG.len1 gx h_k).1
      have hkx : k ≠ x := fun e => n2 (by rw [h_k, e])
      have hkr : k ≠ r := fun e => n1 (by rw [h_k, e])
      refine ww_ifnonnull_t (tgt := 58) C dJ28_rotateRight_45 (by decide) ?_
      refine ww_aload_n C dJ28_rotateRight_58 rfl 0 rfl rfl ?_
      refine gf_J28_42_J28 C dJ28_rotateRight_59 (Or.inl (hT2.1 k gk)) rfl ?_
      have q2k : p2 3 k = p 3 k := by rw [ep2, pst_f (by decide), ep1, pst_f (by decide)]
      refine ww_st (st' := [va_rf ((p 3 k).map (nA E))]) (by rw [q2k]) ?_
      refine ww_aload_n C dJ28_rotateRight_62 rfl 4 rfl rfl ?_
      by_cases e4 : p 3 k = some x
      · skip
        refine ww_acmp_ne_f (rx := ((p 3 k).map (nA E))) (ry := (some (nA E x))) (tgt := 74) C dJ28_rotateRight_63 (by decide) (by rw [e4]; rfl) ?_
        refine ww_aload_n C dJ28_rotateRight_66 rfl 0 rfl rfl ?_
        refine ww_aload_n C dJ28_rotateRight_67 rfl 2 rfl rfl ?_
        refine pf_J28_42_J28 (fs' := [.null, .null, .int (nH E k), .ref (nK E k), .ref (nV E k), va_rf ((p2 0 k).map (nA E)), va_rf ((p2 1 k).map (nA E)), va_rf ((p2 2 k).map (nA E)), .ref (nA E r), va_rf ((p2 4 k).map (nA E)), .int (bI (rd k))]) C dJ28_rotateRight_68 (hT2.1 k gk) rfl rfl (Nat.le_of_ble_eq_true rfl) rfl ?_
        refine ww_gen (fun h6 hE6 => ?_)
        obtain ⟨p6, ep6⟩ : ∃ Q9, Q9 = pst p2 3 k (some r) := ⟨_, rfl⟩
        have hT6 : TnH h6 G E p6 rd := by rw [ep6, hE6]; exact hT2.p3 (o := (some r)) gk
        have hF6 : FrT G E h h6 := by rw [hE6]; exact hF2.put gk
        refine ww_goto (tgt := 79) C dJ28_rotateRight_71 (by decide) ?_
        refine ww_aload_n C dJ28_rotateRight_79 rfl 2 rfl rfl ?_
        refine ww_aload_n C dJ28_rotateRight_80 rfl 4 rfl rfl ?_
        refine pf_J28_42_J28 (fs' := [.null, .null, .int (nH E r), .ref (nK E r), .ref (nV E r), va_rf ((p6 0 r).map (nA E)), va_rf ((p6 1 r).map (nA E)), va_rf ((p6 2 r).map (nA E)), .ref (nA E x), va_rf ((p6 4 r).map (nA E)), .int (bI (rd r))]) C dJ28_rotateRight_81 (hT6.1 r gr) rfl rfl (Nat.le_of_ble_eq_true rfl) rfl ?_
        refine ww_gen (fun h7 hE7 => ?_)
        obtain ⟨p7, ep7⟩ : ∃ Q9, Q9 = pst p6 3 r (some x) := ⟨_, rfl⟩
        have hT7 : TnH h7 G E p7 rd := by rw [ep7, hE7]; exact hT6.p3 (o := (some x)) gr
        have hF7 : FrT G E h h7 := by rw [hE7]; exact hF6.put gr
        refine ww_aload_n C dJ28_rotateRight_84 rfl 4 rfl rfl ?_
        refine ww_aload_n C dJ28_rotateRight_85 rfl 2 rfl rfl ?_
        refine pf_J28_9_J28 (fs' := [.null, .null, .int (nH E x), .ref (nK E x), .ref (nV E x), va_rf ((p7 0 x).map (nA E)), .ref (nA E r), va_rf ((p7 2 x).map (nA E)), va_rf ((p7 3 x).map (nA E)), va_rf ((p7 4 x).map (nA E)), .int (bI (rd x))]) C dJ28_rotateRight_86 (hT7.1 x gx) rfl rfl (Nat.le_of_ble_eq_true rfl) rfl ?_
        refine ww_gen (fun h8 hE8 => ?_)
        obtain ⟨p8, ep8⟩ : ∃ Q9, Q9 = pst p7 1 x (some r) := ⟨_, rfl⟩
        have hT8 : TnH h8 G E p8 rd := by rw [ep8, hE8]; exact hT7.p1 (o := (some r)) gx
        have hF8 : FrT G E h h8 := by rw [hE8]; exact hF7.put gx
        refine ww_aload_n C dJ28_rotateRight_89 rfl 3 rfl rfl ?_
        have hfin : p8 = rotR p x r := by rw [ep8, ep7, ep6, ep2, ep1]; show _ = pm (rotL (pm p) x r); rw [← rqe_eq (p := pm p) hxr n1 n2 n3 n4]; unfold rqe rqd rqb; simp only [show pm p 2 r = p 3 r from rfl, show pm p 1 x = p 1 x from rfl, h_c, h_k, if_pos (show pm p 2 k = some x from e4)]; simp only [pm_pst, pm_pm, sw]; rfl
        exact ww_aret C (Or.inl ⟨_, rfl⟩) dJ28_rotateRight_90 rfl ⟨rfl, by unfold rotT; rw [if_neg (by rw [h_k]; simp)] <;> rfl, by rw [← hfin, if_neg (by rw [h_k]; simp)]; exact hT8, hF8⟩
      · skip
        refine ww_acmp_ne_t (rx := ((p 3 k).map (nA E))) (ry := (some (nA E x))) (tgt := 74) C dJ28_rotateRight_63 (by decide) (fun q => e4 (opm hT gx (by first | exact q | exact Classical.not_not.mp q) (fun j hj => (hG.2.1 k j gk (Or.inr hj)).1))) ?_
        refine ww_aload_n C dJ28_rotateRight_74 rfl 0 rfl rfl ?_
        refine ww_aload_n C dJ28_rotateRight_75 rfl 2 rfl rfl ?_
        refine pf_J28_39_J28 (fs' := [.null, .null, .int (nH E k), .ref (nK E k), .ref (nV E k), va_rf ((p2 0 k).map (nA E)), va_rf ((p2 1 k).map (nA E)), .ref (nA E r), va_rf ((p2 3 k).map (nA E)), va_rf ((p2 4 k).map (nA E)), .int (bI (rd k))]) C dJ28_rotateRight_76 (hT2.1 k gk) rfl rfl (Nat.le_of_ble_eq_true rfl) rfl ?_
        refine ww_gen (fun h9 hE9 => ?_)
        obtain ⟨p9, ep9⟩ : ∃ Q9, Q9 = pst p2 2 k (some r) := ⟨_, rfl⟩
        have hT9 : TnH h9 G E p9 rd := by rw [ep9, hE9]; exact hT2.p2 (o := (some r)) gk
        have hF9 : FrT G E h h9 := by rw [hE9]; exact hF2.put gk
        refine ww_aload_n C dJ28_rotateRight_79 rfl 2 rfl rfl ?_
        refine ww_aload_n C dJ28_rotateRight_80 rfl 4 rfl rfl ?_
        refine pf_J28_42_J28 (fs' := [.null, .null, .int (nH E r), .ref (nK E r), .ref (nV E r), va_rf ((p9 0 r).map (nA E)), va_rf ((p9 1 r).map (nA E)), va_rf ((p9 2 r).map (nA E)), .ref (nA E x), va_rf ((p9 4 r).map (nA E)), .int (bI (rd r))]) C dJ28_rotateRight_81 (hT9.1 r gr) rfl rfl (Nat.le_of_ble_eq_true rfl) rfl ?_
        refine ww_gen (fun h10 hE10 => ?_)
        obtain ⟨p10, ep10⟩ : ∃ Q9, Q9 = pst p9 3 r (some x) := ⟨_, rfl⟩
        have hT10 : TnH h10 G E p10 rd := by rw [ep10, hE10]; exact hT9.p3 (o := (some x)) gr
        have hF10 : FrT G E h h10 := by rw [hE10]; exact hF9.put gr
        refine ww_aload_n C dJ28_rotateRight_84 rfl 4 rfl rfl ?_
        refine ww_aload_n C dJ28_rotateRight_85 rfl 2 rfl rfl ?_
        refine pf_J28_9_J28 (fs' := [.null, .null, .int (nH E x), .ref (nK E x), .ref (nV E x), va_rf ((p10 0 x).map (nA E)), .ref (nA E r), va_rf ((p10 2 x).map (nA E)), va_rf ((p10 3 x).map (nA E)), va_rf ((p10 4 x).map (nA E)), .int (bI (rd x))]) C dJ28_rotateRight_86 (hT10.1 x gx) rfl rfl (Nat.le_of_ble_eq_true rfl) rfl ?_
        refine ww_gen (fun h11 hE11 => ?_)
        obtain ⟨p11, ep11⟩ : ∃ Q9, Q9 = pst p10 1 x (some r) := ⟨_, rfl⟩
        have hT11 : TnH h11 G E p11 rd := by rw [ep11, hE11]; exact hT10.p1 (o := (some r)) gx
        have hF11 : FrT G E h h11 := by rw [hE11]; exact hF10.put gx
        refine ww_aload_n C dJ28_rotateRight_89 rfl 3 rfl rfl ?_
        have hfin : p11 = rotR p x r := by rw [ep11, ep10, ep9, ep2, ep1]; show _ = pm (rotL (pm p) x r); rw [← rqe_eq (p := pm p) hxr n1 n2 n3 n4]; unfold rqe rqd rqb; simp only [show pm p 2 r = p 3 r from rfl, show pm p 1 x = p 1 x from rfl, h_c, h_k, if_neg (show ¬ pm p 2 k = some x from e4)]; simp only [pm_pst, pm_pm, sw]; rfl
        exact ww_aret C (Or.inl ⟨_, rfl⟩) dJ28_rotateRight_90 rfl ⟨rfl, by unfold rotT; rw [if_neg (by rw [h_k]; simp)] <;> rfl, by rw [← hfin, if_neg (by rw [h_k]; simp)]; exact hT11, hF11⟩
  · skip
    show WW X (RoP z h G E rd p (rotR p x r) x r rt) z h1 0 0 25 [(4, .ref (nA E c)), (2, .ref (nA E r)), (0, .ref (nA E rt)), (1, .ref (nA E x))] [.ref (nA E c)]
    have gc : G c := (hG.2.1 r c gr (Or.inr h_c)).1
    have hcx : c ≠ x := fun e => n3 (by show p 3 r = some x; rw [h_c, e])
    refine ww_ifnull_f C dJ28_rotateRight_25 ?_
    refine ww_aload C dJ28_rotateRight_28 0 rfl rfl ?_
    refine ww_aload_n C dJ28_rotateRight_30 rfl 3 rfl rfl ?_
    refine pf_J28_9_J28 (fs' := [.null, .null, .int (nH E c), .ref (nK E c), .ref (nV E c), va_rf ((p1 0 c).map (nA E)), .ref (nA E x), va_rf ((p1 2 c).map (nA E)), va_rf ((p1 3 c).map (nA E)), va_rf ((p1 4 c).map (nA E)), .int (bI (rd c))]) C dJ28_rotateRight_31 (hT1.1 c gc) rfl rfl (Nat.le_of_ble_eq_true rfl) rfl ?_
    refine ww_gen (fun h12 hE12 => ?_)
    obtain ⟨p12, ep12⟩ : ∃ Q9, Q9 = pst p1 1 c (some x) := ⟨_, rfl⟩
    have hT12 : TnH h12 G E p12 rd := by rw [ep12, hE12]; exact hT1.p1 (o := (some x)) gc
    have hF12 : FrT G E h h12 := by rw [hE12]; exact hF1.put gc
    have q1x : p12 1 x = p 1 x := by rw [ep12, pst_i (Ne.symm hcx), ep1, pst_f (by decide)]
    refine ww_aload_n C dJ28_rotateRight_34 rfl 1 rfl rfl ?_
    refine ww_aload_n C dJ28_rotateRight_35 rfl 3 rfl rfl ?_
    refine gf_J28_9_J28 C dJ28_rotateRight_36 (Or.inl (hT12.1 x gx)) rfl ?_
    refine ww_st (st' := [va_rf ((p 1 x).map (nA E)), .ref (nA E r)]) (by rw [q1x]) ?_
    refine ww_dup_x1 C dJ28_rotateRight_39 (va_rf_cat _) rfl ?_
    refine pf_J28_9_J28 (fs' := [.null, .null, .int (nH E r), .ref (nK E r), .ref (nV E r), va_rf ((p12 0 r).map (nA E)), va_rf ((p 1 x).map (nA E)), va_rf ((p12 2 r).map (nA E)), va_rf ((p12 3 r).map (nA E)), va_rf ((p12 4 r).map (nA E)), .int (bI (rd r))]) C dJ28_rotateRight_40 (hT12.1 r gr) (va_rf_nar _) (va_rf_fit _) (Nat.le_of_ble_eq_true rfl) rfl ?_
    refine ww_gen (fun h13 hE13 => ?_)
    obtain ⟨p13, ep13⟩ : ∃ Q9, Q9 = pst p12 1 r (p 1 x) := ⟨_, rfl⟩
    have hT13 : TnH h13 G E p13 rd := by rw [ep13, hE13]; exact hT12.p1 (o := (p 1 x)) gr
    have hF13 : FrT G E h h13 := by rw [hE13]; exact hF12.put gr
    refine ww_dup C dJ28_rotateRight_43 (va_rf_cat _) ?_
    refine ww_astore_n (lv' := [(3, va_rf ((p 1 x).map (nA E))), (4, .ref (nA E c)), (2, .ref (nA E r)), (0, .ref (nA E rt)), (1, .ref (nA E x))]) C dJ28_rotateRight_44 rfl (by decide) (va_rf_isRef _) rfl ?_
    rcases h_k : p 1 x with _ | k
    · skip
      show WW X (RoP z h G E rd p (rotR p x r) x r rt) z h13 0 0 45 [(3, .null), (4, .ref (nA E c)), (2, .ref (nA E r)), (0, .ref (nA E rt)), (1, .ref (nA E x))] [.null]
      refine ww_ifnonnull_f C dJ28_rotateRight_45 ?_
      refine ww_aload_n C dJ28_rotateRight_48 rfl 2 rfl rfl ?_
      refine ww_dup C dJ28_rotateRight_49 rfl ?_
      refine ww_astore_n (lv' := [(0, .ref (nA E r)), (3, .null), (4, .ref (nA E c)), (2, .ref (nA E r)), (1, .ref (nA E x))]) C dJ28_rotateRight_50 rfl (by decide) rfl rfl ?_
      refine ww_iconst C dJ28_rotateRight_51 cI_0 ?_
      refine pf_J28_93_J28 (fs' := [.null, .null, .int (nH E r), .ref (nK E r), .ref (nV E r), va_rf ((p13 0 r).map (nA E)), va_rf ((p13 1 r).map (nA E)), va_rf ((p13 2 r).map (nA E)), va_rf ((p13 3 r).map (nA E)), va_rf ((p13 4 r).map (nA E)), .int (nI 0)]) C dJ28_rotateRight_52 (hT13.1 r gr) nar_z0 fit_z0 (Nat.le_of_ble_eq_true rfl) rfl ?_
      refine ww_gen (fun h14 hE14 => ?_)
      obtain ⟨rd14, erd14⟩ : ∃ Q9, Q9 = va_up rd r false := ⟨_, rfl⟩
      have hT14 : TnH h14 G E p13 rd14 := by rw [erd14, hE14]; exact hT13.red (b := false) gr
      have hF14 : FrT G E h h14 := by rw [hE14]; exact hF13.put gr
      refine ww_goto (tgt := 79) C dJ28_rotateRight_55 (by decide) ?_
      refine ww_aload_n C dJ28_rotateRight_79 rfl 3 rfl rfl ?_
      refine ww_aload_n C dJ28_rotateRight_80 rfl 4 rfl rfl ?_
      refine pf_J28_42_J28 (fs' := [.null, .null, .int (nH E r), .ref (nK E r), .ref (nV E r), va_rf ((p13 0 r).map (nA E)), va_rf ((p13 1 r).map (nA E)), va_rf ((p13 2 r).map (nA E)), .ref (nA E x), va_rf ((p13 4 r).map (nA E)), .int (bI (rd14 r))]) C dJ28_rotateRight_81 (hT14.1 r gr) rfl rfl (Nat.le_of_ble_eq_true rfl) rfl ?_
      refine ww_gen (fun h15 hE15 => ?_)
      obtain ⟨p15, ep15⟩ : ∃ Q9, Q9 = pst p13 3 r (some x) := ⟨_, rfl⟩
      have hT15 : TnH h15 G E p15 rd14 := by rw [ep15, hE15]; exact hT14.p3 (o := (some x)) gr
      have hF15 : FrT G E h h15 := by rw [hE15]; exact hF14.put gr
      refine ww_aload_n C dJ28_rotateRight_84 rfl 4 rfl rfl ?_
      refine ww_aload_n C dJ28_rotateRight_85 rfl 3 rfl rfl ?_
      refine pf_J28_9_J28 (fs' := [.null, .null, .int (nH E x), .ref (nK E x), .ref (nV E x), va_rf ((p15 0 x).map (nA E)), .ref (nA E r), va_rf ((p15 2 x).map (nA E)), va_rf ((p15 3 x).map (nA E)), va_rf ((p15 4 x).map (nA E)), .int (bI (rd14 x))]) C dJ28_rotateRight_86 (hT15.1 x gx) rfl rfl (Nat.le_of_ble_eq_true rfl) rfl ?_
      refine ww_gen (fun h16 hE16 => ?_)
      obtain ⟨p16, ep16⟩ : ∃ Q9, Q9 = pst p15 1 x (some r) := ⟨_, rfl⟩
      have hT16 : TnH h16 G E p16 rd14 := by rw [ep16, hE16]; exact hT15.p1 (o := (some r)) gx
      have hF16 : FrT G E h h16 := by rw [hE16]; exact hF15.put gx
      refine ww_aload_n C dJ28_rotateRight_89 rfl 0 rfl rfl ?_
      have hfin : p16 = rotR p x r := by rw [ep16, ep15, ep13, ep12, ep1]; show _ = pm (rotL (pm p) x r); rw [← rqe_eq (p := pm p) hxr n1 n2 n3 n4]; unfold rqe rqd rqb; simp only [show pm p 2 r = p 3 r from rfl, show pm p 1 x = p 1 x from rfl, h_c, h_k]; simp only [pm_pst, pm_pm, sw]; rfl
      exact ww_aret C (Or.inl ⟨_, rfl⟩) dJ28_rotateRight_90 rfl ⟨rfl, by unfold rotT; rw [if_pos h_k] <;> rfl, by rw [← hfin, if_pos h_k, ← erd14]; exact hT16, hF16⟩
    · skip
      show WW X (RoP z h G E rd p (rotR p x r) x r rt) z h13 0 0 45 [(3, .ref (nA E k)), (4, .ref (nA E c)), (2, .ref (nA E r)), (0, .ref (nA E rt)), (1, .ref (nA E x))] [.ref (nA E k)]
      have gk : G k := (hG.len1 gx h_k).1
      have hkx : k ≠ x := fun e => n2 (by rw [h_k, e])
      have hkr : k ≠ r := fun e => n1 (by rw [h_k, e])
      refine ww_ifnonnull_t (tgt := 58) C dJ28_rotateRight_45 (by decide) ?_
      refine ww_aload_n C dJ28_rotateRight_58 rfl 0 rfl rfl ?_
      refine gf_J28_42_J28 C dJ28_rotateRight_59 (Or.inl (hT13.1 k gk)) rfl ?_
      have q2k : p13 3 k = p 3 k := by rw [ep13, pst_f (by decide), ep12, pst_f (by decide), ep1, pst_f (by decide)]
      refine ww_st (st' := [va_rf ((p 3 k).map (nA E))]) (by rw [q2k]) ?_
      refine ww_aload_n C dJ28_rotateRight_62 rfl 4 rfl rfl ?_
      by_cases e4 : p 3 k = some x
      · skip
        refine ww_acmp_ne_f (rx := ((p 3 k).map (nA E))) (ry := (some (nA E x))) (tgt := 74) C dJ28_rotateRight_63 (by decide) (by rw [e4]; rfl) ?_
        refine ww_aload_n C dJ28_rotateRight_66 rfl 0 rfl rfl ?_
        refine ww_aload_n C dJ28_rotateRight_67 rfl 2 rfl rfl ?_
        refine pf_J28_42_J28 (fs' := [.null, .null, .int (nH E k), .ref (nK E k), .ref (nV E k), va_rf ((p13 0 k).map (nA E)), va_rf ((p13 1 k).map (nA E)), va_rf ((p13 2 k).map (nA E)), .ref (nA E r), va_rf ((p13 4 k).map (nA E)), .int (bI (rd k))]) C dJ28_rotateRight_68 (hT13.1 k gk) rfl rfl (Nat.le_of_ble_eq_true rfl) rfl ?_
        refine ww_gen (fun h17 hE17 => ?_)
        obtain ⟨p17, ep17⟩ : ∃ Q9, Q9 = pst p13 3 k (some r) := ⟨_, rfl⟩
        have hT17 : TnH h17 G E p17 rd := by rw [ep17, hE17]; exact hT13.p3 (o := (some r)) gk
        have hF17 : FrT G E h h17 := by rw [hE17]; exact hF13.put gk
        refine ww_goto (tgt := 79) C dJ28_rotateRight_71 (by decide) ?_
        refine ww_aload_n C dJ28_rotateRight_79 rfl 2 rfl rfl ?_
        refine ww_aload_n C dJ28_rotateRight_80 rfl 4 rfl rfl ?_
        refine pf_J28_42_J28 (fs' := [.null, .null, .int (nH E r), .ref (nK E r), .ref (nV E r), va_rf ((p17 0 r).map (nA E)), va_rf ((p17 1 r).map (nA E)), va_rf ((p17 2 r).map (nA E)), .ref (nA E x), va_rf ((p17 4 r).map (nA E)), .int (bI (rd r))]) C dJ28_rotateRight_81 (hT17.1 r gr) rfl rfl (Nat.le_of_ble_eq_true rfl) rfl ?_
        refine ww_gen (fun h18 hE18 => ?_)
        obtain ⟨p18, ep18⟩ : ∃ Q9, Q9 = pst p17 3 r (some x) := ⟨_, rfl⟩
        have hT18 : TnH h18 G E p18 rd := by rw [ep18, hE18]; exact hT17.p3 (o := (some x)) gr
        have hF18 : FrT G E h h18 := by rw [hE18]; exact hF17.put gr
        refine ww_aload_n C dJ28_rotateRight_84 rfl 4 rfl rfl ?_
        refine ww_aload_n C dJ28_rotateRight_85 rfl 2 rfl rfl ?_
        refine pf_J28_9_J28 (fs' := [.null, .null, .int (nH E x), .ref (nK E x), .ref (nV E x), va_rf ((p18 0 x).map (nA E)), .ref (nA E r), va_rf ((p18 2 x).map (nA E)), va_rf ((p18 3 x).map (nA E)), va_rf ((p18 4 x).map (nA E)), .int (bI (rd x))]) C dJ28_rotateRight_86 (hT18.1 x gx) rfl rfl (Nat.le_of_ble_eq_true rfl) rfl ?_
        refine ww_gen (fun h19 hE19 => ?_)
        obtain ⟨p19, ep19⟩ : ∃ Q9, Q9 = pst p18 1 x (some r) := ⟨_, rfl⟩
        have hT19 : TnH h19 G E p19 rd := by rw [ep19, hE19]; exact hT18.p1 (o := (some r)) gx
        have hF19 : FrT G E h h19 := by rw [hE19]; exact hF18.put gx
        refine ww_aload_n C dJ28_rotateRight_89 rfl 3 rfl rfl ?_
        have hfin : p19 = rotR p x r := by rw [ep19, ep18, ep17, ep13, ep12, ep1]; show _ = pm (rotL (pm p) x r); rw [← rqe_eq (p := pm p) hxr n1 n2 n3 n4]; unfold rqe rqd rqb; simp only [show pm p 2 r = p 3 r from rfl, show pm p 1 x = p 1 x from rfl, h_c, h_k, if_pos (show pm p 2 k = some x from e4)]; simp only [pm_pst, pm_pm, sw]; rfl
        exact ww_aret C (Or.inl ⟨_, rfl⟩) dJ28_rotateRight_90 rfl ⟨rfl, by unfold rotT; rw [if_neg (by rw [h_k]; simp)] <;> rfl, by rw [← hfin, if_neg (by rw [h_k]; simp)]; exact hT19, hF19⟩
      · skip
        refine ww_acmp_ne_t (rx := ((p 3 k).map (nA E))) (ry := (some (nA E x))) (tgt := 74) C dJ28_rotateRight_63 (by decide) (fun q => e4 (opm hT gx (by first | exact q | exact Classical.not_not.mp q) (fun j hj => (hG.2.1 k j gk (Or.inr hj)).1))) ?_
        refine ww_aload_n C dJ28_rotateRight_74 rfl 0 rfl rfl ?_
        refine ww_aload_n C dJ28_rotateRight_75 rfl 2 rfl rfl ?_
        refine pf_J28_39_J28 (fs' := [.null, .null, .int (nH E k), .ref (nK E k), .ref (nV E k), va_rf ((p13 0 k).map (nA E)), va_rf ((p13 1 k).map (nA E)), .ref (nA E r), va_rf ((p13 3 k).map (nA E)), va_rf ((p13 4 k).map (nA E)), .int (bI (rd k))]) C dJ28_rotateRight_76 (hT13.1 k gk) rfl rfl (Nat.le_of_ble_eq_true rfl) rfl ?_
        refine ww_gen (fun h20 hE20 => ?_)
        obtain ⟨p20, ep20⟩ : ∃ Q9, Q9 = pst p13 2 k (some r) := ⟨_, rfl⟩
        have hT20 : TnH h20 G E p20 rd := by rw [ep20, hE20]; exact hT13.p2 (o := (some r)) gk
        have hF20 : FrT G E h h20 := by rw [hE20]; exact hF13.put gk
        refine ww_aload_n C dJ28_rotateRight_79 rfl 2 rfl rfl ?_
        refine ww_aload_n C dJ28_rotateRight_80 rfl 4 rfl rfl ?_
        refine pf_J28_42_J28 (fs' := [.null, .null, .int (nH E r), .ref (nK E r), .ref (nV E r), va_rf ((p20 0 r).map (nA E)), va_rf ((p20 1 r).map (nA E)), va_rf ((p20 2 r).map (nA E)), .ref (nA E x), va_rf ((p20 4 r).map (nA E)), .int (bI (rd r))]) C dJ28_rotateRight_81 (hT20.1 r gr) rfl rfl (Nat.le_of_ble_eq_true rfl) rfl ?_
        refine ww_gen (fun h21 hE21 => ?_)
        obtain ⟨p21, ep21⟩ : ∃ Q9, Q9 = pst p20 3 r (some x) := ⟨_, rfl⟩
        have hT21 : TnH h21 G E p21 rd := by rw [ep21, hE21]; exact hT20.p3 (o := (some x)) gr
        have hF21 : FrT G E h h21 := by rw [hE21]; exact hF20.put gr
        refine ww_aload_n C dJ28_rotateRight_84 rfl 4 rfl rfl ?_
        refine ww_aload_n C dJ28_rotateRight_85 rfl 2 rfl rfl ?_
        refine pf_J28_9_J28 (fs' := [.null, .null, .int (nH E x), .ref (nK E x), .ref (nV E x), va_rf ((p21 0 x).map (nA E)), .ref (nA E r), va_rf ((p21 2 x).map (nA E)), va_rf ((p21 3 x).map (nA E)), va_rf ((p21 4 x).map (nA E)), .int (bI (rd x))]) C dJ28_rotateRight_86 (hT21.1 x gx) rfl rfl (Nat.le_of_ble_eq_true rfl) rfl ?_
        refine ww_gen (fun h22 hE22 => ?_)
        obtain ⟨p22, ep22⟩ : ∃ Q9, Q9 = pst p21 1 x (some r) := ⟨_, rfl⟩
        have hT22 : TnH h22 G E p22 rd := by rw [ep22, hE22]; exact hT21.p1 (o := (some r)) gx
        have hF22 : FrT G E h h22 := by rw [hE22]; exact hF21.put gx
        refine ww_aload_n C dJ28_rotateRight_89 rfl 3 rfl rfl ?_
        have hfin : p22 = rotR p x r := by rw [ep22, ep21, ep20, ep13, ep12, ep1]; show _ = pm (rotL (pm p) x r); rw [← rqe_eq (p := pm p) hxr n1 n2 n3 n4]; unfold rqe rqd rqb; simp only [show pm p 2 r = p 3 r from rfl, show pm p 1 x = p 1 x from rfl, h_c, h_k, if_neg (show ¬ pm p 2 k = some x from e4)]; simp only [pm_pst, pm_pm, sw]; rfl
        exact ww_aret C (Or.inl ⟨_, rfl⟩) dJ28_rotateRight_90 rfl ⟨rfl, by unfold rotT; rw [if_neg (by rw [h_k]; simp)] <;> rfl, by rw [← hfin, if_neg (by rw [h_k]; simp)]; exact hT22, hF22⟩

end TREE0
