section TREE2
set_option maxRecDepth 100000
/-- next and prev are the same -/
def SmN (p p' : PT) : Prop := ∀ i, p' 0 i = p 0 i ∧ p' 4 i = p 4 i
theorem SmN.rf {p : PT} : SmN p p := fun _ => ⟨rfl, rfl⟩
theorem SmN.tr {p q s : PT} (a : SmN p q) (b : SmN q s) : SmN p s := fun i => ⟨(b i).1.trans (a i).1, (b i).2.trans (a i).2⟩
theorem SmN.rl {p : PT} {x r : Nat} : SmN p (rotL p x r) := fun i => ⟨rl_o (Or.inl rfl), rl_o (Or.inr rfl)⟩
theorem SmN.rr {p : PT} {x r : Nat} : SmN p (rotR p x r) := fun i => ⟨rl_o (p := pm p) (x := x) (r := r) (Or.inl rfl), rl_o (p := pm p) (x := x) (r := r) (Or.inr rfl)⟩
theorem rr_1x {p : PT} {x r : Nat} : rotR p x r 1 x = some r := rl_1x (p := pm p)
theorem rr_1r {p : PT} {x r : Nat} (h : r ≠ x) : rotR p x r 1 r = p 1 x := rl_1r (p := pm p) h
theorem rr_1o {p : PT} {x r i : Nat} (h : p 3 r ≠ some i) (h1 : i ≠ x) (h2 : i ≠ r) : rotR p x r 1 i = p 1 i := rl_1o (p := pm p) h h1 h2
theorem rr_3p {p : PT} {x r i : Nat} (h : p 1 x = some i) (h1 : p 3 i = some x) (h2 : i ≠ r) : rotR p x r 3 i = some r := rl_2p (p := pm p) h h1 h2
theorem rr_3r {p : PT} {x r : Nat} : rotR p x r 3 r = some x := rl_2r (p := pm p)
theorem rd_kk {k g : Nat} {c : Prop} [Decidable c] {ra rb rd0 : Nat → Bool} (hn : k ≠ g) (ea : ra = va_up rd0 k false) (eb : rb = va_up ra g true) : (if c then va_up rb k false else rb) k = false := by
  split
  · exact va_eq
  · rw [eb, va_ne hn, ea, va_eq]
def BaP (z : ZR) (h : AH) (G : Nat → Prop) (lt : Nat → Nat → Prop) (E : ND) (p : PT) : Oc → ZR → AH → Prop := Rv (fun v z' h' => z' = z ∧ ∃ p' rd' D' rt', v = .ref (nA E rt') ∧ TnH h' G E p' rd' ∧ TrG G lt p' D' rt' ∧ SmN p p' ∧ FrT G E h h')
set_option maxHeartbeats 2000000 in
theorem ct_J28_balanceInsertion {l : Launch} {Γ : Gm} (hl : l.flags = flags0) (hΓ : GOK Γ) {z : ZR} {h : AH} {G : Nat → Prop} {lt : Nat → Nat → Prop} {E : ND} {p : PT} {rd : Nat → Bool} {D : Nat → List Nat} {x rt : Nat} (hl9 : LtO lt) (hT : TnH h G E p rd) (hG : TrG G lt p D rt) (gx : G x) : Ct l Γ yJ28_balanceInsertion cJ28_balanceInsertion 6 (some (.object "java/util/HashMap$TreeNode")) 2 0 0 [.ref (nA E rt), .ref (nA E x)] z h (BaP z h G lt E p) := by
  refine Ct.of hl hΓ (by decide +kernel) (Nat.le_of_ble_eq_true rfl) (fun X e1 e2 C => ?_)
  subst e1; subst e2
  have C : Cx X cJ28_balanceInsertion 6 "java/util/HashMap$TreeNode" "balanceInsertion" (some (.object "java/util/HashMap$TreeNode")) [] 2 := C
  show WW X (BaP z h G lt E p) z h 0 0 0 [(0, .ref (nA E rt)), (1, .ref (nA E x))] []
  have hF : FrT G E h h := FrT.rf
  refine ww_aload_n C dJ28_balanceInsertion_0 rfl 1 rfl rfl ?_
  refine ww_iconst C dJ28_balanceInsertion_1 cI_1 ?_
  refine pf_J28_93_J28 (fs' := [.null, .null, .int (nH E x), .ref (nK E x), .ref (nV E x), va_rf ((p 0 x).map (nA E)), va_rf ((p 1 x).map (nA E)), va_rf ((p 2 x).map (nA E)), va_rf ((p 3 x).map (nA E)), va_rf ((p 4 x).map (nA E)), .int (nI 1)]) C dJ28_balanceInsertion_2 (hT.1 x gx) nar_z1 fit_z1 (Nat.le_of_ble_eq_true rfl) rfl ?_
  refine ww_gen (fun h1 hE1 => ?_)
  obtain ⟨rd1, erd1⟩ : ∃ Q9, Q9 = va_up rd x true := ⟨_, rfl⟩
  have hT1 : TnH h1 G E p rd1 := by rw [erd1, hE1]; exact hT.red (b := true) gx
  have hF1 : FrT G E h h1 := by rw [hE1]; exact hF.put gx
  have fin : ∀ (x1 k : Nat) (D1 : Nat → List Nat) (h1 : AH) (p1 : PT) (rd1 : Nat → Bool) (rt1 : Nat), G x1 → p1 1 x1 = some k → rd1 k = false → TnH h1 G E p1 rd1 → TrG G lt p1 D1 rt1 → SmN p p1 → FrT G E h h1 → WW X (BaP z h G lt E p) z h1 0 0 5 [(0, .ref (nA E rt1)), (1, .ref (nA E x1))] [] := by
    intro x1 k D1 h1 p1 rd1 rt1 gx1 hk hb hT1 hG1 hN1 hF1
    have gk : G k := (hG1.len1 gx1 hk).1
    refine ww_aload_n C dJ28_balanceInsertion_5 rfl 1 rfl rfl ?_
    refine gf_J28_9_J28 C dJ28_balanceInsertion_6 (Or.inl (hT1.1 x1 gx1)) rfl ?_
    refine ww_st (st' := [.ref (nA E k)]) (by rw [hk]; rfl) ?_
    refine ww_dup C dJ28_balanceInsertion_9 rfl ?_
    refine ww_astore_n (lv' := [(2, .ref (nA E k)), (0, .ref (nA E rt1)), (1, .ref (nA E x1))]) C dJ28_balanceInsertion_10 rfl (by decide) rfl rfl ?_
    refine ww_ifnonnull_t (tgt := 21) C dJ28_balanceInsertion_11 (by decide) ?_
    refine ww_aload_n C dJ28_balanceInsertion_21 rfl 0 rfl rfl ?_
    refine gf_J28_93_J28 C dJ28_balanceInsertion_22 (Or.inl (hT1.1 k gk)) rfl ?_
    refine ww_st (st' := [.int (bI false)]) (by rw [hb]) ?_
    refine ww_if_eq_t (tgt := 37) C dJ28_balanceInsertion_25 (by decide) rfl ?_
    refine ww_aload_n C dJ28_balanceInsertion_37 rfl 1 rfl rfl ?_
    exact ww_aret C (Or.inl ⟨_, rfl⟩) dJ28_balanceInsertion_38 rfl ⟨rfl, p1, rd1, D1, rt1, rfl, hT1, hG1, hN1, hF1⟩
  have key : ∀ (fu x1 : Nat) (D1 : Nat → List Nat) (h1 : AH) (p1 : PT) (rd1 : Nat → Bool) (rt1 : Nat), (D1 rt1).length - (D1 x1).length < fu → G x1 → TnH h1 G E p1 rd1 → TrG G lt p1 D1 rt1 → SmN p p1 → FrT G E h h1 → WW X (BaP z h G lt E p) z h1 0 0 5 [(0, .ref (nA E rt1)), (1, .ref (nA E x1))] [] := by
    intro fu
    induction fu with
    | zero => intro x1 D1 h1 p1 rd1 rt1 q; omega
    | succ fu ih =>
      intro x1 D1 h1 p1 rd1 rt1 hfu gx1 hT1 hG1 hN1 hF1
      refine ww_aload_n C dJ28_balanceInsertion_5 rfl 1 rfl rfl ?_
      refine gf_J28_9_J28 C dJ28_balanceInsertion_6 (Or.inl (hT1.1 x1 gx1)) rfl ?_
      refine ww_dup C dJ28_balanceInsertion_9 (va_rf_cat _) ?_
      refine ww_astore_n (lv' := [(2, va_rf ((p1 1 x1).map (nA E))), (0, .ref (nA E rt1)), (1, .ref (nA E x1))]) C dJ28_balanceInsertion_10 rfl (by decide) (va_rf_isRef _) rfl ?_
      rcases h_k : p1 1 x1 with _ | k
      · skip
        show WW X (BaP z h G lt E p) z h1 0 0 11 [(2, .null), (0, .ref (nA E rt1)), (1, .ref (nA E x1))] [.null]
        refine ww_ifnonnull_f C dJ28_balanceInsertion_11 ?_
        refine ww_aload_n C dJ28_balanceInsertion_14 rfl 2 rfl rfl ?_
        refine ww_iconst C dJ28_balanceInsertion_15 cI_0 ?_
        refine pf_J28_93_J28 (fs' := [.null, .null, .int (nH E x1), .ref (nK E x1), .ref (nV E x1), va_rf ((p1 0 x1).map (nA E)), va_rf ((p1 1 x1).map (nA E)), va_rf ((p1 2 x1).map (nA E)), va_rf ((p1 3 x1).map (nA E)), va_rf ((p1 4 x1).map (nA E)), .int (nI 0)]) C dJ28_balanceInsertion_16 (hT1.1 x1 gx1) nar_z0 fit_z0 (Nat.le_of_ble_eq_true rfl) rfl ?_
        refine ww_gen (fun h31 hE31 => ?_)
        obtain ⟨rd31, erd31⟩ : ∃ Q9, Q9 = va_up rd1 x1 false := ⟨_, rfl⟩
        have hT31 : TnH h31 G E p1 rd31 := by rw [erd31, hE31]; exact hT1.red (b := false) gx1
        have hF31 : FrT G E h h31 := by rw [hE31]; exact hF1.put gx1
        refine ww_aload_n C dJ28_balanceInsertion_19 rfl 2 rfl rfl ?_
        exact ww_aret C (Or.inl ⟨_, rfl⟩) dJ28_balanceInsertion_20 rfl ⟨rfl, p1, rd31, D1, rt1, by rw [hG1.top gx1 h_k], hT31, hG1, hN1, hF31⟩
      · skip
        show WW X (BaP z h G lt E p) z h1 0 0 11 [(2, .ref (nA E k)), (0, .ref (nA E rt1)), (1, .ref (nA E x1))] [.ref (nA E k)]
        have gk : G k := (hG1.len1 gx1 h_k).1
        refine ww_ifnonnull_t (tgt := 21) C dJ28_balanceInsertion_11 (by decide) ?_
        refine ww_aload_n C dJ28_balanceInsertion_21 rfl 0 rfl rfl ?_
        refine gf_J28_93_J28 C dJ28_balanceInsertion_22 (Or.inl (hT1.1 k gk)) rfl ?_
        refine ww_if_eq_b (tgt := 37) C dJ28_balanceInsertion_25 (by decide) (fun c_25 => ?_) (fun c_25 => ?_)
        · skip
          refine ww_aload_n C dJ28_balanceInsertion_37 rfl 1 rfl rfl ?_
          exact ww_aret C (Or.inl ⟨_, rfl⟩) dJ28_balanceInsertion_38 rfl ⟨rfl, p1, rd1, D1, rt1, rfl, hT1, hG1, hN1, hF1⟩
        · skip
          refine ww_aload_n C dJ28_balanceInsertion_28 rfl 0 rfl rfl ?_
          refine gf_J28_9_J28 C dJ28_balanceInsertion_29 (Or.inl (hT1.1 k gk)) rfl ?_
          refine ww_dup C dJ28_balanceInsertion_32 (va_rf_cat _) ?_
          refine ww_astore_n (lv' := [(3, va_rf ((p1 1 k).map (nA E))), (2, .ref (nA E k)), (0, .ref (nA E rt1)), (1, .ref (nA E x1))]) C dJ28_balanceInsertion_33 rfl (by decide) (va_rf_isRef _) rfl ?_
          rcases h_g : p1 1 k with _ | g
          · skip
            show WW X (BaP z h G lt E p) z h1 0 0 34 [(3, .null), (2, .ref (nA E k)), (0, .ref (nA E rt1)), (1, .ref (nA E x1))] [.null]
            refine ww_ifnonnull_f C dJ28_balanceInsertion_34 ?_
            refine ww_aload_n C dJ28_balanceInsertion_37 rfl 2 rfl rfl ?_
            exact ww_aret C (Or.inl ⟨_, rfl⟩) dJ28_balanceInsertion_38 rfl ⟨rfl, p1, rd1, D1, rt1, rfl, hT1, hG1, hN1, hF1⟩
          · skip
            show WW X (BaP z h G lt E p) z h1 0 0 34 [(3, .ref (nA E g)), (2, .ref (nA E k)), (0, .ref (nA E rt1)), (1, .ref (nA E x1))] [.ref (nA E g)]
            have gg : G g := (hG1.len1 gk h_g).1
            have hlen : (D1 x1).length < (D1 g).length ∧ (D1 g).length ≤ (D1 rt1).length := ⟨Nat.lt_trans (hG1.len1 gx1 h_k).2 (hG1.len1 gk h_g).2, hG1.le gg⟩
            have nkx : k ≠ x1 := fun e => by have := (hG1.len1 gx1 h_k).2; rw [e] at this; omega
            have nkg : k ≠ g := fun e => by have := (hG1.len1 gk h_g).2; rw [e] at this; omega
            have nxg : x1 ≠ g := fun e => by rw [e] at hlen; omega
            refine ww_ifnonnull_t (tgt := 39) C dJ28_balanceInsertion_34 (by decide) ?_
            refine ww_aload_n C dJ28_balanceInsertion_39 rfl 1 rfl rfl ?_
            refine ww_aload_n C dJ28_balanceInsertion_40 rfl 0 rfl rfl ?_
            refine gf_J28_39_J28 C dJ28_balanceInsertion_41 (Or.inl (hT1.1 g gg)) rfl ?_
            refine ww_dup C dJ28_balanceInsertion_44 (va_rf_cat _) ?_
            refine ww_astore (lv' := [(4, va_rf ((p1 2 g).map (nA E))), (3, .ref (nA E g)), (2, .ref (nA E k)), (0, .ref (nA E rt1)), (1, .ref (nA E x1))]) C dJ28_balanceInsertion_45 (by decide) (va_rf_isRef _) rfl ?_
            have hgk : p1 2 g = some k ∨ p1 3 g = some k := by rcases hG1.2.2.1 k gk with q | ⟨j, q1, q2, q3⟩; { rw [q.2] at h_g; cases h_g }; { rw [h_g] at q2; rw [Option.some.inj q2]; exact q3 }
            have hkx : p1 2 k = some x1 ∨ p1 3 k = some x1 := by rcases hG1.2.2.1 x1 gx1 with q | ⟨j, q1, q2, q3⟩; { rw [q.2] at h_k; cases h_k }; { rw [h_k] at q2; rw [Option.some.inj q2]; exact q3 }
            by_cases eL : p1 2 g = some k
            · skip
              have K89 : WW X (BaP z h G lt E p) z h1 0 0 89 [(3, .ref (nA E g)), (2, .ref (nA E k)), (0, .ref (nA E rt1)), (1, .ref (nA E x1))] [] := by
                refine ww_aload_n C dJ28_balanceInsertion_89 rfl 3 rfl rfl ?_
                refine ww_aload_n C dJ28_balanceInsertion_90 rfl 1 rfl rfl ?_
                refine gf_J28_42_J28 C dJ28_balanceInsertion_91 (Or.inl (hT1.1 k gk)) rfl ?_
                by_cases eR : p1 3 k = some x1
                · skip
                  refine ww_acmp_ne_f (rx := (some (nA E x1))) (ry := ((p1 3 k).map (nA E))) (tgt := 123) C dJ28_balanceInsertion_94 (by decide) (by rw [eR]; rfl) ?_
                  refine ww_aload_n C dJ28_balanceInsertion_97 rfl 2 rfl rfl ?_
                  refine ww_aload_n C dJ28_balanceInsertion_98 rfl 1 rfl rfl ?_
                  refine ww_dup C dJ28_balanceInsertion_99 rfl ?_
                  refine ww_astore_n (lv' := [(1, .ref (nA E k)), (3, .ref (nA E g)), (2, .ref (nA E k)), (0, .ref (nA E rt1))]) C dJ28_balanceInsertion_100 rfl (by decide) rfl rfl ?_
                  refine cs_J28_130_q (As := [.ref (nA E rt1), .ref (nA E k)]) (rest := []) C dJ28_balanceInsertion_101 (ct_J28_rotateLeft (Cx.fl C) (Cx.ok C) hT1 hG1 gk eR) rfl rfl (Nat.le_of_ble_eq_true rfl) (by decide) (Nat.zero_le _) (Nat.zero_le _) (fun vv z2 h2 q => ?_)
                  obtain ⟨hq2, hv2, hT2, hF2⟩ := q; replace hq2 := hq2.symm; subst hq2; subst hv2
                  have hG2 := hG1.rl hl9 gk eR
                  obtain ⟨p2, ep2⟩ : ∃ q, q = rotL p1 k x1 := ⟨_, rfl⟩
                  rw [← ep2] at hT2 hG2
                  obtain ⟨rd2, erd2⟩ : ∃ q, q = (if p1 1 k = none then va_up rd1 x1 false else rd1) := ⟨_, rfl⟩
                  rw [← erd2] at hT2
                  have hN2 : SmN p p2 := by rw [ep2]; exact hN1.tr SmN.rl
                  have hF2 := hF1.tr hF2
                  have a1 : p2 1 k = some x1 := by rw [ep2]; exact rl_1x
                  have a2 : p2 1 x1 = some g := by rw [ep2, rl_1r (Ne.symm nkx)]; exact h_g
                  have a3 : p2 2 g = some x1 := by rw [ep2]; exact rl_2p h_g eL (Ne.symm nxg)
                  refine ww_astore_n (lv' := [(0, .ref (nA E (rotT p1 k x1 rt1))), (1, .ref (nA E k)), (3, .ref (nA E g)), (2, .ref (nA E k))]) C dJ28_balanceInsertion_104 rfl (by decide) rfl rfl ?_
                  refine ww_aload_n C dJ28_balanceInsertion_105 rfl 1 rfl rfl ?_
                  refine gf_J28_9_J28 C dJ28_balanceInsertion_106 (Or.inl (hT2.1 k gk)) rfl ?_
                  refine ww_st (st' := [.ref (nA E x1)]) (by rw [a1]; rfl) ?_
                  refine ww_dup C dJ28_balanceInsertion_109 rfl ?_
                  refine ww_astore_n (lv' := [(2, .ref (nA E x1)), (0, .ref (nA E (rotT p1 k x1 rt1))), (1, .ref (nA E k)), (3, .ref (nA E g))]) C dJ28_balanceInsertion_110 rfl (by decide) rfl rfl ?_
                  refine ww_ifnonnull_t (tgt := 118) C dJ28_balanceInsertion_111 (by decide) ?_
                  refine ww_aload_n C dJ28_balanceInsertion_118 rfl 0 rfl rfl ?_
                  refine gf_J28_9_J28 C dJ28_balanceInsertion_119 (Or.inl (hT2.1 x1 gx1)) rfl ?_
                  refine ww_st (st' := [.ref (nA E g)]) (by rw [a2]; rfl) ?_
                  refine ww_astore_n (lv' := [(3, .ref (nA E g)), (2, .ref (nA E x1)), (0, .ref (nA E (rotT p1 k x1 rt1))), (1, .ref (nA E k))]) C dJ28_balanceInsertion_122 rfl (by decide) rfl rfl ?_
                  refine ww_aload_n C dJ28_balanceInsertion_123 rfl 1 rfl rfl ?_
                  refine ww_ifnull_f C dJ28_balanceInsertion_124 ?_
                  refine ww_aload_n C dJ28_balanceInsertion_127 rfl 1 rfl rfl ?_
                  refine ww_iconst C dJ28_balanceInsertion_128 cI_0 ?_
                  refine pf_J28_93_J28 (fs' := [.null, .null, .int (nH E x1), .ref (nK E x1), .ref (nV E x1), va_rf ((p2 0 x1).map (nA E)), va_rf ((p2 1 x1).map (nA E)), va_rf ((p2 2 x1).map (nA E)), va_rf ((p2 3 x1).map (nA E)), va_rf ((p2 4 x1).map (nA E)), .int (nI 0)]) C dJ28_balanceInsertion_129 (hT2.1 x1 gx1) nar_z0 fit_z0 (Nat.le_of_ble_eq_true rfl) rfl ?_
                  refine ww_gen (fun h32 hE32 => ?_)
                  obtain ⟨rd32, erd32⟩ : ∃ Q9, Q9 = va_up rd2 x1 false := ⟨_, rfl⟩
                  have hT32 : TnH h32 G E p2 rd32 := by rw [erd32, hE32]; exact hT2.red (b := false) gx1
                  have hF32 : FrT G E h h32 := by rw [hE32]; exact hF2.put gx1
                  refine ww_aload_n C dJ28_balanceInsertion_132 rfl 0 rfl rfl ?_
                  refine ww_ifnull_f C dJ28_balanceInsertion_133 ?_
                  refine ww_aload_n C dJ28_balanceInsertion_136 rfl 0 rfl rfl ?_
                  refine ww_iconst C dJ28_balanceInsertion_137 cI_1 ?_
                  refine pf_J28_93_J28 (fs' := [.null, .null, .int (nH E g), .ref (nK E g), .ref (nV E g), va_rf ((p2 0 g).map (nA E)), va_rf ((p2 1 g).map (nA E)), va_rf ((p2 2 g).map (nA E)), va_rf ((p2 3 g).map (nA E)), va_rf ((p2 4 g).map (nA E)), .int (nI 1)]) C dJ28_balanceInsertion_138 (hT32.1 g gg) nar_z1 fit_z1 (Nat.le_of_ble_eq_true rfl) rfl ?_
                  refine ww_gen (fun h33 hE33 => ?_)
                  obtain ⟨rd33, erd33⟩ : ∃ Q9, Q9 = va_up rd32 g true := ⟨_, rfl⟩
                  have hT33 : TnH h33 G E p2 rd33 := by rw [erd33, hE33]; exact hT32.red (b := true) gg
                  have hF33 : FrT G E h h33 := by rw [hE33]; exact hF32.put gg
                  have erd_a := erd32
                  have erd_b := erd33
                  refine ww_aload_n C dJ28_balanceInsertion_141 rfl 2 rfl rfl ?_
                  refine ww_aload_n C dJ28_balanceInsertion_142 rfl 0 rfl rfl ?_
                  refine cs_J28_133_q (As := [.ref (nA E (rotT p1 k x1 rt1)), .ref (nA E g)]) (rest := []) C dJ28_balanceInsertion_143 (ct_J28_rotateRight (Cx.fl C) (Cx.ok C) hT33 hG2 gg a3) rfl rfl (Nat.le_of_ble_eq_true rfl) (by decide) (Nat.zero_le _) (Nat.zero_le _) (fun vv z9 h9 q => ?_)
                  obtain ⟨hq9, hv9, hT9, hF9⟩ := q; replace hq9 := hq9.symm; subst hq9; subst hv9
                  refine ww_astore_n (lv' := [(0, .ref (nA E (rotT p2 g x1 (rotT p1 k x1 rt1)))), (3, .ref (nA E g)), (2, .ref (nA E x1)), (1, .ref (nA E k))]) C dJ28_balanceInsertion_146 rfl (by decide) rfl rfl ?_
                  refine ww_goto (tgt := 5) C dJ28_balanceInsertion_147 (by decide) ?_
                  refine ww_sub [0, 3] rfl ?_
                  refine fin k x1 _ h9 _ _ _ gk ?_ ?_ hT9 (hG2.rr hl9 gg a3) (hN2.tr (SmN.rr)) (hF33.tr hF9)
                  · exact (rr_1o (fun e => hG2.two hl9 gx1 (show p2 2 x1 = some k by rw [ep2]; exact rl_2r) e) nkg nkx).trans a1
                  · exact rd_kk nxg erd_a erd_b
                · skip
                  refine ww_acmp_ne_t (rx := (some (nA E x1))) (ry := ((p1 3 k).map (nA E))) (tgt := 123) C dJ28_balanceInsertion_94 (by decide) (fun q => eR (opm hT1 gx1 (by first | exact q.symm | exact (Classical.not_not.mp q).symm) (fun j hj => (hG1.2.1 k j gk (Or.inr hj)).1))) ?_
                  refine ww_aload_n C dJ28_balanceInsertion_123 rfl 1 rfl rfl ?_
                  refine ww_ifnull_f C dJ28_balanceInsertion_124 ?_
                  refine ww_aload_n C dJ28_balanceInsertion_127 rfl 1 rfl rfl ?_
                  refine ww_iconst C dJ28_balanceInsertion_128 cI_0 ?_
                  refine pf_J28_93_J28 (fs' := [.null, .null, .int (nH E k), .ref (nK E k), .ref (nV E k), va_rf ((p1 0 k).map (nA E)), va_rf ((p1 1 k).map (nA E)), va_rf ((p1 2 k).map (nA E)), va_rf ((p1 3 k).map (nA E)), va_rf ((p1 4 k).map (nA E)), .int (nI 0)]) C dJ28_balanceInsertion_129 (hT1.1 k gk) nar_z0 fit_z0 (Nat.le_of_ble_eq_true rfl) rfl ?_
                  refine ww_gen (fun h34 hE34 => ?_)
                  obtain ⟨rd34, erd34⟩ : ∃ Q9, Q9 = va_up rd1 k false := ⟨_, rfl⟩
                  have hT34 : TnH h34 G E p1 rd34 := by rw [erd34, hE34]; exact hT1.red (b := false) gk
                  have hF34 : FrT G E h h34 := by rw [hE34]; exact hF1.put gk
                  refine ww_aload_n C dJ28_balanceInsertion_132 rfl 0 rfl rfl ?_
                  refine ww_ifnull_f C dJ28_balanceInsertion_133 ?_
                  refine ww_aload_n C dJ28_balanceInsertion_136 rfl 0 rfl rfl ?_
                  refine ww_iconst C dJ28_balanceInsertion_137 cI_1 ?_
                  refine pf_J28_93_J28 (fs' := [.null, .null, .int (nH E g), .ref (nK E g), .ref (nV E g), va_rf ((p1 0 g).map (nA E)), va_rf ((p1 1 g).map (nA E)), va_rf ((p1 2 g).map (nA E)), va_rf ((p1 3 g).map (nA E)), va_rf ((p1 4 g).map (nA E)), .int (nI 1)]) C dJ28_balanceInsertion_138 (hT34.1 g gg) nar_z1 fit_z1 (Nat.le_of_ble_eq_true rfl) rfl ?_
                  refine ww_gen (fun h35 hE35 => ?_)
                  obtain ⟨rd35, erd35⟩ : ∃ Q9, Q9 = va_up rd34 g true := ⟨_, rfl⟩
                  have hT35 : TnH h35 G E p1 rd35 := by rw [erd35, hE35]; exact hT34.red (b := true) gg
                  have hF35 : FrT G E h h35 := by rw [hE35]; exact hF34.put gg
                  have erd_a := erd34
                  have erd_b := erd35
                  refine ww_aload_n C dJ28_balanceInsertion_141 rfl 2 rfl rfl ?_
                  refine ww_aload_n C dJ28_balanceInsertion_142 rfl 0 rfl rfl ?_
                  refine cs_J28_133_q (As := [.ref (nA E rt1), .ref (nA E g)]) (rest := []) C dJ28_balanceInsertion_143 (ct_J28_rotateRight (Cx.fl C) (Cx.ok C) hT35 hG1 gg eL) rfl rfl (Nat.le_of_ble_eq_true rfl) (by decide) (Nat.zero_le _) (Nat.zero_le _) (fun vv z9 h9 q => ?_)
                  obtain ⟨hq9, hv9, hT9, hF9⟩ := q; replace hq9 := hq9.symm; subst hq9; subst hv9
                  refine ww_astore_n (lv' := [(0, .ref (nA E (rotT p1 g k rt1))), (3, .ref (nA E g)), (2, .ref (nA E k)), (1, .ref (nA E x1))]) C dJ28_balanceInsertion_146 rfl (by decide) rfl rfl ?_
                  refine ww_goto (tgt := 5) C dJ28_balanceInsertion_147 (by decide) ?_
                  refine ww_sub [0, 3] rfl ?_
                  refine fin x1 k _ h9 _ _ _ gx1 ?_ ?_ hT9 (hG1.rr hl9 gg eL) (hN1.tr (SmN.rr)) (hF35.tr hF9)
                  · exact (rr_1o eR nxg (Ne.symm nkx)).trans h_k
                  · exact rd_kk nkg erd_a erd_b
              refine ww_acmp_ne_f (rx := (some (nA E k))) (ry := ((p1 2 g).map (nA E))) (tgt := 150) C dJ28_balanceInsertion_47 (by decide) (by rw [eL]; rfl) ?_
              refine ww_sub [1, 2, 3, 4] rfl ?_
              refine ww_aload_n C dJ28_balanceInsertion_50 rfl 0 rfl rfl ?_
              refine gf_J28_42_J28 C dJ28_balanceInsertion_51 (Or.inl (hT1.1 g gg)) rfl ?_
              refine ww_dup C dJ28_balanceInsertion_54 (va_rf_cat _) ?_
              refine ww_astore (lv' := [(5, va_rf ((p1 3 g).map (nA E))), (3, .ref (nA E g)), (2, .ref (nA E k)), (0, .ref (nA E rt1)), (1, .ref (nA E x1))]) C dJ28_balanceInsertion_55 (by decide) (va_rf_isRef _) rfl ?_
              rcases h_m : p1 3 g with _ | m
              · skip
                show WW X (BaP z h G lt E p) z h1 0 0 57 [(5, .null), (3, .ref (nA E g)), (2, .ref (nA E k)), (0, .ref (nA E rt1)), (1, .ref (nA E x1))] [.null]
                refine ww_ifnull_t (tgt := 89) C dJ28_balanceInsertion_57 (by decide) ?_
                refine ww_sub [1, 2, 3, 4] rfl ?_
                exact K89
              · skip
                show WW X (BaP z h G lt E p) z h1 0 0 57 [(5, .ref (nA E m)), (3, .ref (nA E g)), (2, .ref (nA E k)), (0, .ref (nA E rt1)), (1, .ref (nA E x1))] [.ref (nA E m)]
                have gm : G m := (hG1.2.1 g m gg (Or.inr h_m)).1
                refine ww_ifnull_f C dJ28_balanceInsertion_57 ?_
                refine ww_aload C dJ28_balanceInsertion_60 0 rfl rfl ?_
                refine gf_J28_93_J28 C dJ28_balanceInsertion_62 (Or.inl (hT1.1 m gm)) rfl ?_
                refine ww_if_eq_b (tgt := 89) C dJ28_balanceInsertion_65 (by decide) (fun c_65 => ?_) (fun c_65 => ?_)
                · skip
                  refine ww_sub [1, 2, 3, 4] rfl ?_
                  exact K89
                · skip
                  refine ww_aload C dJ28_balanceInsertion_68 0 rfl rfl ?_
                  refine ww_iconst C dJ28_balanceInsertion_70 cI_0 ?_
                  refine pf_J28_93_J28 (fs' := [.null, .null, .int (nH E m), .ref (nK E m), .ref (nV E m), va_rf ((p1 0 m).map (nA E)), va_rf ((p1 1 m).map (nA E)), va_rf ((p1 2 m).map (nA E)), va_rf ((p1 3 m).map (nA E)), va_rf ((p1 4 m).map (nA E)), .int (nI 0)]) C dJ28_balanceInsertion_71 (hT1.1 m gm) nar_z0 fit_z0 (Nat.le_of_ble_eq_true rfl) rfl ?_
                  refine ww_gen (fun h36 hE36 => ?_)
                  obtain ⟨rd36, erd36⟩ : ∃ Q9, Q9 = va_up rd1 m false := ⟨_, rfl⟩
                  have hT36 : TnH h36 G E p1 rd36 := by rw [erd36, hE36]; exact hT1.red (b := false) gm
                  have hF36 : FrT G E h h36 := by rw [hE36]; exact hF1.put gm
                  refine ww_aload_n C dJ28_balanceInsertion_74 rfl 2 rfl rfl ?_
                  refine ww_iconst C dJ28_balanceInsertion_75 cI_0 ?_
                  refine pf_J28_93_J28 (fs' := [.null, .null, .int (nH E k), .ref (nK E k), .ref (nV E k), va_rf ((p1 0 k).map (nA E)), va_rf ((p1 1 k).map (nA E)), va_rf ((p1 2 k).map (nA E)), va_rf ((p1 3 k).map (nA E)), va_rf ((p1 4 k).map (nA E)), .int (nI 0)]) C dJ28_balanceInsertion_76 (hT36.1 k gk) nar_z0 fit_z0 (Nat.le_of_ble_eq_true rfl) rfl ?_
                  refine ww_gen (fun h37 hE37 => ?_)
                  obtain ⟨rd37, erd37⟩ : ∃ Q9, Q9 = va_up rd36 k false := ⟨_, rfl⟩
                  have hT37 : TnH h37 G E p1 rd37 := by rw [erd37, hE37]; exact hT36.red (b := false) gk
                  have hF37 : FrT G E h h37 := by rw [hE37]; exact hF36.put gk
                  refine ww_aload_n C dJ28_balanceInsertion_79 rfl 1 rfl rfl ?_
                  refine ww_iconst C dJ28_balanceInsertion_80 cI_1 ?_
                  refine pf_J28_93_J28 (fs' := [.null, .null, .int (nH E g), .ref (nK E g), .ref (nV E g), va_rf ((p1 0 g).map (nA E)), va_rf ((p1 1 g).map (nA E)), va_rf ((p1 2 g).map (nA E)), va_rf ((p1 3 g).map (nA E)), va_rf ((p1 4 g).map (nA E)), .int (nI 1)]) C dJ28_balanceInsertion_81 (hT37.1 g gg) nar_z1 fit_z1 (Nat.le_of_ble_eq_true rfl) rfl ?_
                  refine ww_gen (fun h38 hE38 => ?_)
                  obtain ⟨rd38, erd38⟩ : ∃ Q9, Q9 = va_up rd37 g true := ⟨_, rfl⟩
                  have hT38 : TnH h38 G E p1 rd38 := by rw [erd38, hE38]; exact hT37.red (b := true) gg
                  have hF38 : FrT G E h h38 := by rw [hE38]; exact hF37.put gg
                  refine ww_aload_n C dJ28_balanceInsertion_84 rfl 1 rfl rfl ?_
                  refine ww_astore_n (lv' := [(1, .ref (nA E g)), (5, .ref (nA E m)), (3, .ref (nA E g)), (2, .ref (nA E k)), (0, .ref (nA E rt1))]) C dJ28_balanceInsertion_85 rfl (by decide) rfl rfl ?_
                  refine ww_goto (tgt := 5) C dJ28_balanceInsertion_86 (by decide) ?_
                  refine ww_sub [4, 0] rfl ?_
                  exact ih g D1 h38 p1 rd38 rt1 (by omega) gg hT38 hG1 hN1 hF38
            · skip
              have hgR : p1 3 g = some k := hgk.resolve_left eL
              have K89 : WW X (BaP z h G lt E p) z h1 0 0 184 [(3, .ref (nA E g)), (2, .ref (nA E k)), (0, .ref (nA E rt1)), (1, .ref (nA E x1))] [] := by
                refine ww_aload_n C dJ28_balanceInsertion_184 rfl 3 rfl rfl ?_
                refine ww_aload_n C dJ28_balanceInsertion_185 rfl 1 rfl rfl ?_
                refine gf_J28_39_J28 C dJ28_balanceInsertion_186 (Or.inl (hT1.1 k gk)) rfl ?_
                by_cases eR : p1 2 k = some x1
                · skip
                  refine ww_acmp_ne_f (rx := (some (nA E x1))) (ry := ((p1 2 k).map (nA E))) (tgt := 218) C dJ28_balanceInsertion_189 (by decide) (by rw [eR]; rfl) ?_
                  refine ww_aload_n C dJ28_balanceInsertion_192 rfl 2 rfl rfl ?_
                  refine ww_aload_n C dJ28_balanceInsertion_193 rfl 1 rfl rfl ?_
                  refine ww_dup C dJ28_balanceInsertion_194 rfl ?_
                  refine ww_astore_n (lv' := [(1, .ref (nA E k)), (3, .ref (nA E g)), (2, .ref (nA E k)), (0, .ref (nA E rt1))]) C dJ28_balanceInsertion_195 rfl (by decide) rfl rfl ?_
                  refine cs_J28_133_q (As := [.ref (nA E rt1), .ref (nA E k)]) (rest := []) C dJ28_balanceInsertion_196 (ct_J28_rotateRight (Cx.fl C) (Cx.ok C) hT1 hG1 gk eR) rfl rfl (Nat.le_of_ble_eq_true rfl) (by decide) (Nat.zero_le _) (Nat.zero_le _) (fun vv z2 h2 q => ?_)
                  obtain ⟨hq2, hv2, hT2, hF2⟩ := q; replace hq2 := hq2.symm; subst hq2; subst hv2
                  have hG2 := hG1.rr hl9 gk eR
                  obtain ⟨p2, ep2⟩ : ∃ q, q = rotR p1 k x1 := ⟨_, rfl⟩
                  rw [← ep2] at hT2 hG2
                  obtain ⟨rd2, erd2⟩ : ∃ q, q = (if p1 1 k = none then va_up rd1 x1 false else rd1) := ⟨_, rfl⟩
                  rw [← erd2] at hT2
                  have hN2 : SmN p p2 := by rw [ep2]; exact hN1.tr SmN.rr
                  have hF2 := hF1.tr hF2
                  have a1 : p2 1 k = some x1 := by rw [ep2]; exact rr_1x
                  have a2 : p2 1 x1 = some g := by rw [ep2, rr_1r (Ne.symm nkx)]; exact h_g
                  have a3 : p2 3 g = some x1 := by rw [ep2]; exact rr_3p h_g (by first | exact hgR) (Ne.symm nxg)
                  refine ww_astore_n (lv' := [(0, .ref (nA E (rotT p1 k x1 rt1))), (1, .ref (nA E k)), (3, .ref (nA E g)), (2, .ref (nA E k))]) C dJ28_balanceInsertion_199 rfl (by decide) rfl rfl ?_
                  refine ww_aload_n C dJ28_balanceInsertion_200 rfl 1 rfl rfl ?_
                  refine gf_J28_9_J28 C dJ28_balanceInsertion_201 (Or.inl (hT2.1 k gk)) rfl ?_
                  refine ww_st (st' := [.ref (nA E x1)]) (by rw [a1]; rfl) ?_
                  refine ww_dup C dJ28_balanceInsertion_204 rfl ?_
                  refine ww_astore_n (lv' := [(2, .ref (nA E x1)), (0, .ref (nA E (rotT p1 k x1 rt1))), (1, .ref (nA E k)), (3, .ref (nA E g))]) C dJ28_balanceInsertion_205 rfl (by decide) rfl rfl ?_
                  refine ww_ifnonnull_t (tgt := 213) C dJ28_balanceInsertion_206 (by decide) ?_
                  refine ww_aload_n C dJ28_balanceInsertion_213 rfl 0 rfl rfl ?_
                  refine gf_J28_9_J28 C dJ28_balanceInsertion_214 (Or.inl (hT2.1 x1 gx1)) rfl ?_
                  refine ww_st (st' := [.ref (nA E g)]) (by rw [a2]; rfl) ?_
                  refine ww_astore_n (lv' := [(3, .ref (nA E g)), (2, .ref (nA E x1)), (0, .ref (nA E (rotT p1 k x1 rt1))), (1, .ref (nA E k))]) C dJ28_balanceInsertion_217 rfl (by decide) rfl rfl ?_
                  refine ww_aload_n C dJ28_balanceInsertion_218 rfl 1 rfl rfl ?_
                  refine ww_ifnull_f C dJ28_balanceInsertion_219 ?_
                  refine ww_aload_n C dJ28_balanceInsertion_222 rfl 1 rfl rfl ?_
                  refine ww_iconst C dJ28_balanceInsertion_223 cI_0 ?_
                  refine pf_J28_93_J28 (fs' := [.null, .null, .int (nH E x1), .ref (nK E x1), .ref (nV E x1), va_rf ((p2 0 x1).map (nA E)), va_rf ((p2 1 x1).map (nA E)), va_rf ((p2 2 x1).map (nA E)), va_rf ((p2 3 x1).map (nA E)), va_rf ((p2 4 x1).map (nA E)), .int (nI 0)]) C dJ28_balanceInsertion_224 (hT2.1 x1 gx1) nar_z0 fit_z0 (Nat.le_of_ble_eq_true rfl) rfl ?_
                  refine ww_gen (fun h39 hE39 => ?_)
                  obtain ⟨rd39, erd39⟩ : ∃ Q9, Q9 = va_up rd2 x1 false := ⟨_, rfl⟩
                  have hT39 : TnH h39 G E p2 rd39 := by rw [erd39, hE39]; exact hT2.red (b := false) gx1
                  have hF39 : FrT G E h h39 := by rw [hE39]; exact hF2.put gx1
                  refine ww_aload_n C dJ28_balanceInsertion_227 rfl 0 rfl rfl ?_
                  refine ww_ifnull_f C dJ28_balanceInsertion_228 ?_
                  refine ww_aload_n C dJ28_balanceInsertion_231 rfl 0 rfl rfl ?_
                  refine ww_iconst C dJ28_balanceInsertion_232 cI_1 ?_
                  refine pf_J28_93_J28 (fs' := [.null, .null, .int (nH E g), .ref (nK E g), .ref (nV E g), va_rf ((p2 0 g).map (nA E)), va_rf ((p2 1 g).map (nA E)), va_rf ((p2 2 g).map (nA E)), va_rf ((p2 3 g).map (nA E)), va_rf ((p2 4 g).map (nA E)), .int (nI 1)]) C dJ28_balanceInsertion_233 (hT39.1 g gg) nar_z1 fit_z1 (Nat.le_of_ble_eq_true rfl) rfl ?_
                  refine ww_gen (fun h40 hE40 => ?_)
                  obtain ⟨rd40, erd40⟩ : ∃ Q9, Q9 = va_up rd39 g true := ⟨_, rfl⟩
                  have hT40 : TnH h40 G E p2 rd40 := by rw [erd40, hE40]; exact hT39.red (b := true) gg
                  have hF40 : FrT G E h h40 := by rw [hE40]; exact hF39.put gg
                  have erd_a := erd39
                  have erd_b := erd40
                  refine ww_aload_n C dJ28_balanceInsertion_236 rfl 2 rfl rfl ?_
                  refine ww_aload_n C dJ28_balanceInsertion_237 rfl 0 rfl rfl ?_
                  refine cs_J28_130_q (As := [.ref (nA E (rotT p1 k x1 rt1)), .ref (nA E g)]) (rest := []) C dJ28_balanceInsertion_238 (ct_J28_rotateLeft (Cx.fl C) (Cx.ok C) hT40 hG2 gg a3) rfl rfl (Nat.le_of_ble_eq_true rfl) (by decide) (Nat.zero_le _) (Nat.zero_le _) (fun vv z9 h9 q => ?_)
                  obtain ⟨hq9, hv9, hT9, hF9⟩ := q; replace hq9 := hq9.symm; subst hq9; subst hv9
                  refine ww_astore_n (lv' := [(0, .ref (nA E (rotT p2 g x1 (rotT p1 k x1 rt1)))), (3, .ref (nA E g)), (2, .ref (nA E x1)), (1, .ref (nA E k))]) C dJ28_balanceInsertion_241 rfl (by decide) rfl rfl ?_
                  refine ww_goto (tgt := 5) C dJ28_balanceInsertion_242 (by decide) ?_
                  refine ww_sub [0, 3] rfl ?_
                  refine fin k x1 _ h9 _ _ _ gk ?_ ?_ hT9 (hG2.rl hl9 gg a3) (hN2.tr (SmN.rl)) (hF40.tr hF9)
                  · exact (rl_1o (fun e => hG2.two hl9 gx1 (show p2 2 x1 = some k from e) (by rw [ep2]; exact rr_3r)) nkg nkx).trans a1
                  · exact rd_kk nxg erd_a erd_b
                · skip
                  refine ww_acmp_ne_t (rx := (some (nA E x1))) (ry := ((p1 2 k).map (nA E))) (tgt := 218) C dJ28_balanceInsertion_189 (by decide) (fun q => eR (opm hT1 gx1 (by first | exact q.symm | exact (Classical.not_not.mp q).symm) (fun j hj => (hG1.2.1 k j gk (Or.inl hj)).1))) ?_
                  refine ww_aload_n C dJ28_balanceInsertion_218 rfl 1 rfl rfl ?_
                  refine ww_ifnull_f C dJ28_balanceInsertion_219 ?_
                  refine ww_aload_n C dJ28_balanceInsertion_222 rfl 1 rfl rfl ?_
                  refine ww_iconst C dJ28_balanceInsertion_223 cI_0 ?_
                  refine pf_J28_93_J28 (fs' := [.null, .null, .int (nH E k), .ref (nK E k), .ref (nV E k), va_rf ((p1 0 k).map (nA E)), va_rf ((p1 1 k).map (nA E)), va_rf ((p1 2 k).map (nA E)), va_rf ((p1 3 k).map (nA E)), va_rf ((p1 4 k).map (nA E)), .int (nI 0)]) C dJ28_balanceInsertion_224 (hT1.1 k gk) nar_z0 fit_z0 (Nat.le_of_ble_eq_true rfl) rfl ?_
                  refine ww_gen (fun h41 hE41 => ?_)
                  obtain ⟨rd41, erd41⟩ : ∃ Q9, Q9 = va_up rd1 k false := ⟨_, rfl⟩
                  have hT41 : TnH h41 G E p1 rd41 := by rw [erd41, hE41]; exact hT1.red (b := false) gk
                  have hF41 : FrT G E h h41 := by rw [hE41]; exact hF1.put gk
                  refine ww_aload_n C dJ28_balanceInsertion_227 rfl 0 rfl rfl ?_
                  refine ww_ifnull_f C dJ28_balanceInsertion_228 ?_
                  refine ww_aload_n C dJ28_balanceInsertion_231 rfl 0 rfl rfl ?_
                  refine ww_iconst C dJ28_balanceInsertion_232 cI_1 ?_
                  refine pf_J28_93_J28 (fs' := [.null, .null, .int (nH E g), .ref (nK E g), .ref (nV E g), va_rf ((p1 0 g).map (nA E)), va_rf ((p1 1 g).map (nA E)), va_rf ((p1 2 g).map (nA E)), va_rf ((p1 3 g).map (nA E)), va_rf ((p1 4 g).map (nA E)), .int (nI 1)]) C dJ28_balanceInsertion_233 (hT41.1 g gg) nar_z1 fit_z1 (Nat.le_of_ble_eq_true rfl) rfl ?_
                  refine ww_gen (fun h42 hE42 => ?_)
                  obtain ⟨rd42, erd42⟩ : ∃ Q9, Q9 = va_up rd41 g true := ⟨_, rfl⟩
                  have hT42 : TnH h42 G E p1 rd42 := by rw [erd42, hE42]; exact hT41.red (b := true) gg
                  have hF42 : FrT G E h h42 := by rw [hE42]; exact hF41.put gg
                  have erd_a := erd41
                  have erd_b := erd42
                  refine ww_aload_n C dJ28_balanceInsertion_236 rfl 2 rfl rfl ?_
                  refine ww_aload_n C dJ28_balanceInsertion_237 rfl 0 rfl rfl ?_
                  refine cs_J28_130_q (As := [.ref (nA E rt1), .ref (nA E g)]) (rest := []) C dJ28_balanceInsertion_238 (ct_J28_rotateLeft (Cx.fl C) (Cx.ok C) hT42 hG1 gg hgR) rfl rfl (Nat.le_of_ble_eq_true rfl) (by decide) (Nat.zero_le _) (Nat.zero_le _) (fun vv z9 h9 q => ?_)
                  obtain ⟨hq9, hv9, hT9, hF9⟩ := q; replace hq9 := hq9.symm; subst hq9; subst hv9
                  refine ww_astore_n (lv' := [(0, .ref (nA E (rotT p1 g k rt1))), (3, .ref (nA E g)), (2, .ref (nA E k)), (1, .ref (nA E x1))]) C dJ28_balanceInsertion_241 rfl (by decide) rfl rfl ?_
                  refine ww_goto (tgt := 5) C dJ28_balanceInsertion_242 (by decide) ?_
                  refine ww_sub [0, 3] rfl ?_
                  refine fin x1 k _ h9 _ _ _ gx1 ?_ ?_ hT9 (hG1.rl hl9 gg hgR) (hN1.tr (SmN.rl)) (hF42.tr hF9)
                  · exact (rl_1o eR nxg (Ne.symm nkx)).trans h_k
                  · exact rd_kk nkg erd_a erd_b
              refine ww_acmp_ne_t (rx := (some (nA E k))) (ry := ((p1 2 g).map (nA E))) (tgt := 150) C dJ28_balanceInsertion_47 (by decide) (fun q => eL (opm hT1 gk (by first | exact q.symm | exact (Classical.not_not.mp q).symm) (fun j hj => (hG1.2.1 g j gg (Or.inl hj)).1))) ?_
              refine ww_aload C dJ28_balanceInsertion_150 0 rfl (va_rf_isRef _) ?_
              rcases h_m : p1 2 g with _ | m
              · skip
                show WW X (BaP z h G lt E p) z h1 0 0 152 [(4, .null), (3, .ref (nA E g)), (2, .ref (nA E k)), (0, .ref (nA E rt1)), (1, .ref (nA E x1))] [.null]
                refine ww_ifnull_t (tgt := 184) C dJ28_balanceInsertion_152 (by decide) ?_
                refine ww_sub [1, 2, 3, 4] rfl ?_
                exact K89
              · skip
                show WW X (BaP z h G lt E p) z h1 0 0 152 [(4, .ref (nA E m)), (3, .ref (nA E g)), (2, .ref (nA E k)), (0, .ref (nA E rt1)), (1, .ref (nA E x1))] [.ref (nA E m)]
                have gm : G m := (hG1.2.1 g m gg (Or.inl h_m)).1
                refine ww_ifnull_f C dJ28_balanceInsertion_152 ?_
                refine ww_aload C dJ28_balanceInsertion_155 0 rfl rfl ?_
                refine gf_J28_93_J28 C dJ28_balanceInsertion_157 (Or.inl (hT1.1 m gm)) rfl ?_
                refine ww_if_eq_b (tgt := 184) C dJ28_balanceInsertion_160 (by decide) (fun c_160 => ?_) (fun c_160 => ?_)
                · skip
                  refine ww_sub [1, 2, 3, 4] rfl ?_
                  exact K89
                · skip
                  refine ww_aload C dJ28_balanceInsertion_163 0 rfl rfl ?_
                  refine ww_iconst C dJ28_balanceInsertion_165 cI_0 ?_
                  refine pf_J28_93_J28 (fs' := [.null, .null, .int (nH E m), .ref (nK E m), .ref (nV E m), va_rf ((p1 0 m).map (nA E)), va_rf ((p1 1 m).map (nA E)), va_rf ((p1 2 m).map (nA E)), va_rf ((p1 3 m).map (nA E)), va_rf ((p1 4 m).map (nA E)), .int (nI 0)]) C dJ28_balanceInsertion_166 (hT1.1 m gm) nar_z0 fit_z0 (Nat.le_of_ble_eq_true rfl) rfl ?_
                  refine ww_gen (fun h43 hE43 => ?_)
                  obtain ⟨rd43, erd43⟩ : ∃ Q9, Q9 = va_up rd1 m false := ⟨_, rfl⟩
                  have hT43 : TnH h43 G E p1 rd43 := by rw [erd43, hE43]; exact hT1.red (b := false) gm
                  have hF43 : FrT G E h h43 := by rw [hE43]; exact hF1.put gm
                  refine ww_aload_n C dJ28_balanceInsertion_169 rfl 2 rfl rfl ?_
                  refine ww_iconst C dJ28_balanceInsertion_170 cI_0 ?_
                  refine pf_J28_93_J28 (fs' := [.null, .null, .int (nH E k), .ref (nK E k), .ref (nV E k), va_rf ((p1 0 k).map (nA E)), va_rf ((p1 1 k).map (nA E)), va_rf ((p1 2 k).map (nA E)), va_rf ((p1 3 k).map (nA E)), va_rf ((p1 4 k).map (nA E)), .int (nI 0)]) C dJ28_balanceInsertion_171 (hT43.1 k gk) nar_z0 fit_z0 (Nat.le_of_ble_eq_true rfl) rfl ?_
                  refine ww_gen (fun h44 hE44 => ?_)
                  obtain ⟨rd44, erd44⟩ : ∃ Q9, Q9 = va_up rd43 k false := ⟨_, rfl⟩
                  have hT44 : TnH h44 G E p1 rd44 := by rw [erd44, hE44]; exact hT43.red (b := false) gk
                  have hF44 : FrT G E h h44 := by rw [hE44]; exact hF43.put gk
                  refine ww_aload_n C dJ28_balanceInsertion_174 rfl 1 rfl rfl ?_
                  refine ww_iconst C dJ28_balanceInsertion_175 cI_1 ?_
                  refine pf_J28_93_J28 (fs' := [.null, .null, .int (nH E g), .ref (nK E g), .ref (nV E g), va_rf ((p1 0 g).map (nA E)), va_rf ((p1 1 g).map (nA E)), va_rf ((p1 2 g).map (nA E)), va_rf ((p1 3 g).map (nA E)), va_rf ((p1 4 g).map (nA E)), .int (nI 1)]) C dJ28_balanceInsertion_176 (hT44.1 g gg) nar_z1 fit_z1 (Nat.le_of_ble_eq_true rfl) rfl ?_
                  refine ww_gen (fun h45 hE45 => ?_)
                  obtain ⟨rd45, erd45⟩ : ∃ Q9, Q9 = va_up rd44 g true := ⟨_, rfl⟩
                  have hT45 : TnH h45 G E p1 rd45 := by rw [erd45, hE45]; exact hT44.red (b := true) gg
                  have hF45 : FrT G E h h45 := by rw [hE45]; exact hF44.put gg
                  refine ww_aload_n C dJ28_balanceInsertion_179 rfl 1 rfl rfl ?_
                  refine ww_astore_n (lv' := [(1, .ref (nA E g)), (4, .ref (nA E m)), (3, .ref (nA E g)), (2, .ref (nA E k)), (0, .ref (nA E rt1))]) C dJ28_balanceInsertion_180 rfl (by decide) rfl rfl ?_
                  refine ww_goto (tgt := 5) C dJ28_balanceInsertion_181 (by decide) ?_
                  refine ww_sub [4, 0] rfl ?_
                  exact ih g D1 h45 p1 rd45 rt1 (by omega) gg hT45 hG1 hN1 hF45
  exact key _ x D h1 p rd1 rt (Nat.lt_succ_self _) gx hT1 hG SmN.rf hF1
end TREE2
