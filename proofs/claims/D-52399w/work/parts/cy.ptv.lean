section PTV0
set_option maxRecDepth 100000
/-- the node x gets an address -/
def ndE (E : ND) (x a : Nat) : ND := (va_up (nA E) x a, E.2)
theorem ndE_o {E : ND} {x a i : Nat} (h : i ≠ x) : nA (ndE E x a) i = nA E i := va_ne h
theorem ndE_s {E : ND} {x a : Nat} : nA (ndE E x a) x = a := va_eq
/-- all pointers stay among the nodes -/
def ClA (G : Nat → Prop) (p : PT) : Prop := ∀ i, G i → ∀ f, f < 5 → ∀ j, p f i = some j → G j
theorem ClA.of {G : Nat → Prop} {lt : Nat → Nat → Prop} {p : PT} {D : Nat → List Nat} {rt : Nat} (hG : TrG G lt p D rt) (hc : ClN G p) : ClA G p := fun i hi f hf j hj => by
  have : f = 0 ∨ f = 1 ∨ f = 2 ∨ f = 3 ∨ f = 4 := by omega
  rcases this with rfl | rfl | rfl | rfl | rfl
  · exact hc i hi 0 (Or.inl rfl) j hj
  · exact (hG.len1 hi hj).1
  · exact (hG.2.1 i j hi (Or.inl hj)).1
  · exact (hG.2.1 i j hi (Or.inr hj)).1
  · exact hc i hi 4 (Or.inr rfl) j hj
theorem map_o {E : ND} {x a : Nat} {o : Option Nat} (h : o ≠ some x) : o.map (nA (ndE E x a)) = o.map (nA E) := by
  cases o with
  | none => rfl
  | some j => show some _ = some _; rw [ndE_o (fun e => h (by rw [e]))]
/-- a fresh leaf's pointers -/
def lfP (p : PT) (x : Nat) (o : Option Nat) : PT := pst (pst (pst (pst (pst p 0 x o) 1 x none) 2 x none) 3 x none) 4 x none
theorem lfP_o {p : PT} {x f i : Nat} {o : Option Nat} (h : i ≠ x) : lfP p x o f i = p f i := by
  unfold lfP; rw [pst_i h, pst_i h, pst_i h, pst_i h, pst_i h]
theorem lfP_x {p : PT} {x : Nat} {o : Option Nat} : lfP p x o 0 x = o ∧ lfP p x o 1 x = none ∧ lfP p x o 2 x = none ∧ lfP p x o 3 x = none ∧ lfP p x o 4 x = none := by
  unfold lfP pst; simp
/-- a new tree node beside the others -/
theorem TnH.nw {h : AH} {G : Nat → Prop} {E : ND} {p : PT} {rd : Nat → Bool} {x a : Nat} {o : Option Nat} (hT : TnH h G E p rd) (hc : ClA G p) (hx : ¬ G x) (ha : h a = none) (ho : o ≠ some x) : TnH (up h a (.inr (29, [.null, .null, .int (nH E x), .ref (nK E x), .ref (nV E x), va_rf (o.map (nA E)), .null, .null, .null, .null, .int (nI 0)]))) (insG G x) (ndE E x a) (lfP p x o) (va_up rd x false) := by
  have gn : ∀ i, G i → i ≠ x := fun i hi e => hx (by rw [← e]; exact hi)
  have hna : ∀ i, G i → nA E i ≠ a := fun i hi => ne_nw (hT.1 i hi) ha
  refine ⟨fun i hi => ?_, fun i j hi hj e => ?_⟩
  · rcases hi with hi | rfl
    · rw [ndE_o (gn i hi), up_n (hna i hi), hT.1 i hi]
      have nx : ∀ f, f < 5 → p f i ≠ some x := fun f hf e => hx (hc i hi f hf x e)
      unfold cTn
      rw [lfP_o (gn i hi), lfP_o (gn i hi), lfP_o (gn i hi), lfP_o (gn i hi), lfP_o (gn i hi), va_ne (gn i hi)]
      rw [map_o (nx 0 (by decide)), map_o (nx 1 (by decide)), map_o (nx 2 (by decide)), map_o (nx 3 (by decide)), map_o (nx 4 (by decide))]
      rfl
    · rw [ndE_s, up_s]
      unfold cTn
      obtain ⟨l0, l1, l2, l3, l4⟩ := lfP_x (p := p) (x := i) (o := o)
      rw [l0, l1, l2, l3, l4, va_eq, map_o ho]
      rfl
  · rcases hi with hi | rfl
    · rcases hj with hj | rfl
      · rw [ndE_o (gn i hi), ndE_o (gn j hj)] at e; exact hT.2 i j hi hj e
      · rw [ndE_o (gn i hi), ndE_s] at e; exact absurd e (hna i hi)
    · rcases hj with hj | rfl
      · rw [ndE_o (gn j hj), ndE_s] at e; exact absurd e.symm (hna j hj)
      · rfl
theorem FrT.nw {G : Nat → Prop} {E : ND} {h h1 h' : AH} {x a : Nat} (hF : FrT (insG G x) (ndE E x a) h1 h') (hx : ¬ G x) (ha : h a = none) (he : hle h h1) : FrT G E h h' := fun q e hq hn => hF q e (he q e hq) (fun i hi => by
  rcases hi with hi | rfl
  · rw [ndE_o (fun e => hx (by rw [← e]; exact hi))]; exact hn i hi
  · rw [ndE_s]; exact ne_nw hq ha)
theorem ClN.nw {G : Nat → Prop} {p : PT} {x : Nat} {o : Option Nat} (h : ClN G p) (hx : ¬ G x) (ho : ∀ j, o = some j → G j) : ClN (insG G x) (lfP p x o) := fun i hi f hf j hj => by
  rcases hi with hi | rfl
  · rw [lfP_o (fun e => hx (by rw [← e]; exact hi))] at hj; exact Or.inl (h i hi f hf j hj)
  · obtain ⟨l0, -, -, -, l4⟩ := lfP_x (p := p) (x := i) (o := o)
    rcases hf with rfl | rfl
    · rw [l0] at hj; exact Or.inl (ho j hj)
    · rw [l4] at hj; cases hj
/-- a key was put into the tree -/
def PvP (Γ : Gm) (z : ZR) (h : AH) (G : Nat → Prop) (lt : Nat → Nat → Prop) (E : ND) (x tb nt b : Nat) (T0 : Nat → Option Nat) : Oc → ZR → AH → Prop := Rv (fun v z' h' => z' = z ∧ v = .null ∧ ∃ a p' rd' D' rt', h a = none ∧ (∀ e, ¬ z a e) ∧ TnH h' (insG G x) (ndE E x a) p' rd' ∧ TrG (insG G x) lt p' D' rt' ∧ ClN (insG G x) p' ∧ p' 0 rt' ≠ none ∧ h' tb = some (.inl (gA Γ 5, (nt, refs (va_up T0 b (some (nA (ndE E x a) rt')))))) ∧ ∀ q e, h q = some e → q ≠ tb → (∀ i, G i → q ≠ nA E i) → h' q = some e)
end PTV0
section PTV
set_option maxRecDepth 100000
theorem pos_of {x : Int32} (h : x ≠ 0) (h0 : ¬ x < 0) : 0 < x := by
  have h1 : x.toInt ≠ 0 := fun e => h (Int32.toInt_inj.mp e)
  rw [Int32.lt_iff_toInt_lt] at h0 ⊢
  have : (0 : Int32).toInt = 0 := rfl
  omega
set_option maxHeartbeats 2000000 in
theorem ct_J28_putTreeVal {l : Launch} {Γ : Gm} (hl : l.flags = flags0) (hΓ : GOK Γ) {z : ZR} {h : AH} {G : Nat → Prop} {E : ND} {p : PT} {rd : Nat → Bool} {D : Nat → List Nat} {rt x y f tb nt b mp : Nat} {T0 : Nat → Option Nat} {tm : Nat → Nat} {tu : Nat → Nat → Nat} {fm : List Value} (hT : TnH h G E p rd) (hG : TrG G (ltN (nH E) (txN tm tu)) p D rt) (hcl : ClN G p) (gy : G y) (gf : G f) (hx : ¬ G x) (hK : NkH Γ z h G E tm tu) (H1 : NmS Γ z h (nK E x) (tm x) (tu x)) (hHx : nH E x = hsK (tu x) (tm x)) (hnew : ∀ i, G i → tlU (tm i) (tu i) ≠ tlU (tm x) (tu x)) (hnt : nt = 16 ∨ nt = 32 ∨ nt = 64) (Htb : h tb = some (.inl (gA Γ 5, (nt, refs T0)))) (hb : ∀ i, insG G x i → bx nt (nH E i) = b) (hf : T0 b = some (nA E f)) (hnf : p 0 f ≠ none) (Hmp : h mp = some (.inr (27, fm))) : Ct l Γ yJ28_putTreeVal cJ28_putTreeVal 16 (some (.object "java/util/HashMap$TreeNode")) 11 1 11 [.ref (nA E y), .ref mp, .ref tb, .int (nH E x), .ref (nK E x), .ref (nV E x)] z h (PvP Γ z h G (ltN (nH E) (txN tm tu)) E x tb nt b T0) := by
  refine Ct.of hl hΓ (by decide +kernel) (Nat.le_of_ble_eq_true rfl) (fun X e1 e2 C => ?_)
  subst e1; subst e2
  have C : Cx X cJ28_putTreeVal 16 "java/util/HashMap$TreeNode" "putTreeVal" (some (.object "java/util/HashMap$TreeNode")) [] 11 := C
  have Htb : h tb = some (.inl (gA (xG X) 5, (nt, refs T0))) := Htb
  have gr : G rt := hG.2.2.2.1
  have b1 := H1.bd
  have gn : ∀ i, G i → i ≠ x := fun i hi e => hx (by rw [← e]; exact hi)
  have hca := ClA.of hG hcl
  have hto : ∀ i, G i → tb ≠ nA E i := fun i gi => ne_ob Htb (hT.1 i gi) (by simp [cTn])
  show WW X (PvP (xG X) z h G (ltN (nH E) (txN tm tu)) E x tb nt b T0) z h 1 11 0 [(0, .ref (nA E y)), (1, .ref mp), (2, .ref tb), (3, .int (nH E x)), (4, .ref (nK E x)), (5, .ref (nV E x))] []
  have key : ∀ (fu q : Nat) (kc : Option Nat), (D q).length < fu → G q → (kc = none ∨ kc = some (gE (xG X) 3001)) → TrQ G (ltN (nH E) (txN tm tu)) p D x q → WW X (PvP (xG X) z h G (ltN (nH E) (txN tm tu)) E x tb nt b T0) z h 1 11 27 [(9, .ref (nA E q)), (8, .ref (nA E rt)), (7, .int (nI 0)), (6, va_rf kc), (0, .ref (nA E y)), (1, .ref mp), (2, .ref tb), (3, .int (nH E x)), (4, .ref (nK E x)), (5, .ref (nV E x))] [] := by
    intro fu
    induction fu with
    | zero => intro q kc hq; omega
    | succ fu ih =>
      intro q kc hfu gq hkc hQ
      obtain ⟨N2, hH2⟩ := hK q gq
      have b2 := N2.bd
      have nqx := gn q gq
      have K193 : ∀ (dir : Int32) (kc : Option Nat), (kc = none ∨ kc = some (gE (xG X) 3001)) → ((¬ 0 < dir ∧ (ltN (nH E) (txN tm tu)) x q) ∨ (0 < dir ∧ (ltN (nH E) (txN tm tu)) q x)) → WW X (PvP (xG X) z h G (ltN (nH E) (txN tm tu)) E x tb nt b T0) z h 1 11 193 [(10, .int dir), (9, .ref (nA E q)), (8, .ref (nA E rt)), (7, .int (nI 0)), (6, va_rf kc), (0, .ref (nA E y)), (1, .ref mp), (2, .ref tb), (3, .int (nH E x)), (4, .ref (nK E x)), (5, .ref (nV E x))] [] := by
        intro dir kc hkc hd9
        refine ww_aload C dJ28_putTreeVal_193 1 rfl rfl ?_
        refine ww_astore (lv' := [(13, .ref (nA E q)), (10, .int dir), (9, .ref (nA E q)), (8, .ref (nA E rt)), (7, .int (nI 0)), (6, va_rf kc), (0, .ref (nA E y)), (1, .ref mp), (2, .ref tb), (3, .int (nH E x)), (4, .ref (nK E x)), (5, .ref (nV E x))]) C dJ28_putTreeVal_195 (by decide) rfl rfl ?_
        refine ww_iload C dJ28_putTreeVal_197 1 rfl ?_
        refine ww_if_gt (tgt := 210) C dJ28_putTreeVal_199 (by decide) (fun c_199 => ?_) (fun c_199 => ?_)
        · skip
          have hlt : (ltN (nH E) (txN tm tu)) q x := by rcases hd9 with g | g; { exact absurd c_199 g.1 }; { exact g.2 }
          refine ww_aload C dJ28_putTreeVal_210 2 rfl rfl ?_
          refine gf_J28_42_J28 C dJ28_putTreeVal_212 (Or.inl (hT.1 q gq)) rfl ?_
          refine ww_dup C dJ28_putTreeVal_215 (va_rf_cat _) ?_
          refine ww_astore (lv' := [(9, va_rf ((p 3 q).map (nA E))), (13, .ref (nA E q)), (10, .int dir), (8, .ref (nA E rt)), (7, .int (nI 0)), (6, va_rf kc), (0, .ref (nA E y)), (1, .ref mp), (2, .ref tb), (3, .int (nH E x)), (4, .ref (nK E x)), (5, .ref (nV E x))]) C dJ28_putTreeVal_216 (by decide) (va_rf_isRef _) rfl ?_
          rcases h_c : p 3 q with _ | c
          · skip
            show WW X (PvP (xG X) z h G (ltN (nH E) (txN tm tu)) E x tb nt b T0) z h 1 11 218 [(9, .null), (13, .ref (nA E q)), (10, .int dir), (8, .ref (nA E rt)), (7, .int (nI 0)), (6, va_rf kc), (0, .ref (nA E y)), (1, .ref mp), (2, .ref tb), (3, .int (nH E x)), (4, .ref (nK E x)), (5, .ref (nV E x))] [.null]
            refine ww_ifnonnull_f C dJ28_putTreeVal_218 ?_
            refine ww_aload C dJ28_putTreeVal_221 1 rfl rfl ?_
            refine gf_J28_22_J28 C dJ28_putTreeVal_223 (Or.inl (hT.1 q gq)) rfl ?_
            rcases h_j : p 0 q with _ | j
            · skip
              show WW X (PvP (xG X) z h G (ltN (nH E) (txN tm tu)) E x tb nt b T0) z h 1 11 226 [(9, .null), (13, .ref (nA E q)), (10, .int dir), (8, .ref (nA E rt)), (7, .int (nI 0)), (6, va_rf kc), (0, .ref (nA E y)), (1, .ref mp), (2, .ref tb), (3, .int (nH E x)), (4, .ref (nK E x)), (5, .ref (nV E x))] [.null]
              have hnx : ∀ j, (none : Option Nat) = some j → G j := fun j e => by cases e
              refine ww_astore (lv' := [(14, .null), (9, .null), (13, .ref (nA E q)), (10, .int dir), (8, .ref (nA E rt)), (7, .int (nI 0)), (6, va_rf kc), (0, .ref (nA E y)), (1, .ref mp), (2, .ref tb), (3, .int (nH E x)), (4, .ref (nK E x)), (5, .ref (nV E x))]) C dJ28_putTreeVal_226 (by decide) rfl rfl ?_
              refine ww_aload_n C dJ28_putTreeVal_228 rfl 8 rfl rfl ?_
              refine ww_iload_n C dJ28_putTreeVal_229 rfl 10 rfl ?_
              refine ww_aload C dJ28_putTreeVal_230 11 rfl rfl ?_
              refine ww_aload C dJ28_putTreeVal_232 12 rfl rfl ?_
              refine ww_aload C dJ28_putTreeVal_234 0 rfl rfl ?_
              refine cv_J28_115_q (As := [.int (nH E x), .ref (nK E x), .ref (nV E x), .null]) (rest := []) C dJ28_putTreeVal_236 (ct_J22_newTreeNodeN (Cx.fl C) (Cx.ok C)) (rc_J22 (Cx.ok C) (Or.inl Hmp)) rfl rfl (Nat.le_of_ble_eq_true rfl) (by decide) (Nat.le_refl _) (Nat.le_refl _) (fun vv z1 h1 q9 => ?_)
              obtain ⟨hq1, a, hv, a_n, a_z, hE1⟩ := q9; subst hv; replace hq1 := hq1.symm; subst hq1
              obtain ⟨E2, eE2⟩ : ∃ e, e = ndE E x a := ⟨_, rfl⟩
              obtain ⟨G2, eG2⟩ : ∃ g, g = insG G x := ⟨_, rfl⟩
              have hT1 : TnH h1 G2 E2 (lfP p x none) (va_up rd x false) := by rw [hE1, eE2, eG2]; exact hT.nw (o := none) hca hx a_n (fun e => by cases e)
              have hle1 : hle h h1 := by rw [hE1]; exact hle_nw a_n
              have hcl1 : ClN G2 (lfP p x none) := by rw [eG2]; exact hcl.nw hx hnx
              have g2 : ∀ i, G i → G2 i := fun i hi => by rw [eG2]; exact Or.inl hi
              have g2x : G2 x := by rw [eG2]; exact Or.inr rfl
              have eA : ∀ i, G i → nA E2 i = nA E i := fun i hi => by rw [eE2]; exact ndE_o (gn i hi)
              have eAx : nA E2 x = a := by rw [eE2]; exact ndE_s
              have eH : nH E2 = nH E := by rw [eE2]; rfl
              obtain ⟨p0, ep0⟩ : ∃ q, q = lfP p x none := ⟨_, rfl⟩
              obtain ⟨rd0, erd0⟩ : ∃ q, q = va_up rd x false := ⟨_, rfl⟩
              rw [← ep0] at hT1 hcl1; rw [← erd0] at hT1
              have hG0 : TrG G (ltN (nH E) (txN tm tu)) p0 D rt := hG.cg (fun f9 i gi _ => by rw [ep0]; exact lfP_o (gn i gi))
              have l0 : p0 0 x = none ∧ p0 1 x = none ∧ p0 2 x = none ∧ p0 3 x = none ∧ p0 4 x = none := by rw [ep0]; exact lfP_x
              have lq : ∀ f9, p0 f9 q = p f9 q := fun f9 => by rw [ep0]; exact lfP_o nqx
              have hQ0 : TrQ G (ltN (nH E) (txN tm tu)) p0 D x q := fun i gi => by have := hQ i gi; rw [ep0, lfP_o (gn i gi), lfP_o (gn i gi)]; exact this
              refine ww_lv (lv' := [(14, .null), (9, .null), (13, .ref (nA E2 q)), (10, .int dir), (8, .ref (nA E2 rt)), (7, .int (nI 0)), (6, va_rf kc), (0, .ref (nA E2 y)), (1, .ref mp), (2, .ref tb), (3, .int (nH E x)), (4, .ref (nK E x)), (5, .ref (nV E x))]) (by rw [eA q gq, eA rt gr, eA y gy]) ?_
              refine ww_st (st' := [.ref (nA E2 x)]) (by rw [eAx]) ?_
              have hF1 : FrT G2 E2 h1 h1 := FrT.rf
              refine ww_astore (lv' := [(15, .ref (nA E2 x)), (14, .null), (9, .null), (13, .ref (nA E2 q)), (10, .int dir), (8, .ref (nA E2 rt)), (7, .int (nI 0)), (6, va_rf kc), (0, .ref (nA E2 y)), (1, .ref mp), (2, .ref tb), (3, .int (nH E x)), (4, .ref (nK E x)), (5, .ref (nV E x))]) C dJ28_putTreeVal_239 (by decide) rfl rfl ?_
              refine ww_iload C dJ28_putTreeVal_241 4 rfl ?_
              refine ww_if_gt_t (tgt := 256) C dJ28_putTreeVal_243 (by decide) (by first | exact c_199 | exact Int32.not_lt.mpr c_199) ?_
              refine ww_aload C dJ28_putTreeVal_256 3 rfl rfl ?_
              refine ww_aload C dJ28_putTreeVal_258 0 rfl rfl ?_
              refine pf_J28_42_J28 (fs' := [.null, .null, .int (nH E2 q), .ref (nK E2 q), .ref (nV E2 q), va_rf ((p0 0 q).map (nA E2)), va_rf ((p0 1 q).map (nA E2)), va_rf ((p0 2 q).map (nA E2)), .ref (nA E2 x), va_rf ((p0 4 q).map (nA E2)), .int (bI (rd0 q))]) C dJ28_putTreeVal_260 (hT1.1 q (g2 q gq)) rfl rfl (Nat.le_of_ble_eq_true rfl) rfl ?_
              refine ww_gen (fun h31 hE31 => ?_)
              obtain ⟨p31, ep31⟩ : ∃ Q9, Q9 = pst p0 3 q (some x) := ⟨_, rfl⟩
              have hT31 : TnH h31 G2 E2 p31 rd0 := by rw [ep31, hE31]; exact hT1.p3 (o := (some x)) (g2 q gq)
              have hF31 : FrT G2 E2 h1 h31 := by rw [hE31]; exact hF1.put (g2 q gq)
              refine ww_aload C dJ28_putTreeVal_263 3 rfl rfl ?_
              refine ww_aload C dJ28_putTreeVal_265 0 rfl rfl ?_
              refine pf_J28_22_J28 (fs' := [.null, .null, .int (nH E2 q), .ref (nK E2 q), .ref (nV E2 q), .ref (nA E2 x), va_rf ((p31 1 q).map (nA E2)), va_rf ((p31 2 q).map (nA E2)), va_rf ((p31 3 q).map (nA E2)), va_rf ((p31 4 q).map (nA E2)), .int (bI (rd0 q))]) C dJ28_putTreeVal_267 (hT31.1 q (g2 q gq)) rfl rfl (Nat.le_of_ble_eq_true rfl) rfl ?_
              refine ww_gen (fun h32 hE32 => ?_)
              obtain ⟨p32, ep32⟩ : ∃ Q9, Q9 = pst p31 0 q (some x) := ⟨_, rfl⟩
              have hT32 : TnH h32 G2 E2 p32 rd0 := by rw [ep32, hE32]; exact hT31.p0 (o := (some x)) (g2 q gq)
              have hF32 : FrT G2 E2 h1 h32 := by rw [hE32]; exact hF31.put (g2 q gq)
              refine ww_aload C dJ28_putTreeVal_270 0 rfl rfl ?_
              refine ww_aload C dJ28_putTreeVal_272 0 rfl rfl ?_
              refine ww_aload C dJ28_putTreeVal_274 3 rfl rfl ?_
              refine ww_dup_x1 C dJ28_putTreeVal_276 rfl rfl ?_
              refine pf_J28_19_J28 (fs' := [.null, .null, .int (nH E2 x), .ref (nK E2 x), .ref (nV E2 x), va_rf ((p32 0 x).map (nA E2)), va_rf ((p32 1 x).map (nA E2)), va_rf ((p32 2 x).map (nA E2)), va_rf ((p32 3 x).map (nA E2)), .ref (nA E2 q), .int (bI (rd0 x))]) C dJ28_putTreeVal_277 (hT32.1 x g2x) rfl rfl (Nat.le_of_ble_eq_true rfl) rfl ?_
              refine ww_gen (fun h33 hE33 => ?_)
              obtain ⟨p33, ep33⟩ : ∃ Q9, Q9 = pst p32 4 x (some q) := ⟨_, rfl⟩
              have hT33 : TnH h33 G2 E2 p33 rd0 := by rw [ep33, hE33]; exact hT32.p4 (o := (some q)) g2x
              have hF33 : FrT G2 E2 h1 h33 := by rw [hE33]; exact hF32.put g2x
              refine pf_J28_9_J28 (fs' := [.null, .null, .int (nH E2 x), .ref (nK E2 x), .ref (nV E2 x), va_rf ((p33 0 x).map (nA E2)), .ref (nA E2 q), va_rf ((p33 2 x).map (nA E2)), va_rf ((p33 3 x).map (nA E2)), va_rf ((p33 4 x).map (nA E2)), .int (bI (rd0 x))]) C dJ28_putTreeVal_280 (hT33.1 x g2x) rfl rfl (Nat.le_of_ble_eq_true rfl) rfl ?_
              refine ww_gen (fun h34 hE34 => ?_)
              obtain ⟨p34, ep34⟩ : ∃ Q9, Q9 = pst p33 1 x (some q) := ⟨_, rfl⟩
              have hT34 : TnH h34 G2 E2 p34 rd0 := by rw [ep34, hE34]; exact hT33.p1 (o := (some q)) g2x
              have hF34 : FrT G2 E2 h1 h34 := by rw [hE34]; exact hF33.put g2x
              refine ww_aload C dJ28_putTreeVal_283 1 rfl rfl ?_
              refine ww_ifnull_t (tgt := 298) C dJ28_putTreeVal_285 (by decide) ?_
              have hcl9 : ClN G2 p34 := by rw [ep34, ep33, ep32, ep31]; exact ((((hcl1.st (fun j hj => by cases hj; exact g2x)).st (fun j hj => by cases hj; exact g2x)).st (fun j hj => by cases hj; exact g2 q gq)).st (fun j hj => by cases hj; exact g2 q gq))
              obtain ⟨D9, hG9⟩ : ∃ D9, TrG G2 (ltN (nH E) (txN tm tu)) p34 D9 rt := ⟨_, by rw [eG2]; exact (hG0.ir hx gq (by rw [lq]; exact h_c) l0.2.2.1 l0.2.2.2.1 hlt hQ0).cg (fun f9 i _ h9 => by rw [ep34, ep33, ep32, ep31]; rcases h9 with rfl | rfl | rfl <;> simp [pst])⟩
              have hn9 : p34 0 f ≠ none := by rw [ep34, ep33, ep32, ep31]; simp only [pst]; intro h9; simp at h9; split at h9; { cases h9 }; { rw [ep0, lfP_o (gn f gf)] at h9; exact hnf h9 }
              refine ww_aload_n C dJ28_putTreeVal_298 rfl 10 rfl rfl ?_
              refine ww_aload C dJ28_putTreeVal_299 5 rfl rfl ?_
              refine ww_aload C dJ28_putTreeVal_301 0 rfl rfl ?_
              refine cs_J28_100_q (As := [.ref (nA E2 rt), .ref (nA E2 x)]) (rest := [.ref tb]) C dJ28_putTreeVal_303 (ct_J28_balanceInsertion (Cx.fl C) (Cx.ok C) ltN_o hT34 hG9 g2x) rfl rfl (Nat.le_of_ble_eq_true rfl) (by decide) (Nat.zero_le _) (Nat.zero_le _) (fun vv z2 h2 q9 => ?_)
              obtain ⟨hq2, p8, rd8, D8, rt8, hv, hT8, hG8, hN8, hF8⟩ := q9; subst hv; replace hq2 := hq2.symm; subst hq2
              have g8 : G2 rt8 := hG8.2.2.2.1
              have hFT := hF34.tr hF8
              have hto2 : ∀ i, G2 i → tb ≠ nA E2 i := fun i gi => by rw [eG2] at gi; rcases gi with gi | rfl; { rw [eA i gi]; exact hto i gi }; { rw [eAx]; exact ne_nw Htb a_n }
              have Htb2 : h2 tb = some (.inl (gA (xG X) 5, (nt, refs T0))) := hFT tb _ (hle1 _ _ Htb) hto2
              have hb8 : bx nt (nH E2 rt8) = b := by rw [eH]; exact hb rt8 (by rw [← eG2]; exact g8)
              have hcl8 : ClN G2 p8 := fun i gi f9 h9 j9 hj9 => hcl9 i gi f9 h9 j9 (by rcases h9 with rfl | rfl; { rw [← (hN8 i).1]; exact hj9 }; { rw [← (hN8 i).2]; exact hj9 })
              refine cs_J28_104_q (As := [.ref tb, .ref (nA E2 rt8)]) (rest := []) C dJ28_putTreeVal_306 (ct_J28_moveRootToFront (Cx.fl C) (Cx.ok C) hT8 g8 (g2 f gf) hcl8 hnt Htb2 (by rw [hb8, eA f gf]; exact hf)) rfl rfl (Nat.le_of_ble_eq_true rfl) (by decide) (Nat.zero_le _) (Nat.zero_le _) (fun z3 h3 q9 => ?_)
              obtain ⟨hq3, p7, hT7, hs7, hc7, hn7, ht7, hF7⟩ := q9; replace hq3 := hq3.symm; subst hq3
              refine ww_null C dJ28_putTreeVal_309 ?_
              have hfr : ∀ q e, h q = some e → q ≠ tb → (∀ i, G i → q ≠ nA E i) → h3 q = some e := fun q9 e9 hq9 n1 n2 => by
                have n3 : ∀ i, G2 i → q9 ≠ nA E2 i := fun i gi => by rw [eG2] at gi; rcases gi with gi | rfl; { rw [eA i gi]; exact n2 i gi }; { rw [eAx]; exact ne_nw hq9 a_n }
                exact hF7 q9 e9 (hFT q9 e9 (hle1 _ _ hq9) n3) n1 n3
              rw [hb8, eE2] at ht7; rw [eG2, eE2] at hT7; rw [eG2] at hG8 hc7
              exact ww_aret C (Or.inl ⟨_, rfl⟩) dJ28_putTreeVal_310 rfl ⟨rfl, rfl, a, p7, rd8, D8, rt8, a_n, a_z, hT7, hG8.cg (fun f9 i _ h9 => hs7 f9 i h9), hc7, hn7 (by rw [(hN8 f).1]; exact hn9), ht7, hfr⟩
            · skip
              show WW X (PvP (xG X) z h G (ltN (nH E) (txN tm tu)) E x tb nt b T0) z h 1 11 226 [(9, .null), (13, .ref (nA E q)), (10, .int dir), (8, .ref (nA E rt)), (7, .int (nI 0)), (6, va_rf kc), (0, .ref (nA E y)), (1, .ref mp), (2, .ref tb), (3, .int (nH E x)), (4, .ref (nK E x)), (5, .ref (nV E x))] [.ref (nA E j)]
              have gj : G j := hcl q gq 0 (Or.inl rfl) j h_j
              have hnx : ∀ j', some j = some j' → G j' := fun j' e => by cases e; exact gj
              refine ww_astore (lv' := [(14, .ref (nA E j)), (9, .null), (13, .ref (nA E q)), (10, .int dir), (8, .ref (nA E rt)), (7, .int (nI 0)), (6, va_rf kc), (0, .ref (nA E y)), (1, .ref mp), (2, .ref tb), (3, .int (nH E x)), (4, .ref (nK E x)), (5, .ref (nV E x))]) C dJ28_putTreeVal_226 (by decide) rfl rfl ?_
              refine ww_aload_n C dJ28_putTreeVal_228 rfl 8 rfl rfl ?_
              refine ww_iload_n C dJ28_putTreeVal_229 rfl 10 rfl ?_
              refine ww_aload C dJ28_putTreeVal_230 11 rfl rfl ?_
              refine ww_aload C dJ28_putTreeVal_232 12 rfl rfl ?_
              refine ww_aload C dJ28_putTreeVal_234 0 rfl rfl ?_
              refine cv_J28_115_q (As := [.int (nH E x), .ref (nK E x), .ref (nV E x), .ref (nA E j)]) (rest := []) C dJ28_putTreeVal_236 (ct_J22_newTreeNodeR (Cx.fl C) (Cx.ok C)) (rc_J22 (Cx.ok C) (Or.inl Hmp)) rfl rfl (Nat.le_of_ble_eq_true rfl) (by decide) (Nat.le_refl _) (Nat.le_refl _) (fun vv z1 h1 q9 => ?_)
              obtain ⟨hq1, a, hv, a_n, a_z, hE1⟩ := q9; subst hv; replace hq1 := hq1.symm; subst hq1
              obtain ⟨E2, eE2⟩ : ∃ e, e = ndE E x a := ⟨_, rfl⟩
              obtain ⟨G2, eG2⟩ : ∃ g, g = insG G x := ⟨_, rfl⟩
              have hT1 : TnH h1 G2 E2 (lfP p x (some j)) (va_up rd x false) := by rw [hE1, eE2, eG2]; exact hT.nw (o := (some j)) hca hx a_n (fun e => hx (hnx x e))
              have hle1 : hle h h1 := by rw [hE1]; exact hle_nw a_n
              have hcl1 : ClN G2 (lfP p x (some j)) := by rw [eG2]; exact hcl.nw hx hnx
              have g2 : ∀ i, G i → G2 i := fun i hi => by rw [eG2]; exact Or.inl hi
              have g2x : G2 x := by rw [eG2]; exact Or.inr rfl
              have eA : ∀ i, G i → nA E2 i = nA E i := fun i hi => by rw [eE2]; exact ndE_o (gn i hi)
              have eAx : nA E2 x = a := by rw [eE2]; exact ndE_s
              have eH : nH E2 = nH E := by rw [eE2]; rfl
              obtain ⟨p0, ep0⟩ : ∃ q, q = lfP p x (some j) := ⟨_, rfl⟩
              obtain ⟨rd0, erd0⟩ : ∃ q, q = va_up rd x false := ⟨_, rfl⟩
              rw [← ep0] at hT1 hcl1; rw [← erd0] at hT1
              have hG0 : TrG G (ltN (nH E) (txN tm tu)) p0 D rt := hG.cg (fun f9 i gi _ => by rw [ep0]; exact lfP_o (gn i gi))
              have l0 : p0 0 x = (some j) ∧ p0 1 x = none ∧ p0 2 x = none ∧ p0 3 x = none ∧ p0 4 x = none := by rw [ep0]; exact lfP_x
              have lq : ∀ f9, p0 f9 q = p f9 q := fun f9 => by rw [ep0]; exact lfP_o nqx
              have hQ0 : TrQ G (ltN (nH E) (txN tm tu)) p0 D x q := fun i gi => by have := hQ i gi; rw [ep0, lfP_o (gn i gi), lfP_o (gn i gi)]; exact this
              refine ww_lv (lv' := [(14, .ref (nA E2 j)), (9, .null), (13, .ref (nA E2 q)), (10, .int dir), (8, .ref (nA E2 rt)), (7, .int (nI 0)), (6, va_rf kc), (0, .ref (nA E2 y)), (1, .ref mp), (2, .ref tb), (3, .int (nH E x)), (4, .ref (nK E x)), (5, .ref (nV E x))]) (by rw [eA q gq, eA rt gr, eA y gy, eA j gj]) ?_
              refine ww_st (st' := [.ref (nA E2 x)]) (by rw [eAx]) ?_
              have hF1 : FrT G2 E2 h1 h1 := FrT.rf
              refine ww_astore (lv' := [(15, .ref (nA E2 x)), (14, .ref (nA E2 j)), (9, .null), (13, .ref (nA E2 q)), (10, .int dir), (8, .ref (nA E2 rt)), (7, .int (nI 0)), (6, va_rf kc), (0, .ref (nA E2 y)), (1, .ref mp), (2, .ref tb), (3, .int (nH E x)), (4, .ref (nK E x)), (5, .ref (nV E x))]) C dJ28_putTreeVal_239 (by decide) rfl rfl ?_
              refine ww_iload C dJ28_putTreeVal_241 4 rfl ?_
              refine ww_if_gt_t (tgt := 256) C dJ28_putTreeVal_243 (by decide) (by first | exact c_199 | exact Int32.not_lt.mpr c_199) ?_
              refine ww_aload C dJ28_putTreeVal_256 3 rfl rfl ?_
              refine ww_aload C dJ28_putTreeVal_258 0 rfl rfl ?_
              refine pf_J28_42_J28 (fs' := [.null, .null, .int (nH E2 q), .ref (nK E2 q), .ref (nV E2 q), va_rf ((p0 0 q).map (nA E2)), va_rf ((p0 1 q).map (nA E2)), va_rf ((p0 2 q).map (nA E2)), .ref (nA E2 x), va_rf ((p0 4 q).map (nA E2)), .int (bI (rd0 q))]) C dJ28_putTreeVal_260 (hT1.1 q (g2 q gq)) rfl rfl (Nat.le_of_ble_eq_true rfl) rfl ?_
              refine ww_gen (fun h65 hE65 => ?_)
              obtain ⟨p65, ep65⟩ : ∃ Q9, Q9 = pst p0 3 q (some x) := ⟨_, rfl⟩
              have hT65 : TnH h65 G2 E2 p65 rd0 := by rw [ep65, hE65]; exact hT1.p3 (o := (some x)) (g2 q gq)
              have hF65 : FrT G2 E2 h1 h65 := by rw [hE65]; exact hF1.put (g2 q gq)
              refine ww_aload C dJ28_putTreeVal_263 3 rfl rfl ?_
              refine ww_aload C dJ28_putTreeVal_265 0 rfl rfl ?_
              refine pf_J28_22_J28 (fs' := [.null, .null, .int (nH E2 q), .ref (nK E2 q), .ref (nV E2 q), .ref (nA E2 x), va_rf ((p65 1 q).map (nA E2)), va_rf ((p65 2 q).map (nA E2)), va_rf ((p65 3 q).map (nA E2)), va_rf ((p65 4 q).map (nA E2)), .int (bI (rd0 q))]) C dJ28_putTreeVal_267 (hT65.1 q (g2 q gq)) rfl rfl (Nat.le_of_ble_eq_true rfl) rfl ?_
              refine ww_gen (fun h66 hE66 => ?_)
              obtain ⟨p66, ep66⟩ : ∃ Q9, Q9 = pst p65 0 q (some x) := ⟨_, rfl⟩
              have hT66 : TnH h66 G2 E2 p66 rd0 := by rw [ep66, hE66]; exact hT65.p0 (o := (some x)) (g2 q gq)
              have hF66 : FrT G2 E2 h1 h66 := by rw [hE66]; exact hF65.put (g2 q gq)
              refine ww_aload C dJ28_putTreeVal_270 0 rfl rfl ?_
              refine ww_aload C dJ28_putTreeVal_272 0 rfl rfl ?_
              refine ww_aload C dJ28_putTreeVal_274 3 rfl rfl ?_
              refine ww_dup_x1 C dJ28_putTreeVal_276 rfl rfl ?_
              refine pf_J28_19_J28 (fs' := [.null, .null, .int (nH E2 x), .ref (nK E2 x), .ref (nV E2 x), va_rf ((p66 0 x).map (nA E2)), va_rf ((p66 1 x).map (nA E2)), va_rf ((p66 2 x).map (nA E2)), va_rf ((p66 3 x).map (nA E2)), .ref (nA E2 q), .int (bI (rd0 x))]) C dJ28_putTreeVal_277 (hT66.1 x g2x) rfl rfl (Nat.le_of_ble_eq_true rfl) rfl ?_
              refine ww_gen (fun h67 hE67 => ?_)
              obtain ⟨p67, ep67⟩ : ∃ Q9, Q9 = pst p66 4 x (some q) := ⟨_, rfl⟩
              have hT67 : TnH h67 G2 E2 p67 rd0 := by rw [ep67, hE67]; exact hT66.p4 (o := (some q)) g2x
              have hF67 : FrT G2 E2 h1 h67 := by rw [hE67]; exact hF66.put g2x
              refine pf_J28_9_J28 (fs' := [.null, .null, .int (nH E2 x), .ref (nK E2 x), .ref (nV E2 x), va_rf ((p67 0 x).map (nA E2)), .ref (nA E2 q), va_rf ((p67 2 x).map (nA E2)), va_rf ((p67 3 x).map (nA E2)), va_rf ((p67 4 x).map (nA E2)), .int (bI (rd0 x))]) C dJ28_putTreeVal_280 (hT67.1 x g2x) rfl rfl (Nat.le_of_ble_eq_true rfl) rfl ?_
              refine ww_gen (fun h68 hE68 => ?_)
              obtain ⟨p68, ep68⟩ : ∃ Q9, Q9 = pst p67 1 x (some q) := ⟨_, rfl⟩
              have hT68 : TnH h68 G2 E2 p68 rd0 := by rw [ep68, hE68]; exact hT67.p1 (o := (some q)) g2x
              have hF68 : FrT G2 E2 h1 h68 := by rw [hE68]; exact hF67.put g2x
              refine ww_aload C dJ28_putTreeVal_283 1 rfl rfl ?_
              refine ww_ifnull_f C dJ28_putTreeVal_285 ?_
              refine ww_aload C dJ28_putTreeVal_288 1 rfl rfl ?_
              refine ww_castS (ci := 29) C q1606 rfl dJ28_putTreeVal_290 (rc_J28 (Cx.ok C) (Or.inl (hT68.1 j (g2 j gj)))) ?_
              refine ww_aload C dJ28_putTreeVal_293 0 rfl rfl ?_
              refine pf_J28_19_J28 (fs' := [.null, .null, .int (nH E2 j), .ref (nK E2 j), .ref (nV E2 j), va_rf ((p68 0 j).map (nA E2)), va_rf ((p68 1 j).map (nA E2)), va_rf ((p68 2 j).map (nA E2)), va_rf ((p68 3 j).map (nA E2)), .ref (nA E2 x), .int (bI (rd0 j))]) C dJ28_putTreeVal_295 (hT68.1 j (g2 j gj)) rfl rfl (Nat.le_of_ble_eq_true rfl) rfl ?_
              refine ww_gen (fun h69 hE69 => ?_)
              obtain ⟨p69, ep69⟩ : ∃ Q9, Q9 = pst p68 4 j (some x) := ⟨_, rfl⟩
              have hT69 : TnH h69 G2 E2 p69 rd0 := by rw [ep69, hE69]; exact hT68.p4 (o := (some x)) (g2 j gj)
              have hF69 : FrT G2 E2 h1 h69 := by rw [hE69]; exact hF68.put (g2 j gj)
              have hcl9 : ClN G2 p69 := by rw [ep69, ep68, ep67, ep66, ep65]; exact (((((hcl1.st (fun j hj => by cases hj; exact g2x)).st (fun j hj => by cases hj; exact g2x)).st (fun j hj => by cases hj; exact g2 q gq)).st (fun j hj => by cases hj; exact g2 q gq)).st (fun j hj => by cases hj; exact g2x))
              obtain ⟨D9, hG9⟩ : ∃ D9, TrG G2 (ltN (nH E) (txN tm tu)) p69 D9 rt := ⟨_, by rw [eG2]; exact (hG0.ir hx gq (by rw [lq]; exact h_c) l0.2.2.1 l0.2.2.2.1 hlt hQ0).cg (fun f9 i _ h9 => by rw [ep69, ep68, ep67, ep66, ep65]; rcases h9 with rfl | rfl | rfl <;> simp [pst])⟩
              have hn9 : p69 0 f ≠ none := by rw [ep69, ep68, ep67, ep66, ep65]; simp only [pst]; intro h9; simp at h9; split at h9; { cases h9 }; { rw [ep0, lfP_o (gn f gf)] at h9; exact hnf h9 }
              refine ww_aload_n C dJ28_putTreeVal_298 rfl 10 rfl rfl ?_
              refine ww_aload C dJ28_putTreeVal_299 5 rfl rfl ?_
              refine ww_aload C dJ28_putTreeVal_301 0 rfl rfl ?_
              refine cs_J28_100_q (As := [.ref (nA E2 rt), .ref (nA E2 x)]) (rest := [.ref tb]) C dJ28_putTreeVal_303 (ct_J28_balanceInsertion (Cx.fl C) (Cx.ok C) ltN_o hT69 hG9 g2x) rfl rfl (Nat.le_of_ble_eq_true rfl) (by decide) (Nat.zero_le _) (Nat.zero_le _) (fun vv z2 h2 q9 => ?_)
              obtain ⟨hq2, p8, rd8, D8, rt8, hv, hT8, hG8, hN8, hF8⟩ := q9; subst hv; replace hq2 := hq2.symm; subst hq2
              have g8 : G2 rt8 := hG8.2.2.2.1
              have hFT := hF69.tr hF8
              have hto2 : ∀ i, G2 i → tb ≠ nA E2 i := fun i gi => by rw [eG2] at gi; rcases gi with gi | rfl; { rw [eA i gi]; exact hto i gi }; { rw [eAx]; exact ne_nw Htb a_n }
              have Htb2 : h2 tb = some (.inl (gA (xG X) 5, (nt, refs T0))) := hFT tb _ (hle1 _ _ Htb) hto2
              have hb8 : bx nt (nH E2 rt8) = b := by rw [eH]; exact hb rt8 (by rw [← eG2]; exact g8)
              have hcl8 : ClN G2 p8 := fun i gi f9 h9 j9 hj9 => hcl9 i gi f9 h9 j9 (by rcases h9 with rfl | rfl; { rw [← (hN8 i).1]; exact hj9 }; { rw [← (hN8 i).2]; exact hj9 })
              refine cs_J28_104_q (As := [.ref tb, .ref (nA E2 rt8)]) (rest := []) C dJ28_putTreeVal_306 (ct_J28_moveRootToFront (Cx.fl C) (Cx.ok C) hT8 g8 (g2 f gf) hcl8 hnt Htb2 (by rw [hb8, eA f gf]; exact hf)) rfl rfl (Nat.le_of_ble_eq_true rfl) (by decide) (Nat.zero_le _) (Nat.zero_le _) (fun z3 h3 q9 => ?_)
              obtain ⟨hq3, p7, hT7, hs7, hc7, hn7, ht7, hF7⟩ := q9; replace hq3 := hq3.symm; subst hq3
              refine ww_null C dJ28_putTreeVal_309 ?_
              have hfr : ∀ q e, h q = some e → q ≠ tb → (∀ i, G i → q ≠ nA E i) → h3 q = some e := fun q9 e9 hq9 n1 n2 => by
                have n3 : ∀ i, G2 i → q9 ≠ nA E2 i := fun i gi => by rw [eG2] at gi; rcases gi with gi | rfl; { rw [eA i gi]; exact n2 i gi }; { rw [eAx]; exact ne_nw hq9 a_n }
                exact hF7 q9 e9 (hFT q9 e9 (hle1 _ _ hq9) n3) n1 n3
              rw [hb8, eE2] at ht7; rw [eG2, eE2] at hT7; rw [eG2] at hG8 hc7
              exact ww_aret C (Or.inl ⟨_, rfl⟩) dJ28_putTreeVal_310 rfl ⟨rfl, rfl, a, p7, rd8, D8, rt8, a_n, a_z, hT7, hG8.cg (fun f9 i _ h9 => hs7 f9 i h9), hc7, hn7 (by rw [(hN8 f).1]; exact hn9), ht7, hfr⟩
          · skip
            show WW X (PvP (xG X) z h G (ltN (nH E) (txN tm tu)) E x tb nt b T0) z h 1 11 218 [(9, .ref (nA E c)), (13, .ref (nA E q)), (10, .int dir), (8, .ref (nA E rt)), (7, .int (nI 0)), (6, va_rf kc), (0, .ref (nA E y)), (1, .ref mp), (2, .ref tb), (3, .int (nH E x)), (4, .ref (nK E x)), (5, .ref (nV E x))] [.ref (nA E c)]
            have hc := hG.2.1 q c gq (Or.inr h_c)
            have hlc := hG.len gq (Or.inr h_c)
            refine ww_ifnonnull_t (tgt := 311) C dJ28_putTreeVal_218 (by decide) ?_
            refine ww_goto (tgt := 27) C dJ28_putTreeVal_311 (by decide) ?_
            refine ww_sub [0, 3, 4, 5, 6, 7, 8, 9, 10, 11] rfl ?_
            exact ih c kc (by omega) hc.1 hkc (hG.qs ltN_o hQ gq (Or.inr ⟨h_c, hlt⟩))
        · skip
          have hlt : (ltN (nH E) (txN tm tu)) x q := by rcases hd9 with g | g; { exact g.2 }; { exact absurd g.1 (by first | exact c_199 | exact Int32.not_lt.mpr c_199) }
          refine ww_aload C dJ28_putTreeVal_202 2 rfl rfl ?_
          refine gf_J28_39_J28 C dJ28_putTreeVal_204 (Or.inl (hT.1 q gq)) rfl ?_
          refine ww_goto (tgt := 215) C dJ28_putTreeVal_207 (by decide) ?_
          refine ww_dup C dJ28_putTreeVal_215 (va_rf_cat _) ?_
          refine ww_astore (lv' := [(9, va_rf ((p 2 q).map (nA E))), (13, .ref (nA E q)), (10, .int dir), (8, .ref (nA E rt)), (7, .int (nI 0)), (6, va_rf kc), (0, .ref (nA E y)), (1, .ref mp), (2, .ref tb), (3, .int (nH E x)), (4, .ref (nK E x)), (5, .ref (nV E x))]) C dJ28_putTreeVal_216 (by decide) (va_rf_isRef _) rfl ?_
          rcases h_c : p 2 q with _ | c
          · skip
            show WW X (PvP (xG X) z h G (ltN (nH E) (txN tm tu)) E x tb nt b T0) z h 1 11 218 [(9, .null), (13, .ref (nA E q)), (10, .int dir), (8, .ref (nA E rt)), (7, .int (nI 0)), (6, va_rf kc), (0, .ref (nA E y)), (1, .ref mp), (2, .ref tb), (3, .int (nH E x)), (4, .ref (nK E x)), (5, .ref (nV E x))] [.null]
            refine ww_ifnonnull_f C dJ28_putTreeVal_218 ?_
            refine ww_aload C dJ28_putTreeVal_221 1 rfl rfl ?_
            refine gf_J28_22_J28 C dJ28_putTreeVal_223 (Or.inl (hT.1 q gq)) rfl ?_
            rcases h_j : p 0 q with _ | j
            · skip
              show WW X (PvP (xG X) z h G (ltN (nH E) (txN tm tu)) E x tb nt b T0) z h 1 11 226 [(9, .null), (13, .ref (nA E q)), (10, .int dir), (8, .ref (nA E rt)), (7, .int (nI 0)), (6, va_rf kc), (0, .ref (nA E y)), (1, .ref mp), (2, .ref tb), (3, .int (nH E x)), (4, .ref (nK E x)), (5, .ref (nV E x))] [.null]
              have hnx : ∀ j, (none : Option Nat) = some j → G j := fun j e => by cases e
              refine ww_astore (lv' := [(14, .null), (9, .null), (13, .ref (nA E q)), (10, .int dir), (8, .ref (nA E rt)), (7, .int (nI 0)), (6, va_rf kc), (0, .ref (nA E y)), (1, .ref mp), (2, .ref tb), (3, .int (nH E x)), (4, .ref (nK E x)), (5, .ref (nV E x))]) C dJ28_putTreeVal_226 (by decide) rfl rfl ?_
              refine ww_aload_n C dJ28_putTreeVal_228 rfl 8 rfl rfl ?_
              refine ww_iload_n C dJ28_putTreeVal_229 rfl 10 rfl ?_
              refine ww_aload C dJ28_putTreeVal_230 11 rfl rfl ?_
              refine ww_aload C dJ28_putTreeVal_232 12 rfl rfl ?_
              refine ww_aload C dJ28_putTreeVal_234 0 rfl rfl ?_
              refine cv_J28_115_q (As := [.int (nH E x), .ref (nK E x), .ref (nV E x), .null]) (rest := []) C dJ28_putTreeVal_236 (ct_J22_newTreeNodeN (Cx.fl C) (Cx.ok C)) (rc_J22 (Cx.ok C) (Or.inl Hmp)) rfl rfl (Nat.le_of_ble_eq_true rfl) (by decide) (Nat.le_refl _) (Nat.le_refl _) (fun vv z1 h1 q9 => ?_)
              obtain ⟨hq1, a, hv, a_n, a_z, hE1⟩ := q9; subst hv; replace hq1 := hq1.symm; subst hq1
              obtain ⟨E2, eE2⟩ : ∃ e, e = ndE E x a := ⟨_, rfl⟩
              obtain ⟨G2, eG2⟩ : ∃ g, g = insG G x := ⟨_, rfl⟩
              have hT1 : TnH h1 G2 E2 (lfP p x none) (va_up rd x false) := by rw [hE1, eE2, eG2]; exact hT.nw (o := none) hca hx a_n (fun e => by cases e)
              have hle1 : hle h h1 := by rw [hE1]; exact hle_nw a_n
              have hcl1 : ClN G2 (lfP p x none) := by rw [eG2]; exact hcl.nw hx hnx
              have g2 : ∀ i, G i → G2 i := fun i hi => by rw [eG2]; exact Or.inl hi
              have g2x : G2 x := by rw [eG2]; exact Or.inr rfl
              have eA : ∀ i, G i → nA E2 i = nA E i := fun i hi => by rw [eE2]; exact ndE_o (gn i hi)
              have eAx : nA E2 x = a := by rw [eE2]; exact ndE_s
              have eH : nH E2 = nH E := by rw [eE2]; rfl
              obtain ⟨p0, ep0⟩ : ∃ q, q = lfP p x none := ⟨_, rfl⟩
              obtain ⟨rd0, erd0⟩ : ∃ q, q = va_up rd x false := ⟨_, rfl⟩
              rw [← ep0] at hT1 hcl1; rw [← erd0] at hT1
              have hG0 : TrG G (ltN (nH E) (txN tm tu)) p0 D rt := hG.cg (fun f9 i gi _ => by rw [ep0]; exact lfP_o (gn i gi))
              have l0 : p0 0 x = none ∧ p0 1 x = none ∧ p0 2 x = none ∧ p0 3 x = none ∧ p0 4 x = none := by rw [ep0]; exact lfP_x
              have lq : ∀ f9, p0 f9 q = p f9 q := fun f9 => by rw [ep0]; exact lfP_o nqx
              have hQ0 : TrQ G (ltN (nH E) (txN tm tu)) p0 D x q := fun i gi => by have := hQ i gi; rw [ep0, lfP_o (gn i gi), lfP_o (gn i gi)]; exact this
              refine ww_lv (lv' := [(14, .null), (9, .null), (13, .ref (nA E2 q)), (10, .int dir), (8, .ref (nA E2 rt)), (7, .int (nI 0)), (6, va_rf kc), (0, .ref (nA E2 y)), (1, .ref mp), (2, .ref tb), (3, .int (nH E x)), (4, .ref (nK E x)), (5, .ref (nV E x))]) (by rw [eA q gq, eA rt gr, eA y gy]) ?_
              refine ww_st (st' := [.ref (nA E2 x)]) (by rw [eAx]) ?_
              have hF1 : FrT G2 E2 h1 h1 := FrT.rf
              refine ww_astore (lv' := [(15, .ref (nA E2 x)), (14, .null), (9, .null), (13, .ref (nA E2 q)), (10, .int dir), (8, .ref (nA E2 rt)), (7, .int (nI 0)), (6, va_rf kc), (0, .ref (nA E2 y)), (1, .ref mp), (2, .ref tb), (3, .int (nH E x)), (4, .ref (nK E x)), (5, .ref (nV E x))]) C dJ28_putTreeVal_239 (by decide) rfl rfl ?_
              refine ww_iload C dJ28_putTreeVal_241 4 rfl ?_
              refine ww_if_gt_f (tgt := 256) C dJ28_putTreeVal_243 (by decide) (by first | exact c_199 | exact Int32.not_lt.mpr c_199) ?_
              refine ww_aload C dJ28_putTreeVal_246 3 rfl rfl ?_
              refine ww_aload C dJ28_putTreeVal_248 0 rfl rfl ?_
              refine pf_J28_39_J28 (fs' := [.null, .null, .int (nH E2 q), .ref (nK E2 q), .ref (nV E2 q), va_rf ((p0 0 q).map (nA E2)), va_rf ((p0 1 q).map (nA E2)), .ref (nA E2 x), va_rf ((p0 3 q).map (nA E2)), va_rf ((p0 4 q).map (nA E2)), .int (bI (rd0 q))]) C dJ28_putTreeVal_250 (hT1.1 q (g2 q gq)) rfl rfl (Nat.le_of_ble_eq_true rfl) rfl ?_
              refine ww_gen (fun h100 hE100 => ?_)
              obtain ⟨p100, ep100⟩ : ∃ Q9, Q9 = pst p0 2 q (some x) := ⟨_, rfl⟩
              have hT100 : TnH h100 G2 E2 p100 rd0 := by rw [ep100, hE100]; exact hT1.p2 (o := (some x)) (g2 q gq)
              have hF100 : FrT G2 E2 h1 h100 := by rw [hE100]; exact hF1.put (g2 q gq)
              refine ww_goto (tgt := 263) C dJ28_putTreeVal_253 (by decide) ?_
              refine ww_aload C dJ28_putTreeVal_263 3 rfl rfl ?_
              refine ww_aload C dJ28_putTreeVal_265 0 rfl rfl ?_
              refine pf_J28_22_J28 (fs' := [.null, .null, .int (nH E2 q), .ref (nK E2 q), .ref (nV E2 q), .ref (nA E2 x), va_rf ((p100 1 q).map (nA E2)), va_rf ((p100 2 q).map (nA E2)), va_rf ((p100 3 q).map (nA E2)), va_rf ((p100 4 q).map (nA E2)), .int (bI (rd0 q))]) C dJ28_putTreeVal_267 (hT100.1 q (g2 q gq)) rfl rfl (Nat.le_of_ble_eq_true rfl) rfl ?_
              refine ww_gen (fun h101 hE101 => ?_)
              obtain ⟨p101, ep101⟩ : ∃ Q9, Q9 = pst p100 0 q (some x) := ⟨_, rfl⟩
              have hT101 : TnH h101 G2 E2 p101 rd0 := by rw [ep101, hE101]; exact hT100.p0 (o := (some x)) (g2 q gq)
              have hF101 : FrT G2 E2 h1 h101 := by rw [hE101]; exact hF100.put (g2 q gq)
              refine ww_aload C dJ28_putTreeVal_270 0 rfl rfl ?_
              refine ww_aload C dJ28_putTreeVal_272 0 rfl rfl ?_
              refine ww_aload C dJ28_putTreeVal_274 3 rfl rfl ?_
              refine ww_dup_x1 C dJ28_putTreeVal_276 rfl rfl ?_
              refine pf_J28_19_J28 (fs' := [.null, .null, .int (nH E2 x), .ref (nK E2 x), .ref (nV E2 x), va_rf ((p101 0 x).map (nA E2)), va_rf ((p101 1 x).map (nA E2)), va_rf ((p101 2 x).map (nA E2)), va_rf ((p101 3 x).map (nA E2)), .ref (nA E2 q), .int (bI (rd0 x))]) C dJ28_putTreeVal_277 (hT101.1 x g2x) rfl rfl (Nat.le_of_ble_eq_true rfl) rfl ?_
              refine ww_gen (fun h102 hE102 => ?_)
              obtain ⟨p102, ep102⟩ : ∃ Q9, Q9 = pst p101 4 x (some q) := ⟨_, rfl⟩
              have hT102 : TnH h102 G2 E2 p102 rd0 := by rw [ep102, hE102]; exact hT101.p4 (o := (some q)) g2x
              have hF102 : FrT G2 E2 h1 h102 := by rw [hE102]; exact hF101.put g2x
              refine pf_J28_9_J28 (fs' := [.null, .null, .int (nH E2 x), .ref (nK E2 x), .ref (nV E2 x), va_rf ((p102 0 x).map (nA E2)), .ref (nA E2 q), va_rf ((p102 2 x).map (nA E2)), va_rf ((p102 3 x).map (nA E2)), va_rf ((p102 4 x).map (nA E2)), .int (bI (rd0 x))]) C dJ28_putTreeVal_280 (hT102.1 x g2x) rfl rfl (Nat.le_of_ble_eq_true rfl) rfl ?_
              refine ww_gen (fun h103 hE103 => ?_)
              obtain ⟨p103, ep103⟩ : ∃ Q9, Q9 = pst p102 1 x (some q) := ⟨_, rfl⟩
              have hT103 : TnH h103 G2 E2 p103 rd0 := by rw [ep103, hE103]; exact hT102.p1 (o := (some q)) g2x
              have hF103 : FrT G2 E2 h1 h103 := by rw [hE103]; exact hF102.put g2x
              refine ww_aload C dJ28_putTreeVal_283 1 rfl rfl ?_
              refine ww_ifnull_t (tgt := 298) C dJ28_putTreeVal_285 (by decide) ?_
              have hcl9 : ClN G2 p103 := by rw [ep103, ep102, ep101, ep100]; exact ((((hcl1.st (fun j hj => by cases hj; exact g2x)).st (fun j hj => by cases hj; exact g2x)).st (fun j hj => by cases hj; exact g2 q gq)).st (fun j hj => by cases hj; exact g2 q gq))
              obtain ⟨D9, hG9⟩ : ∃ D9, TrG G2 (ltN (nH E) (txN tm tu)) p103 D9 rt := ⟨_, by rw [eG2]; exact (hG0.il hx gq (by rw [lq]; exact h_c) l0.2.2.1 l0.2.2.2.1 hlt hQ0).cg (fun f9 i _ h9 => by rw [ep103, ep102, ep101, ep100]; rcases h9 with rfl | rfl | rfl <;> simp [pst])⟩
              have hn9 : p103 0 f ≠ none := by rw [ep103, ep102, ep101, ep100]; simp only [pst]; intro h9; simp at h9; split at h9; { cases h9 }; { rw [ep0, lfP_o (gn f gf)] at h9; exact hnf h9 }
              refine ww_aload_n C dJ28_putTreeVal_298 rfl 10 rfl rfl ?_
              refine ww_aload C dJ28_putTreeVal_299 5 rfl rfl ?_
              refine ww_aload C dJ28_putTreeVal_301 0 rfl rfl ?_
              refine cs_J28_100_q (As := [.ref (nA E2 rt), .ref (nA E2 x)]) (rest := [.ref tb]) C dJ28_putTreeVal_303 (ct_J28_balanceInsertion (Cx.fl C) (Cx.ok C) ltN_o hT103 hG9 g2x) rfl rfl (Nat.le_of_ble_eq_true rfl) (by decide) (Nat.zero_le _) (Nat.zero_le _) (fun vv z2 h2 q9 => ?_)
              obtain ⟨hq2, p8, rd8, D8, rt8, hv, hT8, hG8, hN8, hF8⟩ := q9; subst hv; replace hq2 := hq2.symm; subst hq2
              have g8 : G2 rt8 := hG8.2.2.2.1
              have hFT := hF103.tr hF8
              have hto2 : ∀ i, G2 i → tb ≠ nA E2 i := fun i gi => by rw [eG2] at gi; rcases gi with gi | rfl; { rw [eA i gi]; exact hto i gi }; { rw [eAx]; exact ne_nw Htb a_n }
              have Htb2 : h2 tb = some (.inl (gA (xG X) 5, (nt, refs T0))) := hFT tb _ (hle1 _ _ Htb) hto2
              have hb8 : bx nt (nH E2 rt8) = b := by rw [eH]; exact hb rt8 (by rw [← eG2]; exact g8)
              have hcl8 : ClN G2 p8 := fun i gi f9 h9 j9 hj9 => hcl9 i gi f9 h9 j9 (by rcases h9 with rfl | rfl; { rw [← (hN8 i).1]; exact hj9 }; { rw [← (hN8 i).2]; exact hj9 })
              refine cs_J28_104_q (As := [.ref tb, .ref (nA E2 rt8)]) (rest := []) C dJ28_putTreeVal_306 (ct_J28_moveRootToFront (Cx.fl C) (Cx.ok C) hT8 g8 (g2 f gf) hcl8 hnt Htb2 (by rw [hb8, eA f gf]; exact hf)) rfl rfl (Nat.le_of_ble_eq_true rfl) (by decide) (Nat.zero_le _) (Nat.zero_le _) (fun z3 h3 q9 => ?_)
              obtain ⟨hq3, p7, hT7, hs7, hc7, hn7, ht7, hF7⟩ := q9; replace hq3 := hq3.symm; subst hq3
              refine ww_null C dJ28_putTreeVal_309 ?_
              have hfr : ∀ q e, h q = some e → q ≠ tb → (∀ i, G i → q ≠ nA E i) → h3 q = some e := fun q9 e9 hq9 n1 n2 => by
                have n3 : ∀ i, G2 i → q9 ≠ nA E2 i := fun i gi => by rw [eG2] at gi; rcases gi with gi | rfl; { rw [eA i gi]; exact n2 i gi }; { rw [eAx]; exact ne_nw hq9 a_n }
                exact hF7 q9 e9 (hFT q9 e9 (hle1 _ _ hq9) n3) n1 n3
              rw [hb8, eE2] at ht7; rw [eG2, eE2] at hT7; rw [eG2] at hG8 hc7
              exact ww_aret C (Or.inl ⟨_, rfl⟩) dJ28_putTreeVal_310 rfl ⟨rfl, rfl, a, p7, rd8, D8, rt8, a_n, a_z, hT7, hG8.cg (fun f9 i _ h9 => hs7 f9 i h9), hc7, hn7 (by rw [(hN8 f).1]; exact hn9), ht7, hfr⟩
            · skip
              show WW X (PvP (xG X) z h G (ltN (nH E) (txN tm tu)) E x tb nt b T0) z h 1 11 226 [(9, .null), (13, .ref (nA E q)), (10, .int dir), (8, .ref (nA E rt)), (7, .int (nI 0)), (6, va_rf kc), (0, .ref (nA E y)), (1, .ref mp), (2, .ref tb), (3, .int (nH E x)), (4, .ref (nK E x)), (5, .ref (nV E x))] [.ref (nA E j)]
              have gj : G j := hcl q gq 0 (Or.inl rfl) j h_j
              have hnx : ∀ j', some j = some j' → G j' := fun j' e => by cases e; exact gj
              refine ww_astore (lv' := [(14, .ref (nA E j)), (9, .null), (13, .ref (nA E q)), (10, .int dir), (8, .ref (nA E rt)), (7, .int (nI 0)), (6, va_rf kc), (0, .ref (nA E y)), (1, .ref mp), (2, .ref tb), (3, .int (nH E x)), (4, .ref (nK E x)), (5, .ref (nV E x))]) C dJ28_putTreeVal_226 (by decide) rfl rfl ?_
              refine ww_aload_n C dJ28_putTreeVal_228 rfl 8 rfl rfl ?_
              refine ww_iload_n C dJ28_putTreeVal_229 rfl 10 rfl ?_
              refine ww_aload C dJ28_putTreeVal_230 11 rfl rfl ?_
              refine ww_aload C dJ28_putTreeVal_232 12 rfl rfl ?_
              refine ww_aload C dJ28_putTreeVal_234 0 rfl rfl ?_
              refine cv_J28_115_q (As := [.int (nH E x), .ref (nK E x), .ref (nV E x), .ref (nA E j)]) (rest := []) C dJ28_putTreeVal_236 (ct_J22_newTreeNodeR (Cx.fl C) (Cx.ok C)) (rc_J22 (Cx.ok C) (Or.inl Hmp)) rfl rfl (Nat.le_of_ble_eq_true rfl) (by decide) (Nat.le_refl _) (Nat.le_refl _) (fun vv z1 h1 q9 => ?_)
              obtain ⟨hq1, a, hv, a_n, a_z, hE1⟩ := q9; subst hv; replace hq1 := hq1.symm; subst hq1
              obtain ⟨E2, eE2⟩ : ∃ e, e = ndE E x a := ⟨_, rfl⟩
              obtain ⟨G2, eG2⟩ : ∃ g, g = insG G x := ⟨_, rfl⟩
              have hT1 : TnH h1 G2 E2 (lfP p x (some j)) (va_up rd x false) := by rw [hE1, eE2, eG2]; exact hT.nw (o := (some j)) hca hx a_n (fun e => hx (hnx x e))
              have hle1 : hle h h1 := by rw [hE1]; exact hle_nw a_n
              have hcl1 : ClN G2 (lfP p x (some j)) := by rw [eG2]; exact hcl.nw hx hnx
              have g2 : ∀ i, G i → G2 i := fun i hi => by rw [eG2]; exact Or.inl hi
              have g2x : G2 x := by rw [eG2]; exact Or.inr rfl
              have eA : ∀ i, G i → nA E2 i = nA E i := fun i hi => by rw [eE2]; exact ndE_o (gn i hi)
              have eAx : nA E2 x = a := by rw [eE2]; exact ndE_s
              have eH : nH E2 = nH E := by rw [eE2]; rfl
              obtain ⟨p0, ep0⟩ : ∃ q, q = lfP p x (some j) := ⟨_, rfl⟩
              obtain ⟨rd0, erd0⟩ : ∃ q, q = va_up rd x false := ⟨_, rfl⟩
              rw [← ep0] at hT1 hcl1; rw [← erd0] at hT1
              have hG0 : TrG G (ltN (nH E) (txN tm tu)) p0 D rt := hG.cg (fun f9 i gi _ => by rw [ep0]; exact lfP_o (gn i gi))
              have l0 : p0 0 x = (some j) ∧ p0 1 x = none ∧ p0 2 x = none ∧ p0 3 x = none ∧ p0 4 x = none := by rw [ep0]; exact lfP_x
              have lq : ∀ f9, p0 f9 q = p f9 q := fun f9 => by rw [ep0]; exact lfP_o nqx
              have hQ0 : TrQ G (ltN (nH E) (txN tm tu)) p0 D x q := fun i gi => by have := hQ i gi; rw [ep0, lfP_o (gn i gi), lfP_o (gn i gi)]; exact this
              refine ww_lv (lv' := [(14, .ref (nA E2 j)), (9, .null), (13, .ref (nA E2 q)), (10, .int dir), (8, .ref (nA E2 rt)), (7, .int (nI 0)), (6, va_rf kc), (0, .ref (nA E2 y)), (1, .ref mp), (2, .ref tb), (3, .int (nH E x)), (4, .ref (nK E x)), (5, .ref (nV E x))]) (by rw [eA q gq, eA rt gr, eA y gy, eA j gj]) ?_
              refine ww_st (st' := [.ref (nA E2 x)]) (by rw [eAx]) ?_
              have hF1 : FrT G2 E2 h1 h1 := FrT.rf
              refine ww_astore (lv' := [(15, .ref (nA E2 x)), (14, .ref (nA E2 j)), (9, .null), (13, .ref (nA E2 q)), (10, .int dir), (8, .ref (nA E2 rt)), (7, .int (nI 0)), (6, va_rf kc), (0, .ref (nA E2 y)), (1, .ref mp), (2, .ref tb), (3, .int (nH E x)), (4, .ref (nK E x)), (5, .ref (nV E x))]) C dJ28_putTreeVal_239 (by decide) rfl rfl ?_
              refine ww_iload C dJ28_putTreeVal_241 4 rfl ?_
              refine ww_if_gt_f (tgt := 256) C dJ28_putTreeVal_243 (by decide) (by first | exact c_199 | exact Int32.not_lt.mpr c_199) ?_
              refine ww_aload C dJ28_putTreeVal_246 3 rfl rfl ?_
              refine ww_aload C dJ28_putTreeVal_248 0 rfl rfl ?_
              refine pf_J28_39_J28 (fs' := [.null, .null, .int (nH E2 q), .ref (nK E2 q), .ref (nV E2 q), va_rf ((p0 0 q).map (nA E2)), va_rf ((p0 1 q).map (nA E2)), .ref (nA E2 x), va_rf ((p0 3 q).map (nA E2)), va_rf ((p0 4 q).map (nA E2)), .int (bI (rd0 q))]) C dJ28_putTreeVal_250 (hT1.1 q (g2 q gq)) rfl rfl (Nat.le_of_ble_eq_true rfl) rfl ?_
              refine ww_gen (fun h134 hE134 => ?_)
              obtain ⟨p134, ep134⟩ : ∃ Q9, Q9 = pst p0 2 q (some x) := ⟨_, rfl⟩
              have hT134 : TnH h134 G2 E2 p134 rd0 := by rw [ep134, hE134]; exact hT1.p2 (o := (some x)) (g2 q gq)
              have hF134 : FrT G2 E2 h1 h134 := by rw [hE134]; exact hF1.put (g2 q gq)
              refine ww_goto (tgt := 263) C dJ28_putTreeVal_253 (by decide) ?_
              refine ww_aload C dJ28_putTreeVal_263 3 rfl rfl ?_
              refine ww_aload C dJ28_putTreeVal_265 0 rfl rfl ?_
              refine pf_J28_22_J28 (fs' := [.null, .null, .int (nH E2 q), .ref (nK E2 q), .ref (nV E2 q), .ref (nA E2 x), va_rf ((p134 1 q).map (nA E2)), va_rf ((p134 2 q).map (nA E2)), va_rf ((p134 3 q).map (nA E2)), va_rf ((p134 4 q).map (nA E2)), .int (bI (rd0 q))]) C dJ28_putTreeVal_267 (hT134.1 q (g2 q gq)) rfl rfl (Nat.le_of_ble_eq_true rfl) rfl ?_
              refine ww_gen (fun h135 hE135 => ?_)
              obtain ⟨p135, ep135⟩ : ∃ Q9, Q9 = pst p134 0 q (some x) := ⟨_, rfl⟩
              have hT135 : TnH h135 G2 E2 p135 rd0 := by rw [ep135, hE135]; exact hT134.p0 (o := (some x)) (g2 q gq)
              have hF135 : FrT G2 E2 h1 h135 := by rw [hE135]; exact hF134.put (g2 q gq)
              refine ww_aload C dJ28_putTreeVal_270 0 rfl rfl ?_
              refine ww_aload C dJ28_putTreeVal_272 0 rfl rfl ?_
              refine ww_aload C dJ28_putTreeVal_274 3 rfl rfl ?_
              refine ww_dup_x1 C dJ28_putTreeVal_276 rfl rfl ?_
              refine pf_J28_19_J28 (fs' := [.null, .null, .int (nH E2 x), .ref (nK E2 x), .ref (nV E2 x), va_rf ((p135 0 x).map (nA E2)), va_rf ((p135 1 x).map (nA E2)), va_rf ((p135 2 x).map (nA E2)), va_rf ((p135 3 x).map (nA E2)), .ref (nA E2 q), .int (bI (rd0 x))]) C dJ28_putTreeVal_277 (hT135.1 x g2x) rfl rfl (Nat.le_of_ble_eq_true rfl) rfl ?_
              refine ww_gen (fun h136 hE136 => ?_)
              obtain ⟨p136, ep136⟩ : ∃ Q9, Q9 = pst p135 4 x (some q) := ⟨_, rfl⟩
              have hT136 : TnH h136 G2 E2 p136 rd0 := by rw [ep136, hE136]; exact hT135.p4 (o := (some q)) g2x
              have hF136 : FrT G2 E2 h1 h136 := by rw [hE136]; exact hF135.put g2x
              refine pf_J28_9_J28 (fs' := [.null, .null, .int (nH E2 x), .ref (nK E2 x), .ref (nV E2 x), va_rf ((p136 0 x).map (nA E2)), .ref (nA E2 q), va_rf ((p136 2 x).map (nA E2)), va_rf ((p136 3 x).map (nA E2)), va_rf ((p136 4 x).map (nA E2)), .int (bI (rd0 x))]) C dJ28_putTreeVal_280 (hT136.1 x g2x) rfl rfl (Nat.le_of_ble_eq_true rfl) rfl ?_
              refine ww_gen (fun h137 hE137 => ?_)
              obtain ⟨p137, ep137⟩ : ∃ Q9, Q9 = pst p136 1 x (some q) := ⟨_, rfl⟩
              have hT137 : TnH h137 G2 E2 p137 rd0 := by rw [ep137, hE137]; exact hT136.p1 (o := (some q)) g2x
              have hF137 : FrT G2 E2 h1 h137 := by rw [hE137]; exact hF136.put g2x
              refine ww_aload C dJ28_putTreeVal_283 1 rfl rfl ?_
              refine ww_ifnull_f C dJ28_putTreeVal_285 ?_
              refine ww_aload C dJ28_putTreeVal_288 1 rfl rfl ?_
              refine ww_castS (ci := 29) C q1606 rfl dJ28_putTreeVal_290 (rc_J28 (Cx.ok C) (Or.inl (hT137.1 j (g2 j gj)))) ?_
              refine ww_aload C dJ28_putTreeVal_293 0 rfl rfl ?_
              refine pf_J28_19_J28 (fs' := [.null, .null, .int (nH E2 j), .ref (nK E2 j), .ref (nV E2 j), va_rf ((p137 0 j).map (nA E2)), va_rf ((p137 1 j).map (nA E2)), va_rf ((p137 2 j).map (nA E2)), va_rf ((p137 3 j).map (nA E2)), .ref (nA E2 x), .int (bI (rd0 j))]) C dJ28_putTreeVal_295 (hT137.1 j (g2 j gj)) rfl rfl (Nat.le_of_ble_eq_true rfl) rfl ?_
              refine ww_gen (fun h138 hE138 => ?_)
              obtain ⟨p138, ep138⟩ : ∃ Q9, Q9 = pst p137 4 j (some x) := ⟨_, rfl⟩
              have hT138 : TnH h138 G2 E2 p138 rd0 := by rw [ep138, hE138]; exact hT137.p4 (o := (some x)) (g2 j gj)
              have hF138 : FrT G2 E2 h1 h138 := by rw [hE138]; exact hF137.put (g2 j gj)
              have hcl9 : ClN G2 p138 := by rw [ep138, ep137, ep136, ep135, ep134]; exact (((((hcl1.st (fun j hj => by cases hj; exact g2x)).st (fun j hj => by cases hj; exact g2x)).st (fun j hj => by cases hj; exact g2 q gq)).st (fun j hj => by cases hj; exact g2 q gq)).st (fun j hj => by cases hj; exact g2x))
              obtain ⟨D9, hG9⟩ : ∃ D9, TrG G2 (ltN (nH E) (txN tm tu)) p138 D9 rt := ⟨_, by rw [eG2]; exact (hG0.il hx gq (by rw [lq]; exact h_c) l0.2.2.1 l0.2.2.2.1 hlt hQ0).cg (fun f9 i _ h9 => by rw [ep138, ep137, ep136, ep135, ep134]; rcases h9 with rfl | rfl | rfl <;> simp [pst])⟩
              have hn9 : p138 0 f ≠ none := by rw [ep138, ep137, ep136, ep135, ep134]; simp only [pst]; intro h9; simp at h9; split at h9; { cases h9 }; { rw [ep0, lfP_o (gn f gf)] at h9; exact hnf h9 }
              refine ww_aload_n C dJ28_putTreeVal_298 rfl 10 rfl rfl ?_
              refine ww_aload C dJ28_putTreeVal_299 5 rfl rfl ?_
              refine ww_aload C dJ28_putTreeVal_301 0 rfl rfl ?_
              refine cs_J28_100_q (As := [.ref (nA E2 rt), .ref (nA E2 x)]) (rest := [.ref tb]) C dJ28_putTreeVal_303 (ct_J28_balanceInsertion (Cx.fl C) (Cx.ok C) ltN_o hT138 hG9 g2x) rfl rfl (Nat.le_of_ble_eq_true rfl) (by decide) (Nat.zero_le _) (Nat.zero_le _) (fun vv z2 h2 q9 => ?_)
              obtain ⟨hq2, p8, rd8, D8, rt8, hv, hT8, hG8, hN8, hF8⟩ := q9; subst hv; replace hq2 := hq2.symm; subst hq2
              have g8 : G2 rt8 := hG8.2.2.2.1
              have hFT := hF138.tr hF8
              have hto2 : ∀ i, G2 i → tb ≠ nA E2 i := fun i gi => by rw [eG2] at gi; rcases gi with gi | rfl; { rw [eA i gi]; exact hto i gi }; { rw [eAx]; exact ne_nw Htb a_n }
              have Htb2 : h2 tb = some (.inl (gA (xG X) 5, (nt, refs T0))) := hFT tb _ (hle1 _ _ Htb) hto2
              have hb8 : bx nt (nH E2 rt8) = b := by rw [eH]; exact hb rt8 (by rw [← eG2]; exact g8)
              have hcl8 : ClN G2 p8 := fun i gi f9 h9 j9 hj9 => hcl9 i gi f9 h9 j9 (by rcases h9 with rfl | rfl; { rw [← (hN8 i).1]; exact hj9 }; { rw [← (hN8 i).2]; exact hj9 })
              refine cs_J28_104_q (As := [.ref tb, .ref (nA E2 rt8)]) (rest := []) C dJ28_putTreeVal_306 (ct_J28_moveRootToFront (Cx.fl C) (Cx.ok C) hT8 g8 (g2 f gf) hcl8 hnt Htb2 (by rw [hb8, eA f gf]; exact hf)) rfl rfl (Nat.le_of_ble_eq_true rfl) (by decide) (Nat.zero_le _) (Nat.zero_le _) (fun z3 h3 q9 => ?_)
              obtain ⟨hq3, p7, hT7, hs7, hc7, hn7, ht7, hF7⟩ := q9; replace hq3 := hq3.symm; subst hq3
              refine ww_null C dJ28_putTreeVal_309 ?_
              have hfr : ∀ q e, h q = some e → q ≠ tb → (∀ i, G i → q ≠ nA E i) → h3 q = some e := fun q9 e9 hq9 n1 n2 => by
                have n3 : ∀ i, G2 i → q9 ≠ nA E2 i := fun i gi => by rw [eG2] at gi; rcases gi with gi | rfl; { rw [eA i gi]; exact n2 i gi }; { rw [eAx]; exact ne_nw hq9 a_n }
                exact hF7 q9 e9 (hFT q9 e9 (hle1 _ _ hq9) n3) n1 n3
              rw [hb8, eE2] at ht7; rw [eG2, eE2] at hT7; rw [eG2] at hG8 hc7
              exact ww_aret C (Or.inl ⟨_, rfl⟩) dJ28_putTreeVal_310 rfl ⟨rfl, rfl, a, p7, rd8, D8, rt8, a_n, a_z, hT7, hG8.cg (fun f9 i _ h9 => hs7 f9 i h9), hc7, hn7 (by rw [(hN8 f).1]; exact hn9), ht7, hfr⟩
          · skip
            show WW X (PvP (xG X) z h G (ltN (nH E) (txN tm tu)) E x tb nt b T0) z h 1 11 218 [(9, .ref (nA E c)), (13, .ref (nA E q)), (10, .int dir), (8, .ref (nA E rt)), (7, .int (nI 0)), (6, va_rf kc), (0, .ref (nA E y)), (1, .ref mp), (2, .ref tb), (3, .int (nH E x)), (4, .ref (nK E x)), (5, .ref (nV E x))] [.ref (nA E c)]
            have hc := hG.2.1 q c gq (Or.inl h_c)
            have hlc := hG.len gq (Or.inl h_c)
            refine ww_ifnonnull_t (tgt := 311) C dJ28_putTreeVal_218 (by decide) ?_
            refine ww_goto (tgt := 27) C dJ28_putTreeVal_311 (by decide) ?_
            refine ww_sub [0, 3, 4, 5, 6, 7, 8, 9, 10, 11] rfl ?_
            exact ih c kc (by omega) hc.1 hkc (hG.qs ltN_o hQ gq (Or.inl ⟨h_c, hlt⟩))
      refine ww_aload C dJ28_putTreeVal_27 0 rfl rfl ?_
      refine gf_J28_15_J28 C dJ28_putTreeVal_29 (Or.inl (hT.1 q gq)) rfl ?_
      refine ww_dup C dJ28_putTreeVal_32 rfl ?_
      refine ww_istore (lv' := [(11, .int (nH E q)), (9, .ref (nA E q)), (8, .ref (nA E rt)), (7, .int (nI 0)), (6, va_rf kc), (0, .ref (nA E y)), (1, .ref mp), (2, .ref tb), (3, .int (nH E x)), (4, .ref (nK E x)), (5, .ref (nV E x))]) C dJ28_putTreeVal_33 (by decide) rfl ?_
      refine ww_iload_n C dJ28_putTreeVal_35 rfl 8 rfl ?_
      refine ww_icmp_le (tgt := 45) C dJ28_putTreeVal_36 (by decide) (fun c_36 => ?_) (fun c_36 => ?_)
      · skip
        refine ww_iload C dJ28_putTreeVal_45 0 rfl ?_
        refine ww_iload_n C dJ28_putTreeVal_47 rfl 8 rfl ?_
        refine ww_icmp_ge (tgt := 57) C dJ28_putTreeVal_48 (by decide) (fun c_48 => ?_) (fun c_48 => ?_)
        · skip
          have heq : nH E q = nH E x := i32_tri c_36 c_48
          refine ww_aload C dJ28_putTreeVal_57 1 rfl rfl ?_
          refine gf_J28_45_J28 C dJ28_putTreeVal_59 (Or.inl (hT.1 q gq)) rfl ?_
          refine ww_dup C dJ28_putTreeVal_62 rfl ?_
          refine ww_astore (lv' := [(12, .ref (nK E q)), (11, .int (nH E q)), (9, .ref (nA E q)), (8, .ref (nA E rt)), (7, .int (nI 0)), (6, va_rf kc), (0, .ref (nA E y)), (1, .ref mp), (2, .ref tb), (3, .int (nH E x)), (4, .ref (nK E x)), (5, .ref (nV E x))]) C dJ28_putTreeVal_63 (by decide) rfl rfl ?_
          refine ww_aload C dJ28_putTreeVal_65 10 rfl rfl ?_
          have hsq : nK E q ≠ nK E x := fun e9 => by rw [e9] at N2; exact hnew q gq (tlU_eq.mpr (N2.uq H1))
          have hne : tlU (tm q) (tu q) ≠ tlU (tm x) (tu x) := hnew q gq
          refine ww_acmp_eq_f (rx := (some (nK E q))) (ry := (some (nK E x))) (tgt := 85) C dJ28_putTreeVal_67 (by decide) (fun q9 => hsq (Option.some.inj q9)) ?_
          refine ww_aload C dJ28_putTreeVal_70 10 rfl rfl ?_
          refine ww_ifnull_f C dJ28_putTreeVal_72 ?_
          refine ww_aload C dJ28_putTreeVal_75 10 rfl rfl ?_
          refine ww_aload C dJ28_putTreeVal_77 0 rfl rfl ?_
          refine ca_J28_49_J11_r (As := [.ref (nK E q)]) (rest := []) C dJ28_putTreeVal_79 (ct_J11_equals (Cx.fl C) (Cx.ok C) H1.su N2.su (fun e9 => absurd e9.symm hsq)) (StU.rc (Cx.ok C) H1.su) rfl rfl (Nat.le_of_ble_eq_true rfl) (by decide) (Nat.zero_le _) (Nat.zero_le _) ?_
          refine ww_if_eq_t (tgt := 88) C dJ28_putTreeVal_82 (by decide) (by rw [show eqU (tu x) (tu q) (tm x) (tm q) = false from by cases h9 : eqU (tu x) (tu q) (tm x) (tm q) with | false => rfl | true => exact absurd (eqU_tl.mp h9).symm hne]; rfl) ?_
          refine ww_aload C dJ28_putTreeVal_88 5 rfl (va_rf_isRef _) ?_
          have hcm := cmU_lt (u := tu x) (v := tu q) (m := tm x) (m2 := tm q) b1.1 b2.1 b1.2 b2.2
          have hnz : cmU (tu x) (tm x) (tu q) (tm q) ≠ 0 := fun e9 => hne (hcm.2.mp e9).symm
          have hdir : (¬ 0 < cmU (tu x) (tm x) (tu q) (tm q) ∧ (ltN (nH E) (txN tm tu)) x q) ∨ (0 < cmU (tu x) (tm x) (tu q) (tm q) ∧ (ltN (nH E) (txN tm tu)) q x) := by
            by_cases h0 : cmU (tu x) (tm x) (tu q) (tm q) < 0
            · exact Or.inl ⟨fun g => by rw [Int32.lt_iff_toInt_lt] at g h0; omega, Or.inr ⟨heq.symm, hcm.1.mp h0⟩⟩
            · exact Or.inr ⟨pos_of hnz h0, Or.inr ⟨heq, tl_tri (fun g => h0 (hcm.1.mpr g)) (fun g => hne g.symm)⟩⟩
          rcases hkc with hk0 | hk0
          · skip
            subst hk0
            show WW X (PvP (xG X) z h G (ltN (nH E) (txN tm tu)) E x tb nt b T0) z h 1 11 90 [(12, .ref (nK E q)), (11, .int (nH E q)), (9, .ref (nA E q)), (8, .ref (nA E rt)), (7, .int (nI 0)), (6, .null), (0, .ref (nA E y)), (1, .ref mp), (2, .ref tb), (3, .int (nH E x)), (4, .ref (nK E x)), (5, .ref (nV E x))] [.null]
            refine ww_ifnonnull_f C dJ28_putTreeVal_90 ?_
            refine ww_aload C dJ28_putTreeVal_93 10 rfl rfl ?_
            refine cs_J28_55_r (As := [.ref (nK E x)]) (rest := []) C dJ28_putTreeVal_95 (ct_J22_comparableClassFor (Cx.fl C) (Cx.ok C) H1) rfl rfl (Nat.le_of_ble_eq_true rfl) (by decide) (Nat.zero_le _) (Nat.zero_le _) ?_
            refine ww_dup C dJ28_putTreeVal_98 rfl ?_
            refine ww_astore (lv' := [(6, .ref (gE (xG X) 3001)), (12, .ref (nK E q)), (11, .int (nH E q)), (9, .ref (nA E q)), (8, .ref (nA E rt)), (7, .int (nI 0)), (0, .ref (nA E y)), (1, .ref mp), (2, .ref tb), (3, .int (nH E x)), (4, .ref (nK E x)), (5, .ref (nV E x))]) C dJ28_putTreeVal_99 (by decide) rfl rfl ?_
            refine ww_ifnull_f C dJ28_putTreeVal_101 ?_
            refine ww_aload C dJ28_putTreeVal_104 0 rfl rfl ?_
            refine ww_aload C dJ28_putTreeVal_106 10 rfl rfl ?_
            refine ww_aload C dJ28_putTreeVal_108 1 rfl rfl ?_
            refine cs_J28_59_r (As := [.ref (gE (xG X) 3001), .ref (nK E x), .ref (nK E q)]) (rest := []) C dJ28_putTreeVal_110 (ct_J22_compareComparables (Cx.fl C) (Cx.ok C) H1 N2) rfl rfl (Nat.le_of_ble_eq_true rfl) (by decide) (Nat.zero_le _) (Nat.zero_le _) ?_
            refine ww_dup C dJ28_putTreeVal_113 rfl ?_
            refine ww_istore (lv' := [(10, .int (cmU (tu x) (tm x) (tu q) (tm q))), (6, .ref (gE (xG X) 3001)), (12, .ref (nK E q)), (11, .int (nH E q)), (9, .ref (nA E q)), (8, .ref (nA E rt)), (7, .int (nI 0)), (0, .ref (nA E y)), (1, .ref mp), (2, .ref tb), (3, .int (nH E x)), (4, .ref (nK E x)), (5, .ref (nV E x))]) C dJ28_putTreeVal_114 (by decide) rfl ?_
            refine ww_if_ne_t (tgt := 193) C dJ28_putTreeVal_116 (by decide) hnz ?_
            refine ww_sub [0, 4, 5, 6, 1, 7, 8, 9, 10, 11, 12] rfl ?_
            exact K193 _ (some (gE (xG X) 3001)) (Or.inr rfl) hdir
          · skip
            subst hk0
            show WW X (PvP (xG X) z h G (ltN (nH E) (txN tm tu)) E x tb nt b T0) z h 1 11 90 [(12, .ref (nK E q)), (11, .int (nH E q)), (9, .ref (nA E q)), (8, .ref (nA E rt)), (7, .int (nI 0)), (6, .ref (gE (xG X) 3001)), (0, .ref (nA E y)), (1, .ref mp), (2, .ref tb), (3, .int (nH E x)), (4, .ref (nK E x)), (5, .ref (nV E x))] [.ref (gE (xG X) 3001)]
            refine ww_ifnonnull_t (tgt := 104) C dJ28_putTreeVal_90 (by decide) ?_
            refine ww_aload C dJ28_putTreeVal_104 5 rfl rfl ?_
            refine ww_aload C dJ28_putTreeVal_106 10 rfl rfl ?_
            refine ww_aload C dJ28_putTreeVal_108 0 rfl rfl ?_
            refine cs_J28_59_r (As := [.ref (gE (xG X) 3001), .ref (nK E x), .ref (nK E q)]) (rest := []) C dJ28_putTreeVal_110 (ct_J22_compareComparables (Cx.fl C) (Cx.ok C) H1 N2) rfl rfl (Nat.le_of_ble_eq_true rfl) (by decide) (Nat.zero_le _) (Nat.zero_le _) ?_
            refine ww_dup C dJ28_putTreeVal_113 rfl ?_
            refine ww_istore (lv' := [(10, .int (cmU (tu x) (tm x) (tu q) (tm q))), (12, .ref (nK E q)), (11, .int (nH E q)), (9, .ref (nA E q)), (8, .ref (nA E rt)), (7, .int (nI 0)), (6, .ref (gE (xG X) 3001)), (0, .ref (nA E y)), (1, .ref mp), (2, .ref tb), (3, .int (nH E x)), (4, .ref (nK E x)), (5, .ref (nV E x))]) C dJ28_putTreeVal_114 (by decide) rfl ?_
            refine ww_if_ne_t (tgt := 193) C dJ28_putTreeVal_116 (by decide) hnz ?_
            refine ww_sub [0, 3, 4, 5, 6, 7, 8, 9, 10, 11, 12] rfl ?_
            exact K193 _ (some (gE (xG X) 3001)) (Or.inr rfl) hdir
        · skip
          refine ww_iconst C dJ28_putTreeVal_51 cI_1 ?_
          refine ww_istore (lv' := [(10, .int (nI 1)), (11, .int (nH E q)), (9, .ref (nA E q)), (8, .ref (nA E rt)), (7, .int (nI 0)), (6, va_rf kc), (0, .ref (nA E y)), (1, .ref mp), (2, .ref tb), (3, .int (nH E x)), (4, .ref (nK E x)), (5, .ref (nV E x))]) C dJ28_putTreeVal_52 (by decide) rfl ?_
          refine ww_goto (tgt := 193) C dJ28_putTreeVal_54 (by decide) ?_
          refine ww_sub [0, 2, 3, 4, 5, 6, 7, 8, 9, 10, 11] rfl ?_
          exact K193 _ kc hkc (Or.inr ⟨by decide, Or.inl (by first | exact c_48 | exact i32_lt c_48)⟩)
      · skip
        refine ww_iconst C dJ28_putTreeVal_39 cI_m1 ?_
        refine ww_istore (lv' := [(10, .int (-1)), (11, .int (nH E q)), (9, .ref (nA E q)), (8, .ref (nA E rt)), (7, .int (nI 0)), (6, va_rf kc), (0, .ref (nA E y)), (1, .ref mp), (2, .ref tb), (3, .int (nH E x)), (4, .ref (nK E x)), (5, .ref (nV E x))]) C dJ28_putTreeVal_40 (by decide) rfl ?_
        refine ww_goto (tgt := 193) C dJ28_putTreeVal_42 (by decide) ?_
        refine ww_sub [0, 2, 3, 4, 5, 6, 7, 8, 9, 10, 11] rfl ?_
        exact K193 _ kc hkc (Or.inl ⟨by decide, Or.inl (by first | exact c_36 | exact i32_lt c_36)⟩)
  refine ww_null C dJ28_putTreeVal_0 ?_
  refine ww_astore (lv' := [(6, .null), (0, .ref (nA E y)), (1, .ref mp), (2, .ref tb), (3, .int (nH E x)), (4, .ref (nK E x)), (5, .ref (nV E x))]) C dJ28_putTreeVal_1 (by decide) rfl rfl ?_
  refine ww_iconst C dJ28_putTreeVal_3 cI_0 ?_
  refine ww_istore (lv' := [(7, .int (nI 0)), (6, .null), (0, .ref (nA E y)), (1, .ref mp), (2, .ref tb), (3, .int (nH E x)), (4, .ref (nK E x)), (5, .ref (nV E x))]) C dJ28_putTreeVal_4 (by decide) rfl ?_
  refine ww_aload_n C dJ28_putTreeVal_6 rfl 2 rfl rfl ?_
  refine gf_J28_9_J28 C dJ28_putTreeVal_7 (Or.inl (hT.1 y gy)) rfl ?_
  rcases h_k : p 1 y with _ | k
  · skip
    show WW X (PvP (xG X) z h G (ltN (nH E) (txN tm tu)) E x tb nt b T0) z h 1 11 10 [(7, .int (nI 0)), (6, .null), (0, .ref (nA E y)), (1, .ref mp), (2, .ref tb), (3, .int (nH E x)), (4, .ref (nK E x)), (5, .ref (nV E x))] [.null]
    refine ww_ifnull_t (tgt := 20) C dJ28_putTreeVal_10 (by decide) ?_
    refine ww_aload_n C dJ28_putTreeVal_20 rfl 2 rfl rfl ?_
    refine ww_st (st' := [.ref (nA E rt)]) (by rw [hG.top gy h_k]) ?_
    refine ww_astore (lv' := [(8, .ref (nA E rt)), (7, .int (nI 0)), (6, .null), (0, .ref (nA E y)), (1, .ref mp), (2, .ref tb), (3, .int (nH E x)), (4, .ref (nK E x)), (5, .ref (nV E x))]) C dJ28_putTreeVal_21 (by decide) rfl rfl ?_
    refine ww_aload C dJ28_putTreeVal_23 0 rfl rfl ?_
    refine ww_astore (lv' := [(9, .ref (nA E rt)), (8, .ref (nA E rt)), (7, .int (nI 0)), (6, .null), (0, .ref (nA E y)), (1, .ref mp), (2, .ref tb), (3, .int (nH E x)), (4, .ref (nK E x)), (5, .ref (nV E x))]) C dJ28_putTreeVal_25 (by decide) rfl rfl ?_
    exact key _ rt none (Nat.lt_succ_self _) gr (Or.inl rfl) hG.q0
  · skip
    show WW X (PvP (xG X) z h G (ltN (nH E) (txN tm tu)) E x tb nt b T0) z h 1 11 10 [(7, .int (nI 0)), (6, .null), (0, .ref (nA E y)), (1, .ref mp), (2, .ref tb), (3, .int (nH E x)), (4, .ref (nK E x)), (5, .ref (nV E x))] [.ref (nA E k)]
    refine ww_ifnull_f C dJ28_putTreeVal_10 ?_
    refine ww_aload_n C dJ28_putTreeVal_13 rfl 2 rfl rfl ?_
    refine cv_J28_67_r (As := []) (rest := []) C dJ28_putTreeVal_14 (ct_J28_root (Cx.fl C) (Cx.ok C) hT hG gy) (rc_J28 (Cx.ok C) (Or.inl (hT.1 y gy))) rfl rfl (Nat.le_of_ble_eq_true rfl) (by decide) (Nat.zero_le _) (Nat.zero_le _) ?_
    refine ww_goto (tgt := 21) C dJ28_putTreeVal_17 (by decide) ?_
    refine ww_astore (lv' := [(8, .ref (nA E rt)), (7, .int (nI 0)), (6, .null), (0, .ref (nA E y)), (1, .ref mp), (2, .ref tb), (3, .int (nH E x)), (4, .ref (nK E x)), (5, .ref (nV E x))]) C dJ28_putTreeVal_21 (by decide) rfl rfl ?_
    refine ww_aload C dJ28_putTreeVal_23 0 rfl rfl ?_
    refine ww_astore (lv' := [(9, .ref (nA E rt)), (8, .ref (nA E rt)), (7, .int (nI 0)), (6, .null), (0, .ref (nA E y)), (1, .ref mp), (2, .ref tb), (3, .int (nH E x)), (4, .ref (nK E x)), (5, .ref (nV E x))]) C dJ28_putTreeVal_25 (by decide) rfl rfl ?_
    exact key _ rt none (Nat.lt_succ_self _) gr (Or.inl rfl) hG.q0
end PTV
