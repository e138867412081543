section TFY0
set_option maxRecDepth 100000
abbrev inL (l : List Nat) : Nat → Prop := fun i => i ∈ l
/-- next runs along the list -/
def NxL (p : PT) : List Nat → Prop
  | [] => True
  | i :: r => p 0 i = r.head? ∧ NxL p r
theorem NxL.cg {p p' : PT} : ∀ {l : List Nat}, NxL p l → (∀ i, i ∈ l → p' 0 i = p 0 i) → NxL p' l
  | [], _, _ => trivial
  | i :: r, h, he => ⟨(he i List.mem_cons_self).trans h.1, NxL.cg h.2 (fun j hj => he j (List.mem_cons_of_mem _ hj))⟩
/-- two pictures: p' on the list, p elsewhere -/
def mgP (l : List Nat) (p p' : PT) : PT := fun f i => if i ∈ l then p' f i else p f i
def mgR (l : List Nat) (rd rd' : Nat → Bool) : Nat → Bool := fun i => if i ∈ l then rd' i else rd i
theorem mgP_i {l : List Nat} {p p' : PT} {f i : Nat} (h : i ∈ l) : mgP l p p' f i = p' f i := by unfold mgP; rw [if_pos h]
theorem mgP_o {l : List Nat} {p p' : PT} {f i : Nat} (h : i ∉ l) : mgP l p p' f i = p f i := by unfold mgP; rw [if_neg h]
theorem TnH.sub {h : AH} {G G' : Nat → Prop} {E : ND} {p : PT} {rd : Nat → Bool} (hT : TnH h G E p rd) (hs : ∀ i, G' i → G i) : TnH h G' E p rd := ⟨fun i hi => hT.1 i (hs i hi), fun i j hi hj => hT.2 i j (hs i hi) (hs j hj)⟩
theorem FrT.sub {G G' : Nat → Prop} {E : ND} {h h' : AH} (hF : FrT G' E h h') (hs : ∀ i, G' i → G i) : FrT G E h h' := fun q e hq hn => hF q e hq (fun i hi => hn i (hs i hi))
theorem TnH.mg {h h' : AH} {l l1 : List Nat} {E : ND} {p p' : PT} {rd rd' : Nat → Bool} (hT : TnH h (inL l) E p rd) (hs : ∀ i, i ∈ l1 → i ∈ l) (hT' : TnH h' (inL l1) E p' rd') (hF : FrT (inL l1) E h h') : TnH h' (inL l) E (mgP l1 p p') (mgR l1 rd rd') := by
  refine ⟨fun i hi => ?_, hT.2⟩
  by_cases e : i ∈ l1
  · rw [hT'.1 i e]
    unfold cTn mgR
    rw [mgP_i e, mgP_i e, mgP_i e, mgP_i e, mgP_i e, if_pos e]
  · rw [hF _ _ (hT.1 i hi) (fun j hj q => e (by rw [hT.2 i j hi (hs j hj) q]; exact hj))]
    unfold cTn mgR
    rw [mgP_o e, mgP_o e, mgP_o e, mgP_o e, mgP_o e, if_neg e]
/-- a bin has become a tree -/
def TfP (Γ : Gm) (z : ZR) (h : AH) (l : List Nat) (lt : Nat → Nat → Prop) (E : ND) (tb nt b : Nat) (T0 : Nat → Option Nat) : Oc → ZR → AH → Prop := Rn (fun z' h' => z' = z ∧ ∃ p' rd' D' rt', TnH h' (inL l) E p' rd' ∧ TrG (inL l) lt p' D' rt' ∧ ClN (inL l) p' ∧ p' 0 rt' ≠ none ∧ h' tb = some (.inl (gA Γ 5, (nt, refs (va_up T0 b (some (nA E rt')))))) ∧ ∀ q e, h q = some e → q ≠ tb → (∀ i, i ∈ l → q ≠ nA E i) → h' q = some e)
theorem insG_L {l : List Nat} {x : Nat} : insG (inL l) x = inL (l ++ [x]) := by
  funext i
  unfold insG inL
  simp
theorem one_L {x : Nat} : (fun i => i = x) = inL [x] := by
  funext i
  unfold inL
  simp
end TFY0
section TFY
set_option maxRecDepth 100000
theorem NxL.mid {p : PT} {i : Nat} {r : List Nat} : ∀ {l1 : List Nat}, NxL p (l1 ++ i :: r) → p 0 i = r.head?
  | [], h => h.1
  | _ :: _, h => NxL.mid h.2
set_option maxHeartbeats 2000000 in
theorem ct_J28_treeify {l : Launch} {Γ : Gm} (hl : l.flags = flags0) (hΓ : GOK Γ) {z : ZR} {h : AH} {lst : List Nat} {E : ND} {p : PT} {rd : Nat → Bool} {i0 i1 tb nt b : Nat} {r0 : List Nat} {T0 : Nat → Option Nat} {tm : Nat → Nat} {tu : Nat → Nat → Nat} (hT : TnH h (inL lst) E p rd) (hls : lst = i0 :: i1 :: r0) (hnd : lst.Nodup) (hcl : ClN (inL lst) p) (hNx : NxL p lst) (hK : NkH Γ z h (inL lst) E tm tu) (hdt : ∀ i j, i ∈ lst → j ∈ lst → i ≠ j → tlU (tm i) (tu i) ≠ tlU (tm j) (tu j)) (hnt : nt = 16 ∨ nt = 32 ∨ nt = 64) (Htb : h tb = some (.inl (gA Γ 5, (nt, refs T0)))) (hb : ∀ i, i ∈ lst → bx nt (nH E i) = b) (hf : T0 b = some (nA E i0)) : Ct l Γ yJ28_treeify cJ28_treeify 13 none 11 0 0 [.ref (nA E i0), .ref tb] z h (TfP Γ z h lst (ltN (nH E) (txN tm tu)) E tb nt b T0) := by
  refine Ct.of hl hΓ (by decide +kernel) (Nat.le_of_ble_eq_true rfl) (fun X e1 e2 C => ?_)
  subst e1; subst e2
  have C : Cx X cJ28_treeify 13 "java/util/HashMap$TreeNode" "treeify" none [] 11 := C
  have Htb : h tb = some (.inl (gA (xG X) 5, (nt, refs T0))) := Htb
  have g0 : i0 ∈ lst := by rw [hls]; exact List.mem_cons_self
  have hto : ∀ i, i ∈ lst → tb ≠ nA E i := fun i gi => ne_ob Htb (hT.1 i gi) (by simp [cTn])
  show WW X (TfP (xG X) z h lst (ltN (nH E) (txN tm tu)) E tb nt b T0) z h 0 0 0 [(0, .ref (nA E i0)), (1, .ref tb)] []
  have hF : FrT (inL lst) E h h := FrT.rf
  refine ww_null C dJ28_treeify_0 ?_
  refine ww_astore_n (lv' := [(2, .null), (0, .ref (nA E i0)), (1, .ref tb)]) C dJ28_treeify_1 rfl (by decide) rfl rfl ?_
  refine ww_aload_n C dJ28_treeify_2 rfl 1 rfl rfl ?_
  refine ww_astore_n (lv' := [(3, .ref (nA E i0)), (2, .null), (0, .ref (nA E i0)), (1, .ref tb)]) C dJ28_treeify_3 rfl (by decide) rfl rfl ?_
  have key : ∀ (l2 l1 : List Nat) (ro : Option Nat) (D1 : Nat → List Nat) (h1 : AH) (p1 : PT) (rd1 : Nat → Bool), lst = l1 ++ l2 → ((ro = none ∧ l1 = []) ∨ ∃ rt, ro = some rt ∧ TrG (inL l1) (ltN (nH E) (txN tm tu)) p1 D1 rt) → TnH h1 (inL lst) E p1 rd1 → (∀ i f, f = 0 ∨ f = 4 → p1 f i = p f i) → FrT (inL lst) E h h1 → WW X (TfP (xG X) z h lst (ltN (nH E) (txN tm tu)) E tb nt b T0) z h1 0 0 4 [(3, va_rf (l2.head?.map (nA E))), (2, va_rf (ro.map (nA E))), (0, .ref (nA E i0)), (1, .ref tb)] [] := by
    intro l2
    induction l2 with
    | nil =>
      intro l1 ro D1 h1 p1 rd1 hl12 hro hT1 hs1 hF1
      rw [List.append_nil] at hl12
      rcases hro with ⟨-, h0⟩ | ⟨rt, rfl, hG1⟩
      · skip
        rw [h0] at hl12; rw [hl12] at hls; cases hls
      · skip
        rw [← hl12] at hG1
        have gr : rt ∈ lst := hG1.2.2.2.1
        show WW X (TfP (xG X) z h lst (ltN (nH E) (txN tm tu)) E tb nt b T0) z h1 0 0 4 [(3, .null), (2, .ref (nA E rt)), (0, .ref (nA E i0)), (1, .ref tb)] []
        refine ww_aload_n C dJ28_treeify_4 rfl 0 rfl rfl ?_
        refine ww_ifnull_t (tgt := 215) C dJ28_treeify_5 (by decide) ?_
        refine ww_aload_n C dJ28_treeify_215 rfl 3 rfl rfl ?_
        refine ww_aload_n C dJ28_treeify_216 rfl 1 rfl rfl ?_
        have Htb1 : h1 tb = some (.inl (gA (xG X) 5, (nt, refs T0))) := hF1 tb _ Htb hto
        have hcl1 : ClN (inL lst) p1 := fun i gi f9 h9 j9 hj9 => hcl i gi f9 h9 j9 (by rw [← hs1 i f9 h9]; exact hj9)
        refine cs_J28_104_q (As := [.ref tb, .ref (nA E rt)]) (rest := []) C dJ28_treeify_217 (ct_J28_moveRootToFront (Cx.fl C) (Cx.ok C) hT1 gr g0 hcl1 hnt Htb1 (by rw [hb rt gr]; exact hf)) rfl rfl (Nat.le_of_ble_eq_true rfl) (by decide) (Nat.zero_le _) (Nat.zero_le _) (fun z3 h3 q9 => ?_)
        obtain ⟨hq3, p7, hT7, hs7, hc7, hn7, ht7, hF7⟩ := q9; replace hq3 := hq3.symm; subst hq3
        rw [hb rt gr] at ht7
        exact ww_vret C dJ28_treeify_220 ⟨rfl, p7, rd1, D1, rt, hT7, hG1.cg (fun f9 i _ h9 => hs7 f9 i h9), hc7, hn7 (by rw [hs1 i0 0 (Or.inl rfl)]; rw [hls] at hNx; rw [hNx.1]; simp), ht7, fun q e hq n1 n2 => hF7 q e (hF1 q e hq n2) n1 n2⟩
    | cons x r9 ih =>
      intro l1 ro D1 h1 p1 rd1 hl12 hro hT1 hs1 hF1
      have gx : x ∈ lst := by rw [hl12]; simp
      have hx1 : x ∉ l1 := fun e => by rw [hl12, List.nodup_append] at hnd; exact hnd.2.2 x e x List.mem_cons_self rfl
      have hl1s : ∀ i, i ∈ l1 → i ∈ lst := fun i hi => by rw [hl12]; exact List.mem_append_left _ hi
      have hl12b : lst = (l1 ++ [x]) ++ r9 := by rw [hl12]; simp
      have hnx : p1 0 x = r9.head? := by rw [hs1 x 0 (Or.inl rfl)]; exact NxL.mid (by rw [← hl12]; exact hNx)
      show WW X (TfP (xG X) z h lst (ltN (nH E) (txN tm tu)) E tb nt b T0) z h1 0 0 4 [(3, .ref (nA E x)), (2, va_rf (ro.map (nA E))), (0, .ref (nA E i0)), (1, .ref tb)] []
      refine ww_aload_n C dJ28_treeify_4 rfl 0 rfl rfl ?_
      refine ww_ifnull_f C dJ28_treeify_5 ?_
      refine ww_aload_n C dJ28_treeify_8 rfl 0 rfl rfl ?_
      refine gf_J28_22_J28 C dJ28_treeify_9 (Or.inl (hT1.1 x gx)) rfl ?_
      refine ww_st (st' := [va_rf (r9.head?.map (nA E))]) (by rw [hnx]) ?_
      have hcast : WW X (TfP (xG X) z h lst (ltN (nH E) (txN tm tu)) E tb nt b T0) z h1 0 0 15 [(3, .ref (nA E x)), (2, va_rf (ro.map (nA E))), (0, .ref (nA E i0)), (1, .ref tb)] [va_rf (r9.head?.map (nA E))] → WW X (TfP (xG X) z h lst (ltN (nH E) (txN tm tu)) E tb nt b T0) z h1 0 0 12 [(3, .ref (nA E x)), (2, va_rf (ro.map (nA E))), (0, .ref (nA E i0)), (1, .ref tb)] [va_rf (r9.head?.map (nA E))] := fun k9 => by
        rcases r9 with _ | ⟨j, r8⟩
        · skip
          exact ww_castN C dJ28_treeify_12 k9
        · skip
          have gj : j ∈ lst := by rw [hl12]; simp
          exact ww_castS (ci := 29) C q1606 rfl dJ28_treeify_12 (rc_J28 (Cx.ok C) (Or.inl (hT1.1 j gj))) k9
      refine hcast ?_
      refine ww_astore (lv' := [(4, va_rf (r9.head?.map (nA E))), (3, .ref (nA E x)), (2, va_rf (ro.map (nA E))), (0, .ref (nA E i0)), (1, .ref tb)]) C dJ28_treeify_15 (by decide) (va_rf_isRef _) rfl ?_
      refine ww_aload_n C dJ28_treeify_17 rfl 1 rfl rfl ?_
      refine ww_aload_n C dJ28_treeify_18 rfl 1 rfl rfl ?_
      refine ww_null C dJ28_treeify_19 ?_
      refine ww_dup_x1 C dJ28_treeify_20 rfl rfl ?_
      refine pf_J28_42_J28 (fs' := [.null, .null, .int (nH E x), .ref (nK E x), .ref (nV E x), va_rf ((p1 0 x).map (nA E)), va_rf ((p1 1 x).map (nA E)), va_rf ((p1 2 x).map (nA E)), .null, va_rf ((p1 4 x).map (nA E)), .int (bI (rd1 x))]) C dJ28_treeify_21 (hT1.1 x gx) rfl rfl (Nat.le_of_ble_eq_true rfl) rfl ?_
      refine ww_gen (fun h41 hE41 => ?_)
      obtain ⟨p41, ep41⟩ : ∃ Q9, Q9 = pst p1 3 x none := ⟨_, rfl⟩
      have hT41 : TnH h41 (inL lst) E p41 rd1 := by rw [ep41, hE41]; exact hT1.p3 (o := none) gx
      have hF41 : FrT (inL lst) E h h41 := by rw [hE41]; exact hF1.put gx
      refine pf_J28_39_J28 (fs' := [.null, .null, .int (nH E x), .ref (nK E x), .ref (nV E x), va_rf ((p41 0 x).map (nA E)), va_rf ((p41 1 x).map (nA E)), .null, va_rf ((p41 3 x).map (nA E)), va_rf ((p41 4 x).map (nA E)), .int (bI (rd1 x))]) C dJ28_treeify_24 (hT41.1 x gx) rfl rfl (Nat.le_of_ble_eq_true rfl) rfl ?_
      refine ww_gen (fun h42 hE42 => ?_)
      obtain ⟨p42, ep42⟩ : ∃ Q9, Q9 = pst p41 2 x none := ⟨_, rfl⟩
      have hT42 : TnH h42 (inL lst) E p42 rd1 := by rw [ep42, hE42]; exact hT41.p2 (o := none) gx
      have hF42 : FrT (inL lst) E h h42 := by rw [hE42]; exact hF41.put gx
      have hsB : ∀ i f, f = 0 ∨ f = 4 → p42 f i = p f i := fun i f h9 => by rw [ep42, ep41, pst_f (by omega), pst_f (by omega)]; exact hs1 i f h9
      have hoB : ∀ i f, i ≠ x → p42 f i = p1 f i := fun i f h9 => by rw [ep42, ep41, pst_i h9, pst_i h9]
      have x23 : p42 2 x = none ∧ p42 3 x = none := by rw [ep42, ep41]; simp [pst]
      have K209 : ∀ (ro' : Option Nat) (D2 : Nat → List Nat) (h2 : AH) (p2 : PT) (rd2 : Nat → Bool), ((∃ rt, ro' = some rt ∧ TrG (inL (l1 ++ [x])) (ltN (nH E) (txN tm tu)) p2 D2 rt)) → TnH h2 (inL lst) E p2 rd2 → (∀ i f, f = 0 ∨ f = 4 → p2 f i = p f i) → FrT (inL lst) E h h2 → WW X (TfP (xG X) z h lst (ltN (nH E) (txN tm tu)) E tb nt b T0) z h2 0 0 209 [(4, va_rf (r9.head?.map (nA E))), (2, va_rf (ro'.map (nA E))), (0, .ref (nA E i0)), (1, .ref tb)] [] := by
        intro ro' D2 h2 p2 rd2 hro2 hT2 hs2 hF2
        refine ww_aload C dJ28_treeify_209 0 rfl (va_rf_isRef _) ?_
        refine ww_astore_n (lv' := [(3, va_rf (r9.head?.map (nA E))), (4, va_rf (r9.head?.map (nA E))), (2, va_rf (ro'.map (nA E))), (0, .ref (nA E i0)), (1, .ref tb)]) C dJ28_treeify_211 rfl (by decide) (va_rf_isRef _) (by first | (simp [va_rf_cat]; done) | (simp [va_rf_cat]; simp only [Value.category]; decide)) ?_
        refine ww_goto (tgt := 4) C dJ28_treeify_212 (by decide) ?_
        refine ww_sub [0, 2, 3, 4] rfl ?_
        exact ih (l1 ++ [x]) ro' D2 h2 p2 rd2 hl12b (Or.inr hro2) hT2 hs2 hF2
      refine ww_aload_n C dJ28_treeify_27 rfl 2 rfl (va_rf_isRef _) ?_
      rcases hro with ⟨h0, h00⟩ | ⟨rt, h0, hG1⟩
      · skip
        subst h0
        show WW X (TfP (xG X) z h lst (ltN (nH E) (txN tm tu)) E tb nt b T0) z h42 0 0 28 [(4, va_rf (r9.head?.map (nA E))), (3, .ref (nA E x)), (2, .null), (0, .ref (nA E i0)), (1, .ref tb)] [.null]
        refine ww_ifnonnull_f C dJ28_treeify_28 ?_
        refine ww_aload_n C dJ28_treeify_31 rfl 1 rfl rfl ?_
        refine ww_null C dJ28_treeify_32 ?_
        refine pf_J28_9_J28 (fs' := [.null, .null, .int (nH E x), .ref (nK E x), .ref (nV E x), va_rf ((p42 0 x).map (nA E)), .null, va_rf ((p42 2 x).map (nA E)), va_rf ((p42 3 x).map (nA E)), va_rf ((p42 4 x).map (nA E)), .int (bI (rd1 x))]) C dJ28_treeify_33 (hT42.1 x gx) rfl rfl (Nat.le_of_ble_eq_true rfl) rfl ?_
        refine ww_gen (fun h43 hE43 => ?_)
        obtain ⟨p43, ep43⟩ : ∃ Q9, Q9 = pst p42 1 x none := ⟨_, rfl⟩
        have hT43 : TnH h43 (inL lst) E p43 rd1 := by rw [ep43, hE43]; exact hT42.p1 (o := none) gx
        have hF43 : FrT (inL lst) E h h43 := by rw [hE43]; exact hF42.put gx
        refine ww_aload_n C dJ28_treeify_36 rfl 1 rfl rfl ?_
        refine ww_iconst C dJ28_treeify_37 cI_0 ?_
        refine pf_J28_93_J28 (fs' := [.null, .null, .int (nH E x), .ref (nK E x), .ref (nV E x), va_rf ((p43 0 x).map (nA E)), va_rf ((p43 1 x).map (nA E)), va_rf ((p43 2 x).map (nA E)), va_rf ((p43 3 x).map (nA E)), va_rf ((p43 4 x).map (nA E)), .int (nI 0)]) C dJ28_treeify_38 (hT43.1 x gx) nar_z0 fit_z0 (Nat.le_of_ble_eq_true rfl) rfl ?_
        refine ww_gen (fun h44 hE44 => ?_)
        obtain ⟨rd44, erd44⟩ : ∃ Q9, Q9 = va_up rd1 x false := ⟨_, rfl⟩
        have hT44 : TnH h44 (inL lst) E p43 rd44 := by rw [erd44, hE44]; exact hT43.red (b := false) gx
        have hF44 : FrT (inL lst) E h h44 := by rw [hE44]; exact hF43.put gx
        refine ww_aload_n C dJ28_treeify_41 rfl 1 rfl rfl ?_
        refine ww_astore_n (lv' := [(2, .ref (nA E x)), (4, va_rf (r9.head?.map (nA E))), (3, .ref (nA E x)), (0, .ref (nA E i0)), (1, .ref tb)]) C dJ28_treeify_42 rfl (by decide) rfl rfl ?_
        refine ww_goto (tgt := 209) C dJ28_treeify_43 (by decide) ?_
        refine ww_sub [1, 0, 3, 4] rfl ?_
        exact K209 (some x) (fun _ => [x]) h44 p43 rd44 ⟨x, rfl, by rw [h00]; show TrG (inL [x]) _ _ _ _; rw [← one_L]; exact TrG.one (by rw [ep43, pst_e]) (by rw [ep43, pst_f (by decide)]; exact x23.1) (by rw [ep43, pst_f (by decide)]; exact x23.2)⟩ hT44 (fun i f h9 => by rw [ep43, pst_f (by omega)]; exact hsB i f h9) hF44
      · skip
        subst h0
        show WW X (TfP (xG X) z h lst (ltN (nH E) (txN tm tu)) E tb nt b T0) z h42 0 0 28 [(4, va_rf (r9.head?.map (nA E))), (3, .ref (nA E x)), (2, .ref (nA E rt)), (0, .ref (nA E i0)), (1, .ref tb)] [.ref (nA E rt)]
        refine ww_ifnonnull_t (tgt := 46) C dJ28_treeify_28 (by decide) ?_
        have hGB : TrG (inL l1) (ltN (nH E) (txN tm tu)) p42 D1 rt := hG1.cg (fun f i gi _ => hoB i f (fun e => hx1 (by rw [← e]; exact gi)))
        obtain ⟨N1, hH1⟩ := hK x gx
        have hK1 : NkH (xG X) z h42 (inL lst) E tm tu := hK.sk (hF42.sk hT)
        have N1 : NmS (xG X) z h42 (nK E x) (tm x) (tu x) := (hK1 x gx).1
        have b1 := N1.bd
        have gr : rt ∈ l1 := hGB.2.2.2.1
        refine ww_aload_n C dJ28_treeify_46 rfl 1 rfl rfl ?_
        refine gf_J28_45_J28 C dJ28_treeify_47 (Or.inl (hT42.1 x gx)) rfl ?_
        refine ww_astore (lv' := [(5, .ref (nK E x)), (4, va_rf (r9.head?.map (nA E))), (3, .ref (nA E x)), (2, .ref (nA E rt)), (0, .ref (nA E i0)), (1, .ref tb)]) C dJ28_treeify_50 (by decide) rfl (by first | (simp [va_rf_cat]; done) | (simp [va_rf_cat]; simp only [Value.category]; decide)) ?_
        refine ww_aload_n C dJ28_treeify_52 rfl 2 rfl rfl ?_
        refine gf_J28_15_J28 C dJ28_treeify_53 (Or.inl (hT42.1 x gx)) rfl ?_
        refine ww_istore (lv' := [(6, .int (nH E x)), (5, .ref (nK E x)), (4, va_rf (r9.head?.map (nA E))), (3, .ref (nA E x)), (2, .ref (nA E rt)), (0, .ref (nA E i0)), (1, .ref tb)]) C dJ28_treeify_56 (by decide) rfl ?_
        refine ww_null C dJ28_treeify_58 ?_
        refine ww_astore (lv' := [(7, .null), (6, .int (nH E x)), (5, .ref (nK E x)), (4, va_rf (r9.head?.map (nA E))), (3, .ref (nA E x)), (2, .ref (nA E rt)), (0, .ref (nA E i0)), (1, .ref tb)]) C dJ28_treeify_59 (by decide) rfl rfl ?_
        refine ww_aload_n C dJ28_treeify_61 rfl 5 rfl rfl ?_
        refine ww_astore (lv' := [(8, .ref (nA E rt)), (7, .null), (6, .int (nH E x)), (5, .ref (nK E x)), (4, va_rf (r9.head?.map (nA E))), (3, .ref (nA E x)), (2, .ref (nA E rt)), (0, .ref (nA E i0)), (1, .ref tb)]) C dJ28_treeify_62 (by decide) rfl rfl ?_
        have key2 : ∀ (fu q : Nat) (kc : Option Nat), (D1 q).length < fu → q ∈ l1 → (kc = none ∨ kc = some (gE (xG X) 3001)) → TrQ (inL l1) (ltN (nH E) (txN tm tu)) p42 D1 x q → WW X (TfP (xG X) z h lst (ltN (nH E) (txN tm tu)) E tb nt b T0) z h42 0 0 64 [(8, .ref (nA E q)), (7, va_rf kc), (6, .int (nH E x)), (5, .ref (nK E x)), (4, va_rf (r9.head?.map (nA E))), (3, .ref (nA E x)), (2, .ref (nA E rt)), (0, .ref (nA E i0)), (1, .ref tb)] [] := by
          intro fu
          induction fu with
          | zero => intro q kc hq; omega
          | succ fu ih2 =>
            intro q kc hfu gq hkc hQ
            have gq2 := hl1s q gq
            obtain ⟨N2, hH2⟩ := hK1 q gq2
            have b2 := N2.bd
            have nqx : q ≠ x := fun e => hx1 (by rw [← e]; exact gq)
            have K143 : ∀ (dir : Int32) (kc : Option Nat), (kc = none ∨ kc = some (gE (xG X) 3001)) → ((¬ 0 < dir ∧ (ltN (nH E) (txN tm tu)) x q) ∨ (0 < dir ∧ (ltN (nH E) (txN tm tu)) q x)) → WW X (TfP (xG X) z h lst (ltN (nH E) (txN tm tu)) E tb nt b T0) z h42 0 0 143 [(9, .int dir), (8, .ref (nA E q)), (7, va_rf kc), (6, .int (nH E x)), (5, .ref (nK E x)), (4, va_rf (r9.head?.map (nA E))), (3, .ref (nA E x)), (2, .ref (nA E rt)), (0, .ref (nA E i0)), (1, .ref tb)] [] := by
              intro dir kc hkc hd9
              refine ww_aload C dJ28_treeify_143 1 rfl rfl ?_
              refine ww_astore (lv' := [(12, .ref (nA E q)), (9, .int dir), (8, .ref (nA E q)), (7, va_rf kc), (6, .int (nH E x)), (5, .ref (nK E x)), (4, va_rf (r9.head?.map (nA E))), (3, .ref (nA E x)), (2, .ref (nA E rt)), (0, .ref (nA E i0)), (1, .ref tb)]) C dJ28_treeify_145 (by decide) rfl rfl ?_
              refine ww_iload C dJ28_treeify_147 1 rfl ?_
              refine ww_if_gt (tgt := 160) C dJ28_treeify_149 (by decide) (fun c_149 => ?_) (fun c_149 => ?_)
              · skip
                have hlt : (ltN (nH E) (txN tm tu)) q x := by rcases hd9 with g | g; { exact absurd c_149 g.1 }; { exact g.2 }
                refine ww_aload C dJ28_treeify_160 2 rfl rfl ?_
                refine gf_J28_42_J28 C dJ28_treeify_162 (Or.inl (hT42.1 q gq2)) rfl ?_
                refine ww_dup C dJ28_treeify_165 (va_rf_cat _) ?_
                refine ww_astore (lv' := [(8, va_rf ((p42 3 q).map (nA E))), (12, .ref (nA E q)), (9, .int dir), (7, va_rf kc), (6, .int (nH E x)), (5, .ref (nK E x)), (4, va_rf (r9.head?.map (nA E))), (3, .ref (nA E x)), (2, .ref (nA E rt)), (0, .ref (nA E i0)), (1, .ref tb)]) C dJ28_treeify_166 (by decide) (va_rf_isRef _) (by first | (simp [va_rf_cat]; done) | (simp [va_rf_cat]; simp only [Value.category]; decide)) ?_
                rcases h_c : p42 3 q with _ | c
                · skip
                  show WW X (TfP (xG X) z h lst (ltN (nH E) (txN tm tu)) E tb nt b T0) z h42 0 0 168 [(8, .null), (12, .ref (nA E q)), (9, .int dir), (7, va_rf kc), (6, .int (nH E x)), (5, .ref (nK E x)), (4, va_rf (r9.head?.map (nA E))), (3, .ref (nA E x)), (2, .ref (nA E rt)), (0, .ref (nA E i0)), (1, .ref tb)] [.null]
                  refine ww_ifnonnull_f C dJ28_treeify_168 ?_
                  refine ww_aload_n C dJ28_treeify_171 rfl 7 rfl rfl ?_
                  refine ww_aload C dJ28_treeify_172 1 rfl rfl ?_
                  refine pf_J28_9_J28 (fs' := [.null, .null, .int (nH E x), .ref (nK E x), .ref (nV E x), va_rf ((p42 0 x).map (nA E)), .ref (nA E q), va_rf ((p42 2 x).map (nA E)), va_rf ((p42 3 x).map (nA E)), va_rf ((p42 4 x).map (nA E)), .int (bI (rd1 x))]) C dJ28_treeify_174 (hT42.1 x gx) rfl rfl (Nat.le_of_ble_eq_true rfl) rfl ?_
                  refine ww_gen (fun h45 hE45 => ?_)
                  obtain ⟨p45, ep45⟩ : ∃ Q9, Q9 = pst p42 1 x (some q) := ⟨_, rfl⟩
                  have hT45 : TnH h45 (inL lst) E p45 rd1 := by rw [ep45, hE45]; exact hT42.p1 (o := (some q)) gx
                  have hF45 : FrT (inL lst) E h h45 := by rw [hE45]; exact hF42.put gx
                  refine ww_iload C dJ28_treeify_177 2 rfl ?_
                  refine ww_if_gt_t (tgt := 191) C dJ28_treeify_179 (by decide) (by first | exact c_149 | exact Int32.not_lt.mpr c_149) ?_
                  refine ww_aload C dJ28_treeify_191 1 rfl rfl ?_
                  refine ww_aload_n C dJ28_treeify_193 rfl 7 rfl rfl ?_
                  refine pf_J28_42_J28 (fs' := [.null, .null, .int (nH E q), .ref (nK E q), .ref (nV E q), va_rf ((p45 0 q).map (nA E)), va_rf ((p45 1 q).map (nA E)), va_rf ((p45 2 q).map (nA E)), .ref (nA E x), va_rf ((p45 4 q).map (nA E)), .int (bI (rd1 q))]) C dJ28_treeify_194 (hT45.1 q gq2) rfl rfl (Nat.le_of_ble_eq_true rfl) rfl ?_
                  refine ww_gen (fun h46 hE46 => ?_)
                  obtain ⟨p46, ep46⟩ : ∃ Q9, Q9 = pst p45 3 q (some x) := ⟨_, rfl⟩
                  have hT46 : TnH h46 (inL lst) E p46 rd1 := by rw [ep46, hE46]; exact hT45.p3 (o := (some x)) gq2
                  have hF46 : FrT (inL lst) E h h46 := by rw [hE46]; exact hF45.put gq2
                  obtain ⟨D9, hG9⟩ : ∃ D9, TrG (inL (l1 ++ [x])) (ltN (nH E) (txN tm tu)) p46 D9 rt := ⟨_, by rw [← insG_L]; exact (hGB.ir hx1 gq h_c x23.1 x23.2 hlt hQ).cg (fun f9 i _ h9 => by rw [ep46, ep45]; rcases h9 with rfl | rfl | rfl <;> simp [pst])⟩
                  have hsub : ∀ i, i ∈ l1 ++ [x] → i ∈ lst := fun i hi => by rw [hl12b]; exact List.mem_append_left _ hi
                  have hs9 : ∀ i f, f = 0 ∨ f = 4 → p46 f i = p f i := fun i f h9 => by rw [ep46, ep45, pst_f (by omega), pst_f (by omega)]; exact hsB i f h9
                  refine ww_aload_n C dJ28_treeify_197 rfl 8 rfl rfl ?_
                  refine ww_aload_n C dJ28_treeify_198 rfl 7 rfl rfl ?_
                  refine cs_J28_100_q (As := [.ref (nA E rt), .ref (nA E x)]) (rest := []) C dJ28_treeify_199 (ct_J28_balanceInsertion (Cx.fl C) (Cx.ok C) ltN_o (hT46.sub hsub) hG9 (show x ∈ l1 ++ [x] by simp)) rfl rfl (Nat.le_of_ble_eq_true rfl) (by decide) (Nat.zero_le _) (Nat.zero_le _) (fun vv z2 h2 q9 => ?_)
                  obtain ⟨hq2, p8, rd8, D8, rt8, hv, hT8, hG8, hN8, hF8⟩ := q9; subst hv; replace hq2 := hq2.symm; subst hq2
                  refine ww_astore_n (lv' := [(2, .ref (nA E rt8)), (8, .null), (12, .ref (nA E q)), (9, .int dir), (7, va_rf kc), (6, .int (nH E x)), (5, .ref (nK E x)), (4, va_rf (r9.head?.map (nA E))), (3, .ref (nA E x)), (0, .ref (nA E i0)), (1, .ref tb)]) C dJ28_treeify_202 rfl (by decide) rfl rfl ?_
                  refine ww_goto (tgt := 209) C dJ28_treeify_203 (by decide) ?_
                  refine ww_sub [7, 0, 9, 10] rfl ?_
                  exact K209 (some rt8) D8 h2 (mgP (l1 ++ [x]) p46 p8) (mgR (l1 ++ [x]) rd1 rd8) ⟨rt8, rfl, hG8.cg (fun f9 i gi _ => mgP_i gi)⟩ (TnH.mg hT46 hsub hT8 hF8) (fun i f h9 => by
                    by_cases e9 : i ∈ l1 ++ [x]
                    · rw [mgP_i e9, ← hs9 i f h9]; rcases h9 with rfl | rfl; { exact (hN8 i).1 }; { exact (hN8 i).2 }
                    · rw [mgP_o e9]; exact hs9 i f h9) (hF46.tr (hF8.sub hsub))
                · skip
                  show WW X (TfP (xG X) z h lst (ltN (nH E) (txN tm tu)) E tb nt b T0) z h42 0 0 168 [(8, .ref (nA E c)), (12, .ref (nA E q)), (9, .int dir), (7, va_rf kc), (6, .int (nH E x)), (5, .ref (nK E x)), (4, va_rf (r9.head?.map (nA E))), (3, .ref (nA E x)), (2, .ref (nA E rt)), (0, .ref (nA E i0)), (1, .ref tb)] [.ref (nA E c)]
                  have hc := hGB.2.1 q c gq (Or.inr h_c)
                  have hlc := hGB.len gq (Or.inr h_c)
                  refine ww_ifnonnull_t (tgt := 206) C dJ28_treeify_168 (by decide) ?_
                  refine ww_goto (tgt := 64) C dJ28_treeify_206 (by decide) ?_
                  refine ww_sub [0, 3, 4, 5, 6, 7, 8, 9, 10] rfl ?_
                  exact ih2 c kc (by omega) hc.1 hkc (hGB.qs ltN_o hQ gq (Or.inr ⟨h_c, hlt⟩))
              · skip
                have hlt : (ltN (nH E) (txN tm tu)) x q := by rcases hd9 with g | g; { exact g.2 }; { exact absurd g.1 (by first | exact c_149 | exact Int32.not_lt.mpr c_149) }
                refine ww_aload C dJ28_treeify_152 2 rfl rfl ?_
                refine gf_J28_39_J28 C dJ28_treeify_154 (Or.inl (hT42.1 q gq2)) rfl ?_
                refine ww_goto (tgt := 165) C dJ28_treeify_157 (by decide) ?_
                refine ww_dup C dJ28_treeify_165 (va_rf_cat _) ?_
                refine ww_astore (lv' := [(8, va_rf ((p42 2 q).map (nA E))), (12, .ref (nA E q)), (9, .int dir), (7, va_rf kc), (6, .int (nH E x)), (5, .ref (nK E x)), (4, va_rf (r9.head?.map (nA E))), (3, .ref (nA E x)), (2, .ref (nA E rt)), (0, .ref (nA E i0)), (1, .ref tb)]) C dJ28_treeify_166 (by decide) (va_rf_isRef _) (by first | (simp [va_rf_cat]; done) | (simp [va_rf_cat]; simp only [Value.category]; decide)) ?_
                rcases h_c : p42 2 q with _ | c
                · skip
                  show WW X (TfP (xG X) z h lst (ltN (nH E) (txN tm tu)) E tb nt b T0) z h42 0 0 168 [(8, .null), (12, .ref (nA E q)), (9, .int dir), (7, va_rf kc), (6, .int (nH E x)), (5, .ref (nK E x)), (4, va_rf (r9.head?.map (nA E))), (3, .ref (nA E x)), (2, .ref (nA E rt)), (0, .ref (nA E i0)), (1, .ref tb)] [.null]
                  refine ww_ifnonnull_f C dJ28_treeify_168 ?_
                  refine ww_aload_n C dJ28_treeify_171 rfl 7 rfl rfl ?_
                  refine ww_aload C dJ28_treeify_172 1 rfl rfl ?_
                  refine pf_J28_9_J28 (fs' := [.null, .null, .int (nH E x), .ref (nK E x), .ref (nV E x), va_rf ((p42 0 x).map (nA E)), .ref (nA E q), va_rf ((p42 2 x).map (nA E)), va_rf ((p42 3 x).map (nA E)), va_rf ((p42 4 x).map (nA E)), .int (bI (rd1 x))]) C dJ28_treeify_174 (hT42.1 x gx) rfl rfl (Nat.le_of_ble_eq_true rfl) rfl ?_
                  refine ww_gen (fun h47 hE47 => ?_)
                  obtain ⟨p47, ep47⟩ : ∃ Q9, Q9 = pst p42 1 x (some q) := ⟨_, rfl⟩
                  have hT47 : TnH h47 (inL lst) E p47 rd1 := by rw [ep47, hE47]; exact hT42.p1 (o := (some q)) gx
                  have hF47 : FrT (inL lst) E h h47 := by rw [hE47]; exact hF42.put gx
                  refine ww_iload C dJ28_treeify_177 2 rfl ?_
                  refine ww_if_gt_f (tgt := 191) C dJ28_treeify_179 (by decide) (by first | exact c_149 | exact Int32.not_lt.mpr c_149) ?_
                  refine ww_aload C dJ28_treeify_182 1 rfl rfl ?_
                  refine ww_aload_n C dJ28_treeify_184 rfl 7 rfl rfl ?_
                  refine pf_J28_39_J28 (fs' := [.null, .null, .int (nH E q), .ref (nK E q), .ref (nV E q), va_rf ((p47 0 q).map (nA E)), va_rf ((p47 1 q).map (nA E)), .ref (nA E x), va_rf ((p47 3 q).map (nA E)), va_rf ((p47 4 q).map (nA E)), .int (bI (rd1 q))]) C dJ28_treeify_185 (hT47.1 q gq2) rfl rfl (Nat.le_of_ble_eq_true rfl) rfl ?_
                  refine ww_gen (fun h48 hE48 => ?_)
                  obtain ⟨p48, ep48⟩ : ∃ Q9, Q9 = pst p47 2 q (some x) := ⟨_, rfl⟩
                  have hT48 : TnH h48 (inL lst) E p48 rd1 := by rw [ep48, hE48]; exact hT47.p2 (o := (some x)) gq2
                  have hF48 : FrT (inL lst) E h h48 := by rw [hE48]; exact hF47.put gq2
                  obtain ⟨D9, hG9⟩ : ∃ D9, TrG (inL (l1 ++ [x])) (ltN (nH E) (txN tm tu)) p48 D9 rt := ⟨_, by rw [← insG_L]; exact (hGB.il hx1 gq h_c x23.1 x23.2 hlt hQ).cg (fun f9 i _ h9 => by rw [ep48, ep47]; rcases h9 with rfl | rfl | rfl <;> simp [pst])⟩
                  have hsub : ∀ i, i ∈ l1 ++ [x] → i ∈ lst := fun i hi => by rw [hl12b]; exact List.mem_append_left _ hi
                  have hs9 : ∀ i f, f = 0 ∨ f = 4 → p48 f i = p f i := fun i f h9 => by rw [ep48, ep47, pst_f (by omega), pst_f (by omega)]; exact hsB i f h9
                  refine ww_goto (tgt := 197) C dJ28_treeify_188 (by decide) ?_
                  refine ww_aload_n C dJ28_treeify_197 rfl 8 rfl rfl ?_
                  refine ww_aload_n C dJ28_treeify_198 rfl 7 rfl rfl ?_
                  refine cs_J28_100_q (As := [.ref (nA E rt), .ref (nA E x)]) (rest := []) C dJ28_treeify_199 (ct_J28_balanceInsertion (Cx.fl C) (Cx.ok C) ltN_o (hT48.sub hsub) hG9 (show x ∈ l1 ++ [x] by simp)) rfl rfl (Nat.le_of_ble_eq_true rfl) (by decide) (Nat.zero_le _) (Nat.zero_le _) (fun vv z2 h2 q9 => ?_)
                  obtain ⟨hq2, p8, rd8, D8, rt8, hv, hT8, hG8, hN8, hF8⟩ := q9; subst hv; replace hq2 := hq2.symm; subst hq2
                  refine ww_astore_n (lv' := [(2, .ref (nA E rt8)), (8, .null), (12, .ref (nA E q)), (9, .int dir), (7, va_rf kc), (6, .int (nH E x)), (5, .ref (nK E x)), (4, va_rf (r9.head?.map (nA E))), (3, .ref (nA E x)), (0, .ref (nA E i0)), (1, .ref tb)]) C dJ28_treeify_202 rfl (by decide) rfl rfl ?_
                  refine ww_goto (tgt := 209) C dJ28_treeify_203 (by decide) ?_
                  refine ww_sub [7, 0, 9, 10] rfl ?_
                  exact K209 (some rt8) D8 h2 (mgP (l1 ++ [x]) p48 p8) (mgR (l1 ++ [x]) rd1 rd8) ⟨rt8, rfl, hG8.cg (fun f9 i gi _ => mgP_i gi)⟩ (TnH.mg hT48 hsub hT8 hF8) (fun i f h9 => by
                    by_cases e9 : i ∈ l1 ++ [x]
                    · rw [mgP_i e9, ← hs9 i f h9]; rcases h9 with rfl | rfl; { exact (hN8 i).1 }; { exact (hN8 i).2 }
                    · rw [mgP_o e9]; exact hs9 i f h9) (hF48.tr (hF8.sub hsub))
                · skip
                  show WW X (TfP (xG X) z h lst (ltN (nH E) (txN tm tu)) E tb nt b T0) z h42 0 0 168 [(8, .ref (nA E c)), (12, .ref (nA E q)), (9, .int dir), (7, va_rf kc), (6, .int (nH E x)), (5, .ref (nK E x)), (4, va_rf (r9.head?.map (nA E))), (3, .ref (nA E x)), (2, .ref (nA E rt)), (0, .ref (nA E i0)), (1, .ref tb)] [.ref (nA E c)]
                  have hc := hGB.2.1 q c gq (Or.inl h_c)
                  have hlc := hGB.len gq (Or.inl h_c)
                  refine ww_ifnonnull_t (tgt := 206) C dJ28_treeify_168 (by decide) ?_
                  refine ww_goto (tgt := 64) C dJ28_treeify_206 (by decide) ?_
                  refine ww_sub [0, 3, 4, 5, 6, 7, 8, 9, 10] rfl ?_
                  exact ih2 c kc (by omega) hc.1 hkc (hGB.qs ltN_o hQ gq (Or.inl ⟨h_c, hlt⟩))
            refine ww_aload C dJ28_treeify_64 0 rfl rfl ?_
            refine gf_J28_45_J28 C dJ28_treeify_66 (Or.inl (hT42.1 q gq2)) rfl ?_
            refine ww_astore (lv' := [(11, .ref (nK E q)), (8, .ref (nA E q)), (7, va_rf kc), (6, .int (nH E x)), (5, .ref (nK E x)), (4, va_rf (r9.head?.map (nA E))), (3, .ref (nA E x)), (2, .ref (nA E rt)), (0, .ref (nA E i0)), (1, .ref tb)]) C dJ28_treeify_69 (by decide) rfl rfl ?_
            refine ww_aload C dJ28_treeify_71 1 rfl rfl ?_
            refine gf_J28_15_J28 C dJ28_treeify_73 (Or.inl (hT42.1 q gq2)) rfl ?_
            refine ww_dup C dJ28_treeify_76 rfl ?_
            refine ww_istore (lv' := [(10, .int (nH E q)), (11, .ref (nK E q)), (8, .ref (nA E q)), (7, va_rf kc), (6, .int (nH E x)), (5, .ref (nK E x)), (4, va_rf (r9.head?.map (nA E))), (3, .ref (nA E x)), (2, .ref (nA E rt)), (0, .ref (nA E i0)), (1, .ref tb)]) C dJ28_treeify_77 (by decide) rfl ?_
            refine ww_iload C dJ28_treeify_79 4 rfl ?_
            refine ww_icmp_le (tgt := 90) C dJ28_treeify_81 (by decide) (fun c_81 => ?_) (fun c_81 => ?_)
            · skip
              refine ww_iload C dJ28_treeify_90 0 rfl ?_
              refine ww_iload C dJ28_treeify_92 4 rfl ?_
              refine ww_icmp_ge (tgt := 103) C dJ28_treeify_94 (by decide) (fun c_94 => ?_) (fun c_94 => ?_)
              · skip
                have heq : nH E q = nH E x := i32_tri c_81 c_94
                have hne : tlU (tm q) (tu q) ≠ tlU (tm x) (tu x) := hdt q x gq2 gx nqx
                have hcm := cmU_lt (u := tu x) (v := tu q) (m := tm x) (m2 := tm q) b1.1 b2.1 b1.2 b2.2
                have hnz : cmU (tu x) (tm x) (tu q) (tm q) ≠ 0 := fun e9 => hne (hcm.2.mp e9).symm
                have hdir : (¬ 0 < cmU (tu x) (tm x) (tu q) (tm q) ∧ (ltN (nH E) (txN tm tu)) x q) ∨ (0 < cmU (tu x) (tm x) (tu q) (tm q) ∧ (ltN (nH E) (txN tm tu)) q x) := by
                  by_cases h0 : cmU (tu x) (tm x) (tu q) (tm q) < 0
                  · exact Or.inl ⟨fun g => by rw [Int32.lt_iff_toInt_lt] at g h0; omega, Or.inr ⟨heq.symm, hcm.1.mp h0⟩⟩
                  · exact Or.inr ⟨pos_of hnz h0, Or.inr ⟨heq, tl_tri (fun g => h0 (hcm.1.mpr g)) (fun g => hne g.symm)⟩⟩
                refine ww_aload C dJ28_treeify_103 3 rfl (va_rf_isRef _) ?_
                rcases hkc with hk0 | hk0
                · skip
                  subst hk0
                  show WW X (TfP (xG X) z h lst (ltN (nH E) (txN tm tu)) E tb nt b T0) z h42 0 0 105 [(10, .int (nH E q)), (11, .ref (nK E q)), (8, .ref (nA E q)), (7, .null), (6, .int (nH E x)), (5, .ref (nK E x)), (4, va_rf (r9.head?.map (nA E))), (3, .ref (nA E x)), (2, .ref (nA E rt)), (0, .ref (nA E i0)), (1, .ref tb)] [.null]
                  refine ww_ifnonnull_f C dJ28_treeify_105 ?_
                  refine ww_aload C dJ28_treeify_108 5 rfl rfl ?_
                  refine cs_J28_55_r (As := [.ref (nK E x)]) (rest := []) C dJ28_treeify_110 (ct_J22_comparableClassFor (Cx.fl C) (Cx.ok C) N1) rfl rfl (Nat.le_of_ble_eq_true rfl) (by decide) (Nat.zero_le _) (Nat.zero_le _) ?_
                  refine ww_dup C dJ28_treeify_113 rfl ?_
                  refine ww_astore (lv' := [(7, .ref (gE (xG X) 3001)), (10, .int (nH E q)), (11, .ref (nK E q)), (8, .ref (nA E q)), (6, .int (nH E x)), (5, .ref (nK E x)), (4, va_rf (r9.head?.map (nA E))), (3, .ref (nA E x)), (2, .ref (nA E rt)), (0, .ref (nA E i0)), (1, .ref tb)]) C dJ28_treeify_114 (by decide) rfl rfl ?_
                  refine ww_ifnull_f C dJ28_treeify_116 ?_
                  refine ww_aload C dJ28_treeify_119 0 rfl rfl ?_
                  refine ww_aload C dJ28_treeify_121 5 rfl rfl ?_
                  refine ww_aload C dJ28_treeify_123 2 rfl rfl ?_
                  refine cs_J28_59_r (As := [.ref (gE (xG X) 3001), .ref (nK E x), .ref (nK E q)]) (rest := []) C dJ28_treeify_125 (ct_J22_compareComparables (Cx.fl C) (Cx.ok C) N1 N2) rfl rfl (Nat.le_of_ble_eq_true rfl) (by decide) (Nat.zero_le _) (Nat.zero_le _) ?_
                  refine ww_dup C dJ28_treeify_128 rfl ?_
                  refine ww_istore (lv' := [(9, .int (cmU (tu x) (tm x) (tu q) (tm q))), (7, .ref (gE (xG X) 3001)), (10, .int (nH E q)), (11, .ref (nK E q)), (8, .ref (nA E q)), (6, .int (nH E x)), (5, .ref (nK E x)), (4, va_rf (r9.head?.map (nA E))), (3, .ref (nA E x)), (2, .ref (nA E rt)), (0, .ref (nA E i0)), (1, .ref tb)]) C dJ28_treeify_129 (by decide) rfl ?_
                  refine ww_if_ne_t (tgt := 143) C dJ28_treeify_131 (by decide) hnz ?_
                  refine ww_sub [0, 4, 1, 5, 6, 7, 8, 9, 10, 11] rfl ?_
                  exact K143 _ (some (gE (xG X) 3001)) (Or.inr rfl) hdir
                · skip
                  subst hk0
                  show WW X (TfP (xG X) z h lst (ltN (nH E) (txN tm tu)) E tb nt b T0) z h42 0 0 105 [(10, .int (nH E q)), (11, .ref (nK E q)), (8, .ref (nA E q)), (7, .ref (gE (xG X) 3001)), (6, .int (nH E x)), (5, .ref (nK E x)), (4, va_rf (r9.head?.map (nA E))), (3, .ref (nA E x)), (2, .ref (nA E rt)), (0, .ref (nA E i0)), (1, .ref tb)] [.ref (gE (xG X) 3001)]
                  refine ww_ifnonnull_t (tgt := 119) C dJ28_treeify_105 (by decide) ?_
                  refine ww_aload C dJ28_treeify_119 3 rfl rfl ?_
                  refine ww_aload C dJ28_treeify_121 5 rfl rfl ?_
                  refine ww_aload C dJ28_treeify_123 1 rfl rfl ?_
                  refine cs_J28_59_r (As := [.ref (gE (xG X) 3001), .ref (nK E x), .ref (nK E q)]) (rest := []) C dJ28_treeify_125 (ct_J22_compareComparables (Cx.fl C) (Cx.ok C) N1 N2) rfl rfl (Nat.le_of_ble_eq_true rfl) (by decide) (Nat.zero_le _) (Nat.zero_le _) ?_
                  refine ww_dup C dJ28_treeify_128 rfl ?_
                  refine ww_istore (lv' := [(9, .int (cmU (tu x) (tm x) (tu q) (tm q))), (10, .int (nH E q)), (11, .ref (nK E q)), (8, .ref (nA E q)), (7, .ref (gE (xG X) 3001)), (6, .int (nH E x)), (5, .ref (nK E x)), (4, va_rf (r9.head?.map (nA E))), (3, .ref (nA E x)), (2, .ref (nA E rt)), (0, .ref (nA E i0)), (1, .ref tb)]) C dJ28_treeify_129 (by decide) rfl ?_
                  refine ww_if_ne_t (tgt := 143) C dJ28_treeify_131 (by decide) hnz ?_
                  refine ww_sub [0, 3, 4, 5, 6, 7, 8, 9, 10, 11] rfl ?_
                  exact K143 _ (some (gE (xG X) 3001)) (Or.inr rfl) hdir
              · skip
                refine ww_iconst C dJ28_treeify_97 cI_1 ?_
                refine ww_istore (lv' := [(9, .int (nI 1)), (10, .int (nH E q)), (11, .ref (nK E q)), (8, .ref (nA E q)), (7, va_rf kc), (6, .int (nH E x)), (5, .ref (nK E x)), (4, va_rf (r9.head?.map (nA E))), (3, .ref (nA E x)), (2, .ref (nA E rt)), (0, .ref (nA E i0)), (1, .ref tb)]) C dJ28_treeify_98 (by decide) rfl ?_
                refine ww_goto (tgt := 143) C dJ28_treeify_100 (by decide) ?_
                refine ww_sub [0, 3, 4, 5, 6, 7, 8, 9, 10, 11] rfl ?_
                exact K143 _ kc hkc (Or.inr ⟨by decide, Or.inl (by first | exact c_94 | exact i32_lt c_94)⟩)
            · skip
              refine ww_iconst C dJ28_treeify_84 cI_m1 ?_
              refine ww_istore (lv' := [(9, .int (-1)), (10, .int (nH E q)), (11, .ref (nK E q)), (8, .ref (nA E q)), (7, va_rf kc), (6, .int (nH E x)), (5, .ref (nK E x)), (4, va_rf (r9.head?.map (nA E))), (3, .ref (nA E x)), (2, .ref (nA E rt)), (0, .ref (nA E i0)), (1, .ref tb)]) C dJ28_treeify_85 (by decide) rfl ?_
              refine ww_goto (tgt := 143) C dJ28_treeify_87 (by decide) ?_
              refine ww_sub [0, 3, 4, 5, 6, 7, 8, 9, 10, 11] rfl ?_
              exact K143 _ kc hkc (Or.inl ⟨by decide, Or.inl (by first | exact c_81 | exact i32_lt c_81)⟩)
        exact key2 _ rt none (Nat.lt_succ_self _) gr (Or.inl rfl) hGB.q0
  refine ww_lv (lv' := [(3, va_rf (lst.head?.map (nA E))), (2, va_rf ((none : Option Nat).map (nA E))), (0, .ref (nA E i0)), (1, .ref tb)]) (by rw [hls]; rfl) ?_
  exact key lst [] none (fun _ => []) h p rd rfl (Or.inl ⟨rfl, rfl⟩) hT (fun _ _ _ => rfl) hF
end TFY
