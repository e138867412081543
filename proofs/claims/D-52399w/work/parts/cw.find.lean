section FIND0
set_option maxRecDepth 100000
/-- the keys of the nodes G: names, with their hashes -/
def NkH (Γ : Gm) (z : ZR) (h : AH) (G : Nat → Prop) (E : ND) (tm : Nat → Nat) (tu : Nat → Nat → Nat) : Prop := ∀ i, G i → NmS Γ z h (nK E i) (tm i) (tu i) ∧ nH E i = hsK (tu i) (tm i)
abbrev txN (tm : Nat → Nat) (tu : Nat → Nat → Nat) : Nat → List Nat := fun i => tlU (tm i) (tu i)
theorem NmS.uq {Γ : Gm} {z : ZR} {h : AH} {s m m2 : Nat} {u v : Nat → Nat} (a : NmS Γ z h s m u) (b : NmS Γ z h s m2 v) : m = m2 ∧ ∀ i, i < m → u i = v i := by
  obtain ⟨w, x, y, f, a1, a2, a3, a4, -⟩ := a
  obtain ⟨w', x', y', f', b1, b2, b3, b4, -⟩ := b
  have e1 := Option.some.inj (a1.symm.trans b1)
  simp at e1
  obtain ⟨rfl, -, -⟩ := e1
  have e2 := Option.some.inj (a2.symm.trans b2)
  simp at e2
  obtain ⟨rfl, rfl⟩ := e2
  refine ⟨rfl, fun i hi => ?_⟩
  have := (a4 i hi).1.symm.trans (b4 i hi).1
  exact (bs_eq (a4 i hi).2 (b4 i hi).2).mp this
theorem NmS.bd {Γ : Gm} {z : ZR} {h : AH} {s m : Nat} {u : Nat → Nat} (a : NmS Γ z h s m u) : m ≤ 10 ∧ ∀ i, i < m → u i < 256 := by
  obtain ⟨w, x, y, f, a1, a2, a3, a4, -⟩ := a
  exact ⟨a3, fun i hi => (a4 i hi).2⟩
theorem hsU_ext {u v : Nat → Nat} : ∀ m, (∀ i, i < m → u i = v i) → hsU u m = hsU v m
  | 0, _ => rfl
  | m + 1, h => by
    show nI 31 * hsU u m + nI (u m) = nI 31 * hsU v m + nI (v m)
    rw [hsU_ext m (fun i hi => h i (by omega)), h m (by omega)]
theorem hsK_ext {u v : Nat → Nat} {m m2 : Nat} (h : tlU m u = tlU m2 v) : hsK u m = hsK v m2 := by
  obtain ⟨rfl, h2⟩ := tlU_eq.mp h
  unfold hsK
  rw [hsU_ext m h2]
theorem eqU_tl {u v : Nat → Nat} {m m2 : Nat} : eqU u v m m2 = true ↔ tlU m u = tlU m2 v := by rw [eqU_iff, tlU_eq]
theorem FrT.sk {Γ : Gm} {h h' : AH} {G : Nat → Prop} {E : ND} {p : PT} {rd : Nat → Bool} (hF : FrT G E h h') (hT : TnH h G E p rd) : StK Γ h h' :=
  ⟨fun s fs hq => hF s _ hq (fun i hi => ne_ob hq (hT.1 i hi) (by simp [cTn])), fun w m f hq => hF w _ hq (fun i hi => ne_ob hq (hT.1 i hi) (by simp [cTn]))⟩
theorem NkH.sk {Γ : Gm} {z z' : ZR} {h h' : AH} {G : Nat → Prop} {E : ND} {tm : Nat → Nat} {tu : Nat → Nat → Nat} (a : NkH Γ z h G E tm tu) (hk : StK Γ h h') : NkH Γ z' h' G E tm tu := fun i hi => ⟨(a i hi).1.sk hk, (a i hi).2⟩
theorem i32_tri {a b : Int32} (h1 : a ≤ b) (h2 : b ≤ a) : a = b := by
  rw [Int32.le_iff_toInt_le] at h1 h2
  apply Int32.toInt_inj.mp
  omega
theorem i32_lt {a b : Int32} (h : ¬ a ≤ b) : b < a := by
  rw [Int32.le_iff_toInt_le] at h
  rw [Int32.lt_iff_toInt_lt]
  omega
theorem go_l {G : Nat → Prop} {H : Nat → Int32} {tx : Nat → List Nat} {p : PT} {D : Nat → List Nat} {rt q i : Nat} {hv : Int32} (h : TrG G (ltN H tx) p D rt) (hq : G q) (hi : i ∈ D q) (he : H i = hv) (hn : ¬ H q ≤ hv) : i ∈ dO D (p 2 q) := by
  rcases h.go hq hi with e | e | e
  · exact absurd (by rw [← e, he]; exact Int32.le_refl _) hn
  · exact e.1
  · exfalso
    rcases e.2 with g | g
    · apply hn; rw [← he]; rw [Int32.lt_iff_toInt_lt] at g; rw [Int32.le_iff_toInt_le]; omega
    · apply hn; rw [← he, g.1]; exact Int32.le_refl _
theorem go_r {G : Nat → Prop} {H : Nat → Int32} {tx : Nat → List Nat} {p : PT} {D : Nat → List Nat} {rt q i : Nat} {hv : Int32} (h : TrG G (ltN H tx) p D rt) (hq : G q) (hi : i ∈ D q) (he : H i = hv) (hn : ¬ hv ≤ H q) : i ∈ dO D (p 3 q) := by
  rcases h.go hq hi with e | e | e
  · exact absurd (by rw [← he, e]; exact Int32.le_refl _) hn
  · exfalso
    rcases e.2 with g | g
    · apply hn; rw [← he]; rw [Int32.lt_iff_toInt_lt] at g; rw [Int32.le_iff_toInt_le]; omega
    · apply hn; rw [← he, g.1]; exact Int32.le_refl _
  · exact e.1
theorem go_e {G : Nat → Prop} {H : Nat → Int32} {tx : Nat → List Nat} {p : PT} {D : Nat → List Nat} {rt q i : Nat} (h : TrG G (ltN H tx) p D rt) (hq : G q) (hi : i ∈ D q) (he : H i = H q) (hne : i ≠ q) : (tx i < tx q → i ∈ dO D (p 2 q)) ∧ (¬ tx i < tx q → i ∈ dO D (p 3 q)) := by
  have nl : ∀ x : Int32, ¬ x < x := fun x g => by rw [Int32.lt_iff_toInt_lt] at g; omega
  rcases h.go hq hi with e | e | e
  · exact absurd e hne
  · refine ⟨fun _ => e.1, fun g => ?_⟩
    rcases e.2 with g2 | g2
    · rw [he] at g2; exact absurd g2 (nl _)
    · exact absurd g2.2 g
  · refine ⟨fun g => ?_, fun _ => e.1⟩
    rcases e.2 with g2 | g2
    · rw [he] at g2; exact absurd g2 (nl _)
    · exact absurd (List.lt_trans g g2.2) (List.lt_irrefl _)
/-- a key was looked for among the nodes G -/
def FdR (G : Nat → Prop) (tm : Nat → Nat) (tu : Nat → Nat → Nat) (m : Nat) (u : Nat → Nat) (r : Option Nat) : Prop := (∀ i, r = some i → G i ∧ tlU (tm i) (tu i) = tlU m u) ∧ (r = none → ∀ i, G i → tlU (tm i) (tu i) ≠ tlU m u)
def FnP (z : ZR) (h : AH) (G : Nat → Prop) (E : ND) (tm : Nat → Nat) (tu : Nat → Nat → Nat) (m : Nat) (u : Nat → Nat) : Oc → ZR → AH → Prop := Rv (fun v z' h' => z' = z ∧ h' = h ∧ ∃ r : Option Nat, v = va_rf (r.map (nA E)) ∧ FdR G tm tu m u r)
end FIND0
section FIND
set_option maxRecDepth 100000
set_option maxHeartbeats 2000000 in
theorem ct_J28_find {l : Launch} {Γ : Gm} (hl : l.flags = flags0) (hΓ : GOK Γ) {z : ZR} {h : AH} {G : Nat → Prop} {E : ND} {p : PT} {rd : Nat → Bool} {D : Nat → List Nat} {rt s m : Nat} {u : Nat → Nat} {tm : Nat → Nat} {tu : Nat → Nat → Nat} (hT : TnH h G E p rd) (hG : TrG G (ltN (nH E) (txN tm tu)) p D rt) (hK : NkH Γ z h G E tm tu) (H1 : NmS Γ z h s m u) : Ct l Γ yJ28_find cJ28_find 11 (some (.object "java/util/HashMap$TreeNode")) 10 0 0 [.ref (nA E rt), .int (hsK u m), .ref s, .null] z h (FnP z h G E tm tu m u) := by
  refine Ct.of hl hΓ (by decide +kernel) (Nat.le_of_ble_eq_true rfl) (fun X e1 e2 C => ?_)
  subst e1; subst e2
  have C : Cx X cJ28_find 11 "java/util/HashMap$TreeNode" "find" (some (.object "java/util/HashMap$TreeNode")) [] 10 := C
  have gr : G rt := hG.2.2.2.1
  have b1 := H1.bd
  show WW X (FnP z h G E tm tu m u) z h 0 0 0 [(0, .ref (nA E rt)), (1, .int (hsK u m)), (2, .ref s), (3, .null)] []
  refine ww_aload_n C dJ28_find_0 rfl 0 rfl rfl ?_
  refine ww_astore (lv' := [(4, .ref (nA E rt)), (0, .ref (nA E rt)), (1, .int (hsK u m)), (2, .ref s), (3, .null)]) C dJ28_find_1 (by decide) rfl rfl ?_
  refine ww_sub [0, 4, 1, 2, 3] rfl ?_
  have key : ∀ (fu q : Nat) (kc : Option Nat), (D q).length < fu → G q → (kc = none ∨ kc = some (gE (xG X) 3001)) → (∀ i, G i → tlU (tm i) (tu i) = tlU m u → i ∈ D q) → WW X (FnP z h G E tm tu m u) z h 0 0 3 [(4, .ref (nA E q)), (3, va_rf kc), (0, .ref (nA E rt)), (1, .int (hsK u m)), (2, .ref s)] [] := by
    intro fu
    induction fu with
    | zero => intro q kc hq; omega
    | succ fu ih =>
      intro q kc hfu gq hkc hin
      obtain ⟨N2, hH2⟩ := hK q gq
      have b2 := N2.bd
      have hHi : ∀ i, G i → tlU (tm i) (tu i) = tlU m u → nH E i = hsK u m := fun i gi e => by rw [(hK i gi).2]; exact hsK_ext e
      have K165 : ∀ (o kc : Option Nat), (p 2 q = o ∨ p 3 q = o) → (kc = none ∨ kc = some (gE (xG X) 3001)) → (∀ i, G i → tlU (tm i) (tu i) = tlU m u → i ∈ dO D o) → WW X (FnP z h G E tm tu m u) z h 0 0 165 [(4, va_rf (o.map (nA E))), (3, va_rf kc), (0, .ref (nA E rt)), (1, .int (hsK u m)), (2, .ref s)] [] := by
        intro o kc ho hkc hin
        cases o with
        | none =>
          show WW X (FnP z h G E tm tu m u) z h 0 0 165 [(4, .null), (3, va_rf kc), (0, .ref (nA E rt)), (1, .int (hsK u m)), (2, .ref s)] []
          refine ww_aload C dJ28_find_165 0 rfl rfl ?_
          refine ww_ifnonnull_f C dJ28_find_167 ?_
          refine ww_null C dJ28_find_170 ?_
          exact ww_aret C (Or.inl ⟨_, rfl⟩) dJ28_find_171 rfl ⟨rfl, rfl, none, rfl, fun i q => (by cases q), fun _ i gi e => by cases hin i gi e⟩
        | some c =>
          have hc := hG.2.1 q c gq (by rcases ho with g | g <;> simp [g])
          have hlc := hG.len gq (j := c) (by rcases ho with g | g <;> simp [g])
          show WW X (FnP z h G E tm tu m u) z h 0 0 165 [(4, .ref (nA E c)), (3, va_rf kc), (0, .ref (nA E rt)), (1, .int (hsK u m)), (2, .ref s)] []
          refine ww_aload C dJ28_find_165 0 rfl rfl ?_
          refine ww_ifnonnull_t (tgt := 3) C dJ28_find_167 (by decide) ?_
          exact ih c kc (by omega) hc.1 hkc hin
      refine ww_aload C dJ28_find_3 0 rfl rfl ?_
      refine gf_J28_39_J28 C dJ28_find_5 (Or.inl (hT.1 q gq)) rfl ?_
      refine ww_astore (lv' := [(8, va_rf ((p 2 q).map (nA E))), (4, .ref (nA E q)), (3, va_rf kc), (0, .ref (nA E rt)), (1, .int (hsK u m)), (2, .ref s)]) C dJ28_find_8 (by decide) (va_rf_isRef _) rfl ?_
      refine ww_aload C dJ28_find_10 1 rfl rfl ?_
      refine gf_J28_42_J28 C dJ28_find_12 (Or.inl (hT.1 q gq)) rfl ?_
      refine ww_astore (lv' := [(9, va_rf ((p 3 q).map (nA E))), (8, va_rf ((p 2 q).map (nA E))), (4, .ref (nA E q)), (3, va_rf kc), (0, .ref (nA E rt)), (1, .int (hsK u m)), (2, .ref s)]) C dJ28_find_15 (by decide) (va_rf_isRef _) (by first | (simp [va_rf_cat]; done) | (simp [va_rf_cat]; simp only [Value.category]; decide)) ?_
      refine ww_aload C dJ28_find_17 2 rfl rfl ?_
      refine gf_J28_15_J28 C dJ28_find_19 (Or.inl (hT.1 q gq)) rfl ?_
      refine ww_dup C dJ28_find_22 rfl ?_
      refine ww_istore (lv' := [(5, .int (nH E q)), (9, va_rf ((p 3 q).map (nA E))), (8, va_rf ((p 2 q).map (nA E))), (4, .ref (nA E q)), (3, va_rf kc), (0, .ref (nA E rt)), (1, .int (hsK u m)), (2, .ref s)]) C dJ28_find_23 (by decide) rfl ?_
      refine ww_iload_n C dJ28_find_25 rfl 6 rfl ?_
      refine ww_icmp_le (tgt := 36) C dJ28_find_26 (by decide) (fun c_26 => ?_) (fun c_26 => ?_)
      · skip
        refine ww_iload C dJ28_find_36 0 rfl ?_
        refine ww_iload_n C dJ28_find_38 rfl 6 rfl ?_
        refine ww_icmp_ge (tgt := 49) C dJ28_find_39 (by decide) (fun c_39 => ?_) (fun c_39 => ?_)
        · skip
          have heq : nH E q = hsK u m := i32_tri c_26 c_39
          refine ww_aload C dJ28_find_49 3 rfl rfl ?_
          refine gf_J28_45_J28 C dJ28_find_51 (Or.inl (hT.1 q gq)) rfl ?_
          refine ww_dup C dJ28_find_54 rfl ?_
          refine ww_astore (lv' := [(7, .ref (nK E q)), (5, .int (nH E q)), (9, va_rf ((p 3 q).map (nA E))), (8, va_rf ((p 2 q).map (nA E))), (4, .ref (nA E q)), (3, va_rf kc), (0, .ref (nA E rt)), (1, .int (hsK u m)), (2, .ref s)]) C dJ28_find_55 (by decide) rfl rfl ?_
          refine ww_aload_n C dJ28_find_57 rfl 8 rfl rfl ?_
          by_cases hsq : nK E q = s
          · skip
            refine ww_acmp_eq_t (rx := (some (nK E q))) (ry := (some s)) (tgt := 74) C dJ28_find_58 (by decide) (by rw [hsq]) ?_
            refine ww_aload C dJ28_find_74 4 rfl rfl ?_
            exact ww_aret C (Or.inl ⟨_, rfl⟩) dJ28_find_76 rfl ⟨rfl, rfl, some q, rfl, fun i e => (by cases e; rw [hsq] at N2; exact ⟨gq, tlU_eq.mpr (N2.uq H1)⟩), fun e => by cases e⟩
          · skip
            refine ww_acmp_eq_f (rx := (some (nK E q))) (ry := (some s)) (tgt := 74) C dJ28_find_58 (by decide) (fun q9 => hsq (Option.some.inj q9)) ?_
            refine ww_aload_n C dJ28_find_61 rfl 8 rfl rfl ?_
            refine ww_ifnull_f C dJ28_find_62 ?_
            refine ww_aload_n C dJ28_find_65 rfl 8 rfl rfl ?_
            refine ww_aload C dJ28_find_66 0 rfl rfl ?_
            refine ca_J28_49_J11_r (As := [.ref (nK E q)]) (rest := []) C dJ28_find_68 (ct_J11_equals (Cx.fl C) (Cx.ok C) H1.su N2.su (fun e9 => absurd e9.symm hsq)) (StU.rc (Cx.ok C) H1.su) rfl rfl (Nat.le_of_ble_eq_true rfl) (by decide) (Nat.zero_le _) (Nat.zero_le _) ?_
            refine ww_if_eq_b (tgt := 77) C dJ28_find_71 (by decide) (fun c_71 => ?_) (fun c_71 => ?_)
            · skip
              have hne : tlU (tm q) (tu q) ≠ tlU m u := fun e9 => by have := eqU_tl.mpr e9.symm; rw [this] at c_71; cases c_71
              have hnq : ∀ i, tlU (tm i) (tu i) = tlU m u → i ≠ q := fun i e9 e8 => hne (by rw [← e8]; exact e9)
              refine ww_aload C dJ28_find_77 3 rfl (va_rf_isRef _) ?_
              rcases h_l : p 2 q with _ | l
              · skip
                show WW X (FnP z h G E tm tu m u) z h 0 0 79 [(7, .ref (nK E q)), (5, .int (nH E q)), (9, va_rf ((p 3 q).map (nA E))), (8, .null), (4, .ref (nA E q)), (3, va_rf kc), (0, .ref (nA E rt)), (1, .int (hsK u m)), (2, .ref s)] [.null]
                refine ww_ifnonnull_f C dJ28_find_79 ?_
                have hin2 : ∀ i, G i → tlU (tm i) (tu i) = tlU m u → i ∈ dO D (p 3 q) := fun i gi e9 => by have := hin i gi e9; rw [hG.1 q gq, h_l, List.mem_append, List.mem_cons] at this; rcases this with g9 | g9 | g9; { cases g9 }; { exact absurd g9 (hnq i e9) }; { exact g9 }
                refine ww_aload C dJ28_find_82 2 rfl (va_rf_isRef _) ?_
                refine ww_astore (lv' := [(4, va_rf ((p 3 q).map (nA E))), (7, .ref (nK E q)), (5, .int (nH E q)), (9, va_rf ((p 3 q).map (nA E))), (8, .null), (3, va_rf kc), (0, .ref (nA E rt)), (1, .int (hsK u m)), (2, .ref s)]) C dJ28_find_84 (by decide) (va_rf_isRef _) (by first | (simp [va_rf_cat]; done) | (simp [va_rf_cat]; simp only [Value.category]; decide)) ?_
                refine ww_goto (tgt := 165) C dJ28_find_86 (by decide) ?_
                refine ww_sub [0, 5, 6, 7, 8] rfl ?_
                exact K165 _ kc (Or.inr rfl) hkc (fun i gi e => hin2 i gi e)
              · skip
                show WW X (FnP z h G E tm tu m u) z h 0 0 79 [(7, .ref (nK E q)), (5, .int (nH E q)), (9, va_rf ((p 3 q).map (nA E))), (8, .ref (nA E l)), (4, .ref (nA E q)), (3, va_rf kc), (0, .ref (nA E rt)), (1, .int (hsK u m)), (2, .ref s)] [.ref (nA E l)]
                refine ww_ifnonnull_t (tgt := 89) C dJ28_find_79 (by decide) ?_
                refine ww_aload C dJ28_find_89 2 rfl (va_rf_isRef _) ?_
                rcases h_r9 : p 3 q with _ | r9
                · skip
                  show WW X (FnP z h G E tm tu m u) z h 0 0 91 [(7, .ref (nK E q)), (5, .int (nH E q)), (9, .null), (8, .ref (nA E l)), (4, .ref (nA E q)), (3, va_rf kc), (0, .ref (nA E rt)), (1, .int (hsK u m)), (2, .ref s)] [.null]
                  refine ww_ifnonnull_f C dJ28_find_91 ?_
                  have hin2 : ∀ i, G i → tlU (tm i) (tu i) = tlU m u → i ∈ dO D (some l) := fun i gi e9 => by have := hin i gi e9; rw [hG.1 q gq, h_l, h_r9, List.mem_append, List.mem_cons] at this; rcases this with g9 | g9 | g9; { exact g9 }; { exact absurd g9 (hnq i e9) }; { cases g9 }
                  refine ww_aload C dJ28_find_94 3 rfl rfl ?_
                  refine ww_astore (lv' := [(4, .ref (nA E l)), (7, .ref (nK E q)), (5, .int (nH E q)), (9, .null), (8, .ref (nA E l)), (3, va_rf kc), (0, .ref (nA E rt)), (1, .int (hsK u m)), (2, .ref s)]) C dJ28_find_96 (by decide) rfl (by first | (simp [va_rf_cat]; done) | (simp [va_rf_cat]; simp only [Value.category]; decide)) ?_
                  refine ww_goto (tgt := 165) C dJ28_find_98 (by decide) ?_
                  refine ww_sub [0, 5, 6, 7, 8] rfl ?_
                  exact K165 (some l) kc (Or.inl h_l) hkc hin2
                · skip
                  show WW X (FnP z h G E tm tu m u) z h 0 0 91 [(7, .ref (nK E q)), (5, .int (nH E q)), (9, .ref (nA E r9)), (8, .ref (nA E l)), (4, .ref (nA E q)), (3, va_rf kc), (0, .ref (nA E rt)), (1, .int (hsK u m)), (2, .ref s)] [.ref (nA E r9)]
                  refine ww_ifnonnull_t (tgt := 101) C dJ28_find_91 (by decide) ?_
                  refine ww_aload_n C dJ28_find_101 rfl 5 rfl (va_rf_isRef _) ?_
                  have hcm := cmU_lt (u := u) (v := tu q) (m := m) (m2 := tm q) b1.1 b2.1 b1.2 b2.2
                  have hnz : cmU u m (tu q) (tm q) ≠ 0 := fun e9 => hne (hcm.2.mp e9).symm
                  have hgo : ∀ i, G i → tlU (tm i) (tu i) = tlU m u → (tlU m u < tlU (tm q) (tu q) → i ∈ dO D (p 2 q)) ∧ (¬ tlU m u < tlU (tm q) (tu q) → i ∈ dO D (p 3 q)) := fun i gi e9 => by have := go_e hG gq (hin i gi e9) (by rw [hHi i gi e9, heq]) (hnq i e9); simp only [txN] at this; rw [e9] at this; exact this
                  rcases hkc with hk0 | hk0
                  · skip
                    subst hk0
                    show WW X (FnP z h G E tm tu m u) z h 0 0 102 [(7, .ref (nK E q)), (5, .int (nH E q)), (9, .ref (nA E r9)), (8, .ref (nA E l)), (4, .ref (nA E q)), (3, .null), (0, .ref (nA E rt)), (1, .int (hsK u m)), (2, .ref s)] [.null]
                    refine ww_ifnonnull_f C dJ28_find_102 ?_
                    refine ww_aload_n C dJ28_find_105 rfl 8 rfl rfl ?_
                    refine cs_J28_55_r (As := [.ref s]) (rest := []) C dJ28_find_106 (ct_J22_comparableClassFor (Cx.fl C) (Cx.ok C) H1) rfl rfl (Nat.le_of_ble_eq_true rfl) (by decide) (Nat.zero_le _) (Nat.zero_le _) ?_
                    refine ww_dup C dJ28_find_109 rfl ?_
                    refine ww_astore_n (lv' := [(3, .ref (gE (xG X) 3001)), (7, .ref (nK E q)), (5, .int (nH E q)), (9, .ref (nA E r9)), (8, .ref (nA E l)), (4, .ref (nA E q)), (0, .ref (nA E rt)), (1, .int (hsK u m)), (2, .ref s)]) C dJ28_find_110 rfl (by decide) rfl rfl ?_
                    refine ww_ifnull_f C dJ28_find_111 ?_
                    refine ww_aload_n C dJ28_find_114 rfl 0 rfl rfl ?_
                    refine ww_aload_n C dJ28_find_115 rfl 8 rfl rfl ?_
                    refine ww_aload C dJ28_find_116 1 rfl rfl ?_
                    refine cs_J28_59_r (As := [.ref (gE (xG X) 3001), .ref s, .ref (nK E q)]) (rest := []) C dJ28_find_118 (ct_J22_compareComparables (Cx.fl C) (Cx.ok C) H1 N2) rfl rfl (Nat.le_of_ble_eq_true rfl) (by decide) (Nat.zero_le _) (Nat.zero_le _) ?_
                    refine ww_dup C dJ28_find_121 rfl ?_
                    refine ww_istore (lv' := [(6, .int (cmU u m (tu q) (tm q))), (3, .ref (gE (xG X) 3001)), (7, .ref (nK E q)), (5, .int (nH E q)), (9, .ref (nA E r9)), (8, .ref (nA E l)), (4, .ref (nA E q)), (0, .ref (nA E rt)), (1, .int (hsK u m)), (2, .ref s)]) C dJ28_find_122 (by decide) rfl ?_
                    refine ww_if_eq_f (tgt := 144) C dJ28_find_124 (by decide) hnz ?_
                    refine ww_iload C dJ28_find_127 0 rfl ?_
                    refine ww_if_ge (tgt := 137) C dJ28_find_129 (by decide) (fun c_129 => ?_) (fun c_129 => ?_)
                    · skip
                      refine ww_aload C dJ28_find_137 4 rfl rfl ?_
                      refine ww_astore (lv' := [(4, .ref (nA E r9)), (6, .int (cmU u m (tu q) (tm q))), (3, .ref (gE (xG X) 3001)), (7, .ref (nK E q)), (5, .int (nH E q)), (9, .ref (nA E r9)), (8, .ref (nA E l)), (0, .ref (nA E rt)), (1, .int (hsK u m)), (2, .ref s)]) C dJ28_find_139 (by decide) rfl rfl ?_
                      refine ww_goto (tgt := 165) C dJ28_find_141 (by decide) ?_
                      refine ww_sub [0, 2, 7, 8, 9] rfl ?_
                      exact K165 (some r9) (some (gE (xG X) 3001)) (Or.inr h_r9) (Or.inr rfl) (fun i gi e9 => by have := (hgo i gi e9).2 (fun g9 => (Int32.not_lt.mpr c_129) (hcm.1.mpr g9)); rw [h_r9] at this; exact this)
                    · skip
                      refine ww_aload C dJ28_find_132 5 rfl rfl ?_
                      refine ww_goto (tgt := 139) C dJ28_find_134 (by decide) ?_
                      refine ww_astore (lv' := [(4, .ref (nA E l)), (6, .int (cmU u m (tu q) (tm q))), (3, .ref (gE (xG X) 3001)), (7, .ref (nK E q)), (5, .int (nH E q)), (9, .ref (nA E r9)), (8, .ref (nA E l)), (0, .ref (nA E rt)), (1, .int (hsK u m)), (2, .ref s)]) C dJ28_find_139 (by decide) rfl rfl ?_
                      refine ww_goto (tgt := 165) C dJ28_find_141 (by decide) ?_
                      refine ww_sub [0, 2, 7, 8, 9] rfl ?_
                      exact K165 (some l) (some (gE (xG X) 3001)) (Or.inl h_l) (Or.inr rfl) (fun i gi e9 => by have := (hgo i gi e9).1 (hcm.1.mp (by first | exact c_129 | exact Int32.not_le.mp c_129)); rw [h_l] at this; exact this)
                  · skip
                    subst hk0
                    show WW X (FnP z h G E tm tu m u) z h 0 0 102 [(7, .ref (nK E q)), (5, .int (nH E q)), (9, .ref (nA E r9)), (8, .ref (nA E l)), (4, .ref (nA E q)), (3, .ref (gE (xG X) 3001)), (0, .ref (nA E rt)), (1, .int (hsK u m)), (2, .ref s)] [.ref (gE (xG X) 3001)]
                    refine ww_ifnonnull_t (tgt := 114) C dJ28_find_102 (by decide) ?_
                    refine ww_aload_n C dJ28_find_114 rfl 5 rfl rfl ?_
                    refine ww_aload_n C dJ28_find_115 rfl 8 rfl rfl ?_
                    refine ww_aload C dJ28_find_116 0 rfl rfl ?_
                    refine cs_J28_59_r (As := [.ref (gE (xG X) 3001), .ref s, .ref (nK E q)]) (rest := []) C dJ28_find_118 (ct_J22_compareComparables (Cx.fl C) (Cx.ok C) H1 N2) rfl rfl (Nat.le_of_ble_eq_true rfl) (by decide) (Nat.zero_le _) (Nat.zero_le _) ?_
                    refine ww_dup C dJ28_find_121 rfl ?_
                    refine ww_istore (lv' := [(6, .int (cmU u m (tu q) (tm q))), (7, .ref (nK E q)), (5, .int (nH E q)), (9, .ref (nA E r9)), (8, .ref (nA E l)), (4, .ref (nA E q)), (3, .ref (gE (xG X) 3001)), (0, .ref (nA E rt)), (1, .int (hsK u m)), (2, .ref s)]) C dJ28_find_122 (by decide) rfl ?_
                    refine ww_if_eq_f (tgt := 144) C dJ28_find_124 (by decide) hnz ?_
                    refine ww_iload C dJ28_find_127 0 rfl ?_
                    refine ww_if_ge (tgt := 137) C dJ28_find_129 (by decide) (fun c_129 => ?_) (fun c_129 => ?_)
                    · skip
                      refine ww_aload C dJ28_find_137 3 rfl rfl ?_
                      refine ww_astore (lv' := [(4, .ref (nA E r9)), (6, .int (cmU u m (tu q) (tm q))), (7, .ref (nK E q)), (5, .int (nH E q)), (9, .ref (nA E r9)), (8, .ref (nA E l)), (3, .ref (gE (xG X) 3001)), (0, .ref (nA E rt)), (1, .int (hsK u m)), (2, .ref s)]) C dJ28_find_139 (by decide) rfl rfl ?_
                      refine ww_goto (tgt := 165) C dJ28_find_141 (by decide) ?_
                      refine ww_sub [0, 6, 7, 8, 9] rfl ?_
                      exact K165 (some r9) (some (gE (xG X) 3001)) (Or.inr h_r9) (Or.inr rfl) (fun i gi e9 => by have := (hgo i gi e9).2 (fun g9 => (Int32.not_lt.mpr c_129) (hcm.1.mpr g9)); rw [h_r9] at this; exact this)
                    · skip
                      refine ww_aload C dJ28_find_132 4 rfl rfl ?_
                      refine ww_goto (tgt := 139) C dJ28_find_134 (by decide) ?_
                      refine ww_astore (lv' := [(4, .ref (nA E l)), (6, .int (cmU u m (tu q) (tm q))), (7, .ref (nK E q)), (5, .int (nH E q)), (9, .ref (nA E r9)), (8, .ref (nA E l)), (3, .ref (gE (xG X) 3001)), (0, .ref (nA E rt)), (1, .int (hsK u m)), (2, .ref s)]) C dJ28_find_139 (by decide) rfl rfl ?_
                      refine ww_goto (tgt := 165) C dJ28_find_141 (by decide) ?_
                      refine ww_sub [0, 6, 7, 8, 9] rfl ?_
                      exact K165 (some l) (some (gE (xG X) 3001)) (Or.inl h_l) (Or.inr rfl) (fun i gi e9 => by have := (hgo i gi e9).1 (hcm.1.mp (by first | exact c_129 | exact Int32.not_le.mp c_129)); rw [h_l] at this; exact this)
            · skip
              refine ww_aload C dJ28_find_74 4 rfl rfl ?_
              exact ww_aret C (Or.inl ⟨_, rfl⟩) dJ28_find_76 rfl ⟨rfl, rfl, some q, rfl, fun i e => (by cases e; exact ⟨gq, (eqU_tl.mp (by first | exact c_71 | simpa using c_71)).symm⟩), fun e => by cases e⟩
        · skip
          refine ww_aload C dJ28_find_42 1 rfl (va_rf_isRef _) ?_
          refine ww_astore (lv' := [(4, va_rf ((p 3 q).map (nA E))), (5, .int (nH E q)), (9, va_rf ((p 3 q).map (nA E))), (8, va_rf ((p 2 q).map (nA E))), (3, va_rf kc), (0, .ref (nA E rt)), (1, .int (hsK u m)), (2, .ref s)]) C dJ28_find_44 (by decide) (va_rf_isRef _) (by first | (simp [va_rf_cat]; done) | (simp [va_rf_cat]; simp only [Value.category]; decide)) ?_
          refine ww_goto (tgt := 165) C dJ28_find_46 (by decide) ?_
          refine ww_sub [0, 4, 5, 6, 7] rfl ?_
          exact K165 _ kc (Or.inr rfl) hkc (fun i gi e => go_r hG gq (hin i gi e) (hHi i gi e) (by first | exact c_39 | exact Int32.not_le.mpr c_39))
      · skip
        refine ww_aload C dJ28_find_29 2 rfl (va_rf_isRef _) ?_
        refine ww_astore (lv' := [(4, va_rf ((p 2 q).map (nA E))), (5, .int (nH E q)), (9, va_rf ((p 3 q).map (nA E))), (8, va_rf ((p 2 q).map (nA E))), (3, va_rf kc), (0, .ref (nA E rt)), (1, .int (hsK u m)), (2, .ref s)]) C dJ28_find_31 (by decide) (va_rf_isRef _) (by first | (simp [va_rf_cat]; done) | (simp [va_rf_cat]; simp only [Value.category]; decide)) ?_
        refine ww_goto (tgt := 165) C dJ28_find_33 (by decide) ?_
        refine ww_sub [0, 4, 5, 6, 7] rfl ?_
        exact K165 _ kc (Or.inl rfl) hkc (fun i gi e => go_l hG gq (hin i gi e) (hHi i gi e) (by first | exact c_26 | exact Int32.not_le.mpr c_26))
  exact key _ rt none (Nat.lt_succ_self _) gr (Or.inl rfl) (fun i gi _ => hG.in gi)
set_option maxHeartbeats 2000000 in
theorem ct_J28_getTreeNode {l : Launch} {Γ : Gm} (hl : l.flags = flags0) (hΓ : GOK Γ) {z : ZR} {h : AH} {G : Nat → Prop} {E : ND} {p : PT} {rd : Nat → Bool} {D : Nat → List Nat} {rt s m : Nat} {u : Nat → Nat} {tm : Nat → Nat} {tu : Nat → Nat → Nat} {x : Nat} (hT : TnH h G E p rd) (hG : TrG G (ltN (nH E) (txN tm tu)) p D rt) (hK : NkH Γ z h G E tm tu) (H1 : NmS Γ z h s m u) (gx : G x) : Ct l Γ yJ28_getTreeNode cJ28_getTreeNode 3 (some (.object "java/util/HashMap$TreeNode")) 11 0 0 [.ref (nA E x), .int (hsK u m), .ref s] z h (FnP z h G E tm tu m u) := by
  refine Ct.of hl hΓ (by decide +kernel) (Nat.le_of_ble_eq_true rfl) (fun X e1 e2 C => ?_)
  subst e1; subst e2
  have C : Cx X cJ28_getTreeNode 3 "java/util/HashMap$TreeNode" "getTreeNode" (some (.object "java/util/HashMap$TreeNode")) [] 11 := C
  have gr : G rt := hG.2.2.2.1
  show WW X (FnP z h G E tm tu m u) z h 0 0 0 [(0, .ref (nA E x)), (1, .int (hsK u m)), (2, .ref s)] []
  refine ww_aload_n C dJ28_getTreeNode_0 rfl 0 rfl rfl ?_
  refine gf_J28_9_J28 C dJ28_getTreeNode_1 (Or.inl (hT.1 x gx)) rfl ?_
  rcases h_k : p 1 x with _ | k
  · skip
    show WW X (FnP z h G E tm tu m u) z h 0 0 4 [(0, .ref (nA E x)), (1, .int (hsK u m)), (2, .ref s)] [.null]
    have hxr := hG.top gx h_k
    subst hxr
    refine ww_ifnull_t (tgt := 14) C dJ28_getTreeNode_4 (by decide) ?_
    refine ww_aload_n C dJ28_getTreeNode_14 rfl 0 rfl rfl ?_
    refine ww_iload_n C dJ28_getTreeNode_15 rfl 1 rfl ?_
    refine ww_aload_n C dJ28_getTreeNode_16 rfl 2 rfl rfl ?_
    refine ww_null C dJ28_getTreeNode_17 ?_
    refine cv_J28_63_q (As := [.int (hsK u m), .ref s, .null]) (rest := []) C dJ28_getTreeNode_18 (ct_J28_find (Cx.fl C) (Cx.ok C) hT hG hK H1) (rc_J28 (Cx.ok C) (Or.inl (hT.1 _ gx))) rfl rfl (Nat.le_of_ble_eq_true rfl) (by decide) (Nat.zero_le _) (Nat.zero_le _) (fun vv z1 h1 q => ?_)
    obtain ⟨hq1, hq2, r9, hv, hR⟩ := q; subst hv; replace hq1 := hq1.symm; subst hq1; replace hq2 := hq2.symm; subst hq2
    exact ww_aret C (Or.inl ⟨_, rfl⟩) dJ28_getTreeNode_21 (va_rf_isRef _) ⟨rfl, rfl, r9, rfl, hR⟩
  · skip
    show WW X (FnP z h G E tm tu m u) z h 0 0 4 [(0, .ref (nA E x)), (1, .int (hsK u m)), (2, .ref s)] [.ref (nA E k)]
    refine ww_ifnull_f C dJ28_getTreeNode_4 ?_
    refine ww_aload_n C dJ28_getTreeNode_7 rfl 0 rfl rfl ?_
    refine cv_J28_67_r (As := []) (rest := []) C dJ28_getTreeNode_8 (ct_J28_root (Cx.fl C) (Cx.ok C) hT hG gx) (rc_J28 (Cx.ok C) (Or.inl (hT.1 x gx))) rfl rfl (Nat.le_of_ble_eq_true rfl) (by decide) (Nat.zero_le _) (Nat.zero_le _) ?_
    refine ww_goto (tgt := 15) C dJ28_getTreeNode_11 (by decide) ?_
    refine ww_iload_n C dJ28_getTreeNode_15 rfl 1 rfl ?_
    refine ww_aload_n C dJ28_getTreeNode_16 rfl 2 rfl rfl ?_
    refine ww_null C dJ28_getTreeNode_17 ?_
    refine cv_J28_63_q (As := [.int (hsK u m), .ref s, .null]) (rest := []) C dJ28_getTreeNode_18 (ct_J28_find (Cx.fl C) (Cx.ok C) hT hG hK H1) (rc_J28 (Cx.ok C) (Or.inl (hT.1 rt gr))) rfl rfl (Nat.le_of_ble_eq_true rfl) (by decide) (Nat.zero_le _) (Nat.zero_le _) (fun vv z1 h1 q => ?_)
    obtain ⟨hq1, hq2, r9, hv, hR⟩ := q; subst hv; replace hq1 := hq1.symm; subst hq1; replace hq2 := hq2.symm; subst hq2
    exact ww_aret C (Or.inl ⟨_, rfl⟩) dJ28_getTreeNode_21 (va_rf_isRef _) ⟨rfl, rfl, r9, rfl, hR⟩
end FIND
