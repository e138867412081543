/-! ===== a Game's cells, list by list ===== -/
section PB24
set_option maxRecDepth 100000
def hdI (i : Nat) : Nat := if i = 0 then 0 else if i = 1 then 2 else if i = 2 then 5 else 7
def arI (i : Nat) : Nat := if i = 0 then 1 else if i = 1 then 3 else if i = 2 then 6 else 8
theorem hd_ne : ∀ i, i < 4 → ∀ j, j < 4 → i ≠ j → hdI i ≠ hdI j ∧ hdI i ≠ arI j ∧ arI i ≠ arI j := by decide
theorem hd_r : ∀ i, i < 4 → hdI i ≠ arI i ∧ hdI i < 9 ∧ arI i < 9 ∧ hdI i ≠ 4 ∧ arI i ≠ 4 ∧ arI i ≠ 0 ∧ arI i ≠ 2 ∧ arI i ≠ 5 ∧ arI i ≠ 7 := by decide
theorem hd_all : ∀ a, a < 9 → a = 4 ∨ ∃ i, i < 4 ∧ (a = hdI i ∨ a = arI i) := by decide
theorem hd_arN : ∀ i, i < 4 → ∀ j, j < 4 → hdI i ≠ arI j := by decide
abbrev owE (Γ : Gm) (h : AH) : Prop := ∀ q e, h q = some e → q ≠ gE Γ 0
/-- a Game with any numbers and lists -/
def GmX (Γ : Gm) (h : AH) (g : Nat) (A : Nat → Nat) (c r rn dn : Int32) (li : Nat → Int32) (N : Nat → Nat) (M : Nat → Int32) (K : Nat → Nat) (Xs : Nat → Nat → Nat) : Prop :=
  h g = some (.inr (2, [.int c, .int r, .ref (A 0), .ref (A 2), .int rn, .int dn, .ref (A 4), .ref (A 5), .ref (A 7)])) ∧ h (A 4) = some (.inl (gA Γ 0, (49, .inl li))) ∧
  (∀ i, i < 4 → ALm Γ h (A (hdI i)) (A (arI i)) (N i) (M i) (K i) (Xs i)) ∧ (∀ a b, a < 9 → b < 9 → A a = A b → a = b ∨ A a = gE Γ 0) ∧ ∀ i, i < 4 → K i = 0 → A (arI i) = gE Γ 0
variable {Γ : Gm} {z : ZR} {h h' : AH} {g : Nat} {A : Nat → Nat} {c r rn dn : Int32} {li : Nat → Int32} {N : Nat → Nat} {M : Nat → Int32} {K : Nat → Nat} {Xs : Nat → Nat → Nat}
theorem GmX.o (hX : GmX Γ h g A c r rn dn li N M K Xs) : ∀ a, a < 9 → (∃ e, h (A a) = some e) ∨ A a = gE Γ 0 := by
  obtain ⟨h1, h2, h3, h4, h5⟩ := hX
  intro a ha
  rcases hd_all a ha with rfl | ⟨i, hi, rfl | rfl⟩
  · exact Or.inl ⟨_, h2⟩
  · exact Or.inl ⟨_, (h3 i hi).1⟩
  · rcases (h3 i hi).2.1 with q | q
    · exact Or.inl ⟨_, q.1⟩
    · exact Or.inr q.2
theorem GmX.ap (hX : GmX Γ h g A c r rn dn li N M K Xs) (ow : owE Γ h) {a b : Nat} {e : va_E} (ha : a < 9) (hb : b < 9) (hn : a ≠ b) (ho : h (A a) = some e) : A a ≠ A b := fun q => (hX.2.2.2.1 a b ha hb q).elim hn (ow _ _ ho)
theorem GmX.gn (hX : GmX Γ h g A c r rn dn li N M K Xs) (ow : owE Γ h) {a : Nat} (ha : a < 9) : g ≠ A a := by
  obtain ⟨h1, h2, h3, h4, h5⟩ := hX
  rcases hd_all a ha with rfl | ⟨i, hi, rfl | rfl⟩
  · exact ne_ob h1 h2 (by simp)
  · exact ne_ob h1 (h3 i hi).1 (by simp [cAL])
  · rcases (h3 i hi).2.1 with q | q
    · exact ne_ob h1 q.1 (by simp [cAr])
    · rw [q.2]; exact ow _ _ h1
theorem ALm.fr {b brr n : Nat} {md : Int32} {cap : Nat} {xs : Nat → Nat} (hL : ALm Γ h b brr n md cap xs) (hf : ∀ e, h b = some e → h' b = some e) (hf2 : ∀ e, brr ≠ gE Γ 0 → h brr = some e → h' brr = some e) : ALm Γ h' b brr n md cap xs :=
  ⟨hf _ hL.1, hL.2.1.imp (fun q => ⟨hf2 _ q.2 q.1, q.2⟩) id, hL.2.2⟩
/-- one list changes -/
theorem GmX.set {i : Nat} (hi : i < 4) (hX : GmX Γ h g A c r rn dn li N M K Xs) (ow : owE Γ h) {ar' n' cap' : Nat} {md' : Int32} {xs' : Nat → Nat} (hL : ALm Γ h' (A (hdI i)) ar' n' md' cap' xs') (hfr : ar' = A (arI i) ∨ (h ar' = none ∧ ar' ≠ gE Γ 0)) (hc : cap' = 0 → ar' = gE Γ 0) (hf : ∀ q e, h q = some e → q ≠ A (hdI i) → q ≠ A (arI i) → h' q = some e) :
    GmX Γ h' g (va_up A (arI i) ar') c r rn dn li (va_up N i n') (va_up M i md') (va_up K i cap') (va_up Xs i xs') := by
  have hX0 := hX
  obtain ⟨h1, h2, h3, h4, h5⟩ := hX
  obtain ⟨r1, r2, r3, r4, r5, r6, r7, r8, r9⟩ := hd_r i hi
  refine ⟨?_, ?_, fun j hj => ?_, fun a b ha hb q => ?_, fun j hj q => ?_⟩
  · rw [va_ne (Ne.symm r6), va_ne (Ne.symm r7), va_ne (Ne.symm r5), va_ne (Ne.symm r8), va_ne (Ne.symm r9)]
    exact hf _ _ h1 (hX0.gn ow r2) (hX0.gn ow r3)
  · rw [va_ne (Ne.symm r5)]
    exact hf _ _ h2 (hX0.ap ow (by decide) r2 (Ne.symm r4) h2) (hX0.ap ow (by decide) r3 (Ne.symm r5) h2)
  · by_cases e : j = i
    · subst e
      rw [va_ne r1, va_eq, va_eq, va_eq, va_eq, va_eq]
      exact hL
    · obtain ⟨d1, d2, d3⟩ := hd_ne j hj i hi e
      obtain ⟨s1, s2, s3, -⟩ := hd_r j hj
      rw [va_ne d2, va_ne d3, va_ne e, va_ne e, va_ne e, va_ne e]
      exact (h3 j hj).fr (fun e9 q => hf _ _ q (hX0.ap ow s2 r2 d1 q) (hX0.ap ow s2 r3 d2 q)) (fun e9 _ q => hf _ _ q (hX0.ap ow s3 r2 (Ne.symm (hd_arN i hi j hj)) q) (hX0.ap ow s3 r3 d3 q))
  · by_cases ea : a = arI i
    · by_cases eb : b = arI i
      · exact Or.inl (ea.trans eb.symm)
      · subst ea
        rw [va_eq, va_ne eb] at q
        rw [va_eq]
        rcases hfr with f | ⟨f1, f2⟩
        · have := h4 (arI i) b ha hb (f.symm.trans q)
          rcases this with t | t
          · exact absurd t.symm eb
          · exact Or.inr (f.trans t)
        · rcases hX0.o b hb with ⟨e9, t⟩ | t
          · rw [← q, f1] at t; cases t
          · exact Or.inr (q.trans t)
    · by_cases eb : b = arI i
      · subst eb
        rw [va_ne ea, va_eq] at q
        rw [va_ne ea]
        rcases hfr with f | ⟨f1, f2⟩
        · have := h4 a (arI i) ha hb (q.trans f)
          rcases this with t | t
          · exact absurd t ea
          · exact Or.inr t
        · rcases hX0.o a ha with ⟨e9, t⟩ | t
          · rw [q, f1] at t; cases t
          · exact Or.inr t
      · rw [va_ne ea, va_ne eb] at q
        rw [va_ne ea]
        exact h4 a b ha hb q
  · by_cases e : j = i
    · subst e
      rw [va_eq] at q ⊢
      exact hc q
    · rw [va_ne e] at q
      rw [va_ne (hd_ne j hj i hi e).2.2]
      exact h5 j hj q
/-- the Game's own numbers change -/
theorem GmX.nm (hX : GmX Γ h g A c r rn dn li N M K Xs) (ow : owE Γ h) {c' r' rn' dn' : Int32} (he : h' = up h g (.inr (2, [.int c', .int r', .ref (A 0), .ref (A 2), .int rn', .int dn', .ref (A 4), .ref (A 5), .ref (A 7)]))) : GmX Γ h' g A c' r' rn' dn' li N M K Xs := by
  have hX0 := hX
  obtain ⟨h1, h2, h3, h4, h5⟩ := hX
  subst he
  refine ⟨up_s, ?_, fun j hj => ?_, h4, h5⟩
  · rw [up_n (hX0.gn ow (a := 4) (by decide)).symm]; exact h2
  · exact (h3 j hj).fr (fun e q => by rw [up_n (hX0.gn ow (hd_r j hj).2.1).symm]; exact q) (fun e _ q => by rw [up_n (hX0.gn ow (hd_r j hj).2.2.1).symm]; exact q)
/-- what lies in the cells changes -/
theorem GmX.ce (hX : GmX Γ h g A c r rn dn li N M K Xs) (ow : owE Γ h) {li' : Nat → Int32} (he : h' = up h (A 4) (.inl (gA Γ 0, (49, .inl li')))) : GmX Γ h' g A c r rn dn li' N M K Xs := by
  have hX0 := hX
  obtain ⟨h1, h2, h3, h4, h5⟩ := hX
  subst he
  refine ⟨?_, up_s, fun j hj => ?_, h4, h5⟩
  · rw [up_n (hX0.gn ow (a := 4) (by decide))]; exact h1
  · obtain ⟨r1, r2, r3, r4, r5, -⟩ := hd_r j hj
    exact (h3 j hj).fr (fun e q => by rw [up_n (hX0.ap ow r2 (by decide) r4 q)]; exact q) (fun e _ q => by rw [up_n (hX0.ap ow r3 (by decide) r5 q)]; exact q)
/-- the lists' sizes and contents, as functions -/
def f4 {α : Type} (a b c d : α) : Nat → α := fun i => if i = 0 then a else if i = 1 then b else if i = 2 then c else d
theorem lt4 {i : Nat} (h : i < 4) : i = 0 ∨ i = 1 ∨ i = 2 ∨ i = 3 := by omega
theorem GmM.x {B : GB} {G : GG} (hG : GmM Γ z h g A B G rn dn) (hL : GmL Γ A G) : GmX Γ h g A (nI (Bc B)) (nI (Br B)) rn dn (fun x => nI (Bl B x)) (f4 (Bt B) G.2.2 (Bt B) (Bt B)) G.1 G.2.1 (f4 (fun k => A (100 + k)) (fun k => A (200 + k)) (fun k => bxA Γ (oI (Bp B k))) (fun k => bxA Γ (nI (Bu B k)))) := by
  obtain ⟨h1, h2, h3, -, h5, h6, h7, h8⟩ := hG
  obtain ⟨l1, l2, l3, l4⟩ := hL
  refine ⟨h1, h2, fun i hi => ?_, h8, fun i hi => ?_⟩
  · rcases lt4 hi with rfl | rfl | rfl | rfl
    · exact h3
    · exact h5
    · exact h6
    · exact h7
  · rcases lt4 hi with rfl | rfl | rfl | rfl
    · exact l1
    · exact l2
    · exact l3
    · exact l4
theorem ALm.ex {a arr n : Nat} {md : Int32} {cap : Nat} {xs ys : Nat → Nat} (hL : ALm Γ h a arr n md cap xs) (he : ∀ i, i < n → xs i = ys i) : ALm Γ h a arr n md cap ys := by
  obtain ⟨h1, h2, h3⟩ := hL
  rw [lf_ext he] at h2
  exact ⟨h1, h2, h3⟩
theorem GmX.m (hX : GmX Γ h g A c r rn dn li N M K Xs) {B : GB} {A' : Nat → Nat} (eA : ∀ i, i < 9 → A' i = A i) (ec : c = nI (Bc B)) (er : r = nI (Br B)) (el : li = fun x => nI (Bl B x)) (e0 : N 0 = Bt B) (e2 : N 2 = Bt B) (e3 : N 3 = Bt B)
    (hT : ∀ k, k < Bt B → TilP Γ z (A' (100 + k)) (Bn B k)) (x0 : ∀ k, k < Bt B → Xs 0 k = A' (100 + k)) (x1 : ∀ k, k < N 1 → Xs 1 k = A' (200 + k)) (x2 : ∀ k, k < Bt B → Xs 2 k = bxA Γ (oI (Bp B k))) (x3 : ∀ k, k < Bt B → Xs 3 k = bxA Γ (nI (Bu B k))) : GmM Γ z h g A' B (M, K, N 1) rn dn ∧ GmL Γ A' (M, K, N 1) := by
  obtain ⟨h1, h2, h3, h4, h5⟩ := hX
  have a0 := eA 0 (by decide)
  have a1 := eA 1 (by decide)
  have a2 := eA 2 (by decide)
  have a3 := eA 3 (by decide)
  have a4 := eA 4 (by decide)
  have a5 := eA 5 (by decide)
  have a6 := eA 6 (by decide)
  have a7 := eA 7 (by decide)
  have a8 := eA 8 (by decide)
  refine ⟨⟨?_, ?_, ?_, hT, ?_, ?_, ?_, fun i j hi hj q => ?_⟩, ?_⟩
  · unfold cGm; rw [a0, a2, a4, a5, a7, ← ec, ← er]; exact h1
  · unfold cLi; rw [a4, ← el]; exact h2
  · rw [a0, a1, ← e0]; exact (h3 0 (by decide)).ex (fun k hk => x0 k (e0 ▸ hk))
  · rw [a2, a3]; exact (h3 1 (by decide)).ex x1
  · rw [a5, a6, ← e2]; exact (h3 2 (by decide)).ex (fun k hk => x2 k (e2 ▸ hk))
  · rw [a7, a8, ← e3]; exact (h3 3 (by decide)).ex (fun k hk => x3 k (e3 ▸ hk))
  · rw [eA i hi, eA j hj] at q
    rw [eA i hi]
    exact h4 i j hi hj q
  · unfold GmL
    rw [a1, a3, a6, a8]
    exact ⟨h5 0 (by decide), h5 1 (by decide), h5 2 (by decide), h5 3 (by decide)⟩
theorem GmM.ext {B : GB} {G : GG} (hG : GmM Γ z h g A B G rn dn) (he : ∀ q e, h q = some e → fpG Γ g A q → h' q = some e) : GmM Γ z h' g A B G rn dn := by
  obtain ⟨h1, h2, h3, h4, h5, h6, h7, h8⟩ := hG
  refine ⟨he _ _ h1 (Or.inl rfl), he _ _ h2 (Or.inr (Or.inr (Or.inr (Or.inl rfl)))), h3.fr ?_ ?_, h4, h5.fr ?_ ?_, h6.fr ?_ ?_, h7.fr ?_ ?_, h8⟩
  · exact fun e q => he _ _ q (Or.inr (Or.inl rfl))
  · exact fun e n q => he _ _ q (Or.inr (Or.inr (Or.inr (Or.inr (Or.inr (Or.inr ⟨Or.inl rfl, n⟩))))))
  · exact fun e q => he _ _ q (Or.inr (Or.inr (Or.inl rfl)))
  · exact fun e n q => he _ _ q (Or.inr (Or.inr (Or.inr (Or.inr (Or.inr (Or.inr ⟨Or.inr (Or.inl rfl), n⟩))))))
  · exact fun e q => he _ _ q (Or.inr (Or.inr (Or.inr (Or.inr (Or.inl rfl)))))
  · exact fun e n q => he _ _ q (Or.inr (Or.inr (Or.inr (Or.inr (Or.inr (Or.inr ⟨Or.inr (Or.inr (Or.inl rfl)), n⟩))))))
  · exact fun e q => he _ _ q (Or.inr (Or.inr (Or.inr (Or.inr (Or.inr (Or.inl rfl))))))
  · exact fun e n q => he _ _ q (Or.inr (Or.inr (Or.inr (Or.inr (Or.inr (Or.inr ⟨Or.inr (Or.inr (Or.inr rfl)), n⟩))))))
theorem fp_hd {q i : Nat} (hi : i < 4) (h : ¬ fpG Γ g A q) : q ≠ A (hdI i) := fun e => h (by
  rcases lt4 hi with rfl | rfl | rfl | rfl
  · exact Or.inr (Or.inl e)
  · exact Or.inr (Or.inr (Or.inl e))
  · exact Or.inr (Or.inr (Or.inr (Or.inr (Or.inl e))))
  · exact Or.inr (Or.inr (Or.inr (Or.inr (Or.inr (Or.inl e))))))
theorem fp_ar {q i : Nat} (hi : i < 4) (h : ¬ fpG Γ g A q) (hn : q ≠ gE Γ 0) : q ≠ A (arI i) := fun e => h (by
  refine Or.inr (Or.inr (Or.inr (Or.inr (Or.inr (Or.inr ⟨?_, hn⟩)))))
  rcases lt4 hi with rfl | rfl | rfl | rfl
  · exact Or.inl e
  · exact Or.inr (Or.inl e)
  · exact Or.inr (Or.inr (Or.inl e))
  · exact Or.inr (Or.inr (Or.inr e)))
/-- own cells behind a change of a row -/
theorem fp_up {q i b : Nat} (hi : i < 4) (h : fpG Γ g (va_up A (arI i) b) q) : fpG Γ g A q ∨ (q = b ∧ q ≠ gE Γ 0) := by
  rcases lt4 hi with rfl | rfl | rfl | rfl <;> rcases h with e | e | e | e | e | e | ⟨e | e | e | e, n⟩ <;> first
    | exact Or.inl (Or.inl e) | exact Or.inl (Or.inr (Or.inl e)) | exact Or.inl (Or.inr (Or.inr (Or.inl e))) | exact Or.inl (Or.inr (Or.inr (Or.inr (Or.inl e)))) | exact Or.inl (Or.inr (Or.inr (Or.inr (Or.inr (Or.inl e))))) | exact Or.inl (Or.inr (Or.inr (Or.inr (Or.inr (Or.inr (Or.inl e))))))
    | exact Or.inr ⟨e, n⟩ | exact Or.inl (Or.inr (Or.inr (Or.inr (Or.inr (Or.inr (Or.inr ⟨Or.inl e, n⟩)))))) | exact Or.inl (Or.inr (Or.inr (Or.inr (Or.inr (Or.inr (Or.inr ⟨Or.inr (Or.inl e), n⟩)))))) | exact Or.inl (Or.inr (Or.inr (Or.inr (Or.inr (Or.inr (Or.inr ⟨Or.inr (Or.inr (Or.inl e)), n⟩)))))) | exact Or.inl (Or.inr (Or.inr (Or.inr (Or.inr (Or.inr (Or.inr ⟨Or.inr (Or.inr (Or.inr e)), n⟩))))))
theorem fp_cg {A A' : Nat → Nat} {q : Nat} (he : ∀ i, i < 9 → A' i = A i) (h : fpG Γ g A' q) : fpG Γ g A q := by
  unfold fpG at h ⊢
  rw [he 0 (by decide), he 1 (by decide), he 2 (by decide), he 3 (by decide), he 4 (by decide), he 5 (by decide), he 6 (by decide), he 7 (by decide), he 8 (by decide)] at h
  exact h
end PB24
section PB24B
set_option maxRecDepth 100000
variable {X : XT} {P : Oc → ZR → AH → Prop} {z : ZR} {h : AH} {kc ns pc nL d : Nat} {lv : List (Nat × Value)} {st : List Value}
theorem ww_ow0 (hz : zle (cst (xG X)) z) (k : owE (xG X) h → WW X P z h kc ns pc lv st) : WW X P z h kc ns pc lv st :=
  fun a1 a2 H ls locs hI hl => k (fun q e hq eq => (hI.1.2.2.2 q e hq).2.2 _ (eq ▸ cst_e0 hz)) a1 a2 H ls locs hI hl
end PB24B
