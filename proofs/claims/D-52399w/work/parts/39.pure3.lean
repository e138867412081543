/-! ===== a tile is put, or taken ===== -/
section PB3
set_option maxRecDepth 100000
def putB (B : GB) (k x t : Nat) : GB := (B.1, B.2.1, fun y => if y = x then k + 1 else Bl B y, fun i => if i = k then some x else Bp B i, fun i => if i = k then t else Bu B i)
def takB (B : GB) (k : Nat) : GB := (B.1, B.2.1, fun y => if y = (Bp B k).getD 0 then 0 else Bl B y, fun i => if i = k then none else Bp B i, fun i => if i = k then 0 else Bu B i)
theorem putB_o {B : GB} (hB : BO B) {k x t : Nat} (hk : k < Bt B) (hx : x < 49) (ht : t < 6) : BO (putB B k x t) := by
  obtain ⟨h1, h2, h3, h4, h5, h6⟩ := hB
  refine ⟨h1, h2, fun y => ?_, fun i hi => ?_, fun i y hy => ?_, h6⟩
  · show (if y = x then k + 1 else Bl B y) ≤ Bt B
    have := h3 y
    split <;> omega
  · show (if i = k then t else Bu B i) < 6
    split
    · exact ht
    · exact h4 i hi
  · replace hy : (if i = k then some x else Bp B i) = some y := hy
    split at hy
    · cases hy; exact hx
    · exact h5 i y hy
theorem takB_o {B : GB} (hB : BO B) {k : Nat} : BO (takB B k) := by
  obtain ⟨h1, h2, h3, h4, h5, h6⟩ := hB
  refine ⟨h1, h2, fun y => ?_, fun i hi => ?_, fun i y hy => ?_, h6⟩
  · show (if y = _ then 0 else Bl B y) ≤ Bt B
    have := h3 y
    split <;> omega
  · show (if i = k then 0 else Bu B i) < 6
    split
    · decide
    · exact h4 i hi
  · replace hy : (if i = k then none else Bp B i) = some y := hy
    split at hy
    · cases hy
    · exact h5 i y hy
theorem tak_put {B : GB} {k x t : Nat} (h1 : Bl B x = 0) (h2 : Bp B k = none) (h3 : Bu B k = 0) : takB (putB B k x t) k = B := by
  obtain ⟨b1, b2, b3, b4, b5⟩ := B
  have hg : (Bp (putB (b1, b2, b3, b4, b5) k x t) k).getD 0 = x := by simp [putB, Bp]
  unfold takB
  rw [hg]
  have e3 : (fun y => if y = x then 0 else Bl (putB (b1, b2, b3, b4, b5) k x t) y) = b3 := by
    funext y
    by_cases hy : y = x
    · rw [if_pos hy, hy]; exact h1.symm
    · rw [if_neg hy]; show (if y = x then _ else _) = _; rw [if_neg hy]
  have e4 : (fun i => if i = k then none else Bp (putB (b1, b2, b3, b4, b5) k x t) i) = b4 := by
    funext y
    by_cases hy : y = k
    · rw [if_pos hy, hy]; exact h2.symm
    · rw [if_neg hy]; show (if y = k then _ else _) = _; rw [if_neg hy]
  have e5 : (fun i => if i = k then 0 else Bu (putB (b1, b2, b3, b4, b5) k x t) i) = b5 := by
    funext y
    by_cases hy : y = k
    · rw [if_pos hy, hy]; exact h3.symm
    · rw [if_neg hy]; show (if y = k then _ else _) = _; rw [if_neg hy]
  rw [e3, e4, e5]
  rfl
/-- the heap with another board's lies, cells and turns -/
def gmH (Γ : Gm) (h : AH) (A : Nat → Nat) (G : GG) (B : GB) : AH := up (up (up h (A 4) (cLi Γ B)) (A 6) (cAr Γ (G.2.1 2) (lf (Bt B) (fun k => bxA Γ (oI (Bp B k)))))) (A 8) (cAr Γ (G.2.1 3) (lf (Bt B) (fun k => bxA Γ (nI (Bu B k)))))
theorem up_at {h : AH} {a b : Nat} {e : va_E} : up h a e b = if b = a then some e else h b := rfl
theorem gmH_id {Γ : Gm} {h : AH} {A : Nat → Nat} {G : GG} {B : GB} (h4 : h (A 4) = some (cLi Γ B)) (h6 : h (A 6) = some (cAr Γ (G.2.1 2) (lf (Bt B) (fun k => bxA Γ (oI (Bp B k)))))) (h8 : h (A 8) = some (cAr Γ (G.2.1 3) (lf (Bt B) (fun k => bxA Γ (nI (Bu B k)))))) : gmH Γ h A G B = h := by
  unfold gmH
  rw [up_id h4, up_id h6, up_id h8]
theorem gmH_st {Γ : Gm} {h : AH} {A : Nat → Nat} {G : GG} {B B' : GB} : gmH Γ (gmH Γ h A G B) A G B' = gmH Γ h A G B' := by
  funext a
  unfold gmH
  simp only [up_at]
  by_cases h8 : a = A 8
  · simp [h8]
  · by_cases h6 : a = A 6
    · simp [h8, h6]
    · by_cases h4 : a = A 4 <;> simp [h8, h6, h4]
theorem ne_li {Γ : Gm} {h : AH} {B : GB} {a b cap : Nat} {f : Nat → Option Nat} (ha : h a = some (cLi Γ B)) (hb : h b = some (cAr Γ cap f)) : a ≠ b := ne_ob ha hb (by simp [cLi, cAr])
theorem GmM.ne {Γ : Gm} {z : ZR} {h : AH} {g : Nat} {A : Nat → Nat} {B : GB} {G : GG} {rn dn : Int32} {k : Nat} (hG : GmM Γ z h g A B G rn dn) (hk : k < Bt B) : A 4 ≠ A 6 ∧ A 4 ≠ A 8 ∧ A 6 ≠ A 8 := by
  obtain ⟨h1, h2, h3, h4, h5, h6, h7, h8⟩ := hG
  have o6 := h6.ow hk
  have o8 := h7.ow hk
  refine ⟨ne_li h2 o6.1, ne_li h2 o8.1, fun q => ?_⟩
  rcases h8 6 8 (by decide) (by decide) q with q | q
  · cases q
  · exact o6.2 q
theorem gmH_n {Γ : Gm} {h : AH} {A : Nat → Nat} {G : GG} {B : GB} {a : Nat} (h4 : a ≠ A 4) (h6 : a ≠ A 6) (h8 : a ≠ A 8) : gmH Γ h A G B a = h a := by
  unfold gmH
  rw [up_n h8, up_n h6, up_n h4]
theorem ALm.st {Γ : Gm} {h h' : AH} {a arr n : Nat} {md : Int32} {cap : Nat} {xs : Nat → Nat} (hL : ALm Γ h a arr n md cap xs) (h1 : h' a = h a) (h2 : arr ≠ gE Γ 0 → h' arr = h arr) : ALm Γ h' a arr n md cap xs := by
  obtain ⟨q1, q2, q3⟩ := hL
  refine ⟨h1.trans q1, ?_, q3⟩
  rcases q2 with ⟨q, q'⟩ | q
  · exact Or.inl ⟨(h2 q').trans q, q'⟩
  · exact Or.inr q
theorem GmM.st {Γ : Gm} {z : ZR} {h : AH} {g : Nat} {A : Nat → Nat} {B B' : GB} {G : GG} {rn dn : Int32} {k : Nat} (hG : GmM Γ z h g A B G rn dn) (hk : k < Bt B) (e1 : B'.1 = B.1) (e2 : B'.2.1 = B.2.1) : GmM Γ z (gmH Γ h A G B') g A B' G rn dn := by
  obtain ⟨n46, n48, n68⟩ := hG.ne hk
  obtain ⟨h1, h2, h3, h4, h5, h6, h7, h8⟩ := hG
  have eBt : Bt B' = Bt B := by show B'.1.2.2 = B.1.2.2; rw [e1]
  have o6 := h6.ow hk
  have o8 := h7.ow hk
  have kO : ∀ {a : Nat} {e : va_E}, h a = some e → (¬ e = cLi Γ B) → (∀ cap f, ¬ e = cAr Γ cap f) → gmH Γ h A G B' a = h a := fun ha q1 q2 => gmH_n (ne_ob ha h2 q1) (ne_ob ha o6.1 (q2 _ _)) (ne_ob ha o8.1 (q2 _ _))
  have kL : ∀ {a : Nat} {md : Int32} {arr n : Nat}, h a = some (cAL md arr n) → gmH Γ h A G B' a = h a := fun ha => kO ha (by simp [cAL, cLi]) (fun _ _ => by simp [cAL, cAr])
  have kA : ∀ i, i < 9 → i ≠ 4 → i ≠ 6 → i ≠ 8 → A i ≠ gE Γ 0 → gmH Γ h A G B' (A i) = h (A i) := fun i hi a4 a6 a8 hne => gmH_n (fun q => by rcases h8 i 4 hi (by decide) q with q | q; exact a4 q; exact hne q) (fun q => by rcases h8 i 6 hi (by decide) q with q | q; exact a6 q; exact hne q) (fun q => by rcases h8 i 8 hi (by decide) q with q | q; exact a8 q; exact hne q)
  refine ⟨?_, ?_, ?_, ?_, ?_, ?_, ?_, h8⟩
  · rw [kO h1 (by simp [cGm, cLi]) (fun _ _ => by simp [cGm, cAr]), h1]
    simp only [cGm, Bc, Br, e1]
  · unfold gmH
    rw [up_n n48, up_n n46, up_s]
  · rw [eBt]
    exact h3.st (kL h3.1) (kA 1 (by decide) (by decide) (by decide) (by decide))
  · intro k hk
    rw [show Bn B' k = Bn B k from by show B'.2.1 k = B.2.1 k; rw [e2]]
    exact h4 k (eBt ▸ hk)
  · exact h5.st (kL h5.1) (kA 3 (by decide) (by decide) (by decide) (by decide))
  · refine ⟨?_, Or.inl ⟨?_, o6.2⟩, ?_, h6.2.2.2⟩
    · rw [eBt, kL h6.1]; exact h6.1
    · unfold gmH
      rw [up_n n68, up_s]
    · rw [eBt]; exact h6.2.2.1
  · refine ⟨?_, Or.inl ⟨?_, o8.2⟩, ?_, h7.2.2.2⟩
    · rw [eBt, kL h7.1]; exact h7.1
    · unfold gmH
      rw [up_s]
    · rw [eBt]; exact h7.2.2.1
end PB3
