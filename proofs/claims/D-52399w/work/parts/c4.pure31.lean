/-! ===== orders, lines, the whole text ===== -/
section PB31
set_option maxRecDepth 100000
variable {n : Nat} {k dz tl fr : Nat} {s : Nat → Nat} {te : Option Nat} {S : PS}
theorem oe_21 : (oeT k dz tl fr s te S).2.2.1 21 = va_up (S.2.2.1 21) k dz := by
  dsimp only [oeT]
  rw [va_ne (by decide), va_ne (by decide), va_ne (by decide), va_ne (by decide), va_eq]
theorem oe_22 : (oeT k dz tl fr s te S).2.2.1 22 = va_up (S.2.2.1 22) k tl := by
  dsimp only [oeT]
  rw [va_ne (by decide), va_ne (by decide), va_ne (by decide), va_eq]
theorem oe_23 : (oeT k dz tl fr s te S).2.2.1 23 = va_up (S.2.2.1 23) k fr := by
  dsimp only [oeT]
  rw [va_ne (by decide), va_ne (by decide), va_eq]
theorem oe_24 : (oeT k dz tl fr s te S).2.2.1 24 = va_up (S.2.2.1 24) k S.2.1.2 := by
  dsimp only [oeT]
  rw [va_ne (by decide), va_eq]
theorem oe_25 {i : Nat} : (oeT k dz tl fr s te S).2.2.1 25 i = if 3 * k ≤ i ∧ dz = 0 then s (i - 3 * k) else S.2.2.1 25 i := by
  dsimp only [oeT]
  rw [va_eq]
theorem oe_o {i : Nat} (h : 26 ≤ i) : (oeT k dz tl fr s te S).2.2.1 i = S.2.2.1 i := by
  dsimp only [oeT]
  rw [va_ne (by omega), va_ne (by omega), va_ne (by omega), va_ne (by omega), va_ne (by omega)]
theorem fin_k {S0 : PS} {G : GX} (hp : pK n S0 S) (hlt : S0.1.1 < S.1.1) (hd : dz ≤ 2) (hq : S.1.2 = none → S0.2.1.1 ≠ 16 ∧ Gd G.1.2.2 S0.2.1.2 S.2 ∧ tl < G.1.2.2 ∧ (dz = 0 → ∀ p, p < 3 → S0.2.1.2 ≤ s p ∧ s p < S.2.1.2) ∧ ∀ t, te = some t → S0.2.1.2 ≤ t ∧ t < S.2.1.2) : lK n S0 G (oeT (min 16 S0.2.1.1) dz tl S0.2.1.2 s te S, G) := by
  refine ⟨hp.s, hlt, fun hn hI => ?_⟩
  have hn : S.1.2 = none := hn
  obtain ⟨q1, q2, q3, q4, q5⟩ := hq hn
  obtain ⟨i1, i2, i3, i4, i5, i6⟩ := hI
  have i1 : S0.2.1.1 ≤ 16 := i1
  have i3 : S0.2.1.2 ≤ S0.1.1 := i3
  have hm : min 16 S0.2.1.1 = S0.2.1.1 := by omega
  obtain ⟨p1, p2, p3, p4, p5, p6, p7, p8, p9⟩ := hp
  rw [hm]
  refine ⟨by show min 16 (S0.2.1.1 + 1) ≤ 16; omega, i2, by show S.2.1.2 ≤ S.1.1; omega, ?_, i5, i6⟩
  show ∀ j, j < min 16 (S0.2.1.1 + 1) → orG G.1.2.2 (oeT S0.2.1.1 dz tl S0.2.1.2 s te S).2 j
  intro j hj
  by_cases e : j = S0.2.1.1
  · subst e
    unfold orG
    rw [oe_21, oe_22, oe_23, oe_24, va_eq, va_eq, va_eq, va_eq]
    refine ⟨p3, Nat.le_refl _, q3, hd, fun i h1 h2 => ?_, fun t ht => ?_, fun hz p hp => ?_⟩
    · unfold nG
      rw [oe_o (by decide), oe_o (by decide), oe_o (by decide)]
      exact q2.2 i h1 h2
    · have ht : va_up S.2.2.2 S0.2.1.1 te S0.2.1.1 = some t := ht
      rw [va_eq] at ht
      exact q5 t ht
    · rw [oe_25, if_pos ⟨by omega, hz⟩, show 3 * S0.2.1.1 + p - 3 * S0.2.1.1 = p by omega]
      exact q4 hz p hp
  · refine (i4 j (by show j < S0.2.1.1; omega)).ext (Nat.le_refl _) (fun i hi => ?_) (fun p hp => ?_) ?_ p3 (fun i l hi hl => ?_)
    · rcases hi with rfl | rfl | rfl | rfl
      · rw [oe_21, va_ne e, p6 21 (by decide) (by decide) (by decide)]
      · rw [oe_22, va_ne e, p6 22 (by decide) (by decide) (by decide)]
      · rw [oe_23, va_ne e, p6 23 (by decide) (by decide) (by decide)]
      · rw [oe_24, va_ne e, p6 24 (by decide) (by decide) (by decide)]
    · rw [oe_25, if_neg (by omega), p6 25 (by decide) (by decide) (by decide)]
    · show va_up S.2.2.2 S0.2.1.1 te j = S0.2.2.2 j
      rw [va_ne e, p8]
    · rw [oe_o (by omega)]
      exact p5 i l hi hl
theorem ot_k {E : PE} (hK : KOk E.1 n) {f : Nat} (hf : n + 70 ≤ f) {S0 : PS} {G : GX} (hE : ∀ k v, E.2.2 k = some v → v < G.1.2.2) (hu : ∀ k, E.1 k = 31 → E.2.1 k < 10 ^ 6) (hp : pK n S0 S) (hlt : S0.1.1 < S.1.1) (hd : dz ≤ 2) (hq : S.1.2 = none → S0.2.1.1 ≠ 16 ∧ Gd G.1.2.2 S0.2.1.2 S.2 ∧ tl < G.1.2.2 ∧ (dz = 0 → ∀ p, p < 3 → S0.2.1.2 ≤ s p ∧ s p < S.2.1.2)) : gR n S0 (lK n S0 G) (gOt E f (min 16 S0.2.1.1) dz tl S0.2.1.2 s S G) := by
  unfold gOt
  split
  · rename_i q
    have hl : S.1.1 < n := hK.lt hp.2.1 (by rw [show E.1 S.1.1 = 8 from q]; decide)
    have ha : (adv S).1.1 ≤ n := hl
    have hr : rkN 8 = 5 := rfl
    refine gR.B (pp_t hK f 0 8 0 (adv S) (by decide) ha (fun q => by cases q) (by omega)) (fun t w => ?_) (fun i S1 w => ?_)
    · have := pp_w hK ha (fun q => by cases q) w
      have a1 : (adv S).1.1 = S.1.1 + 1 := rfl
      omega
    · have o := pp_o hK ha (fun q => by cases q) w
      have g := pp_n (N := G.1.2.2) (fr := S0.2.1.2) hE hu f 0 8 0 (adv S) (fun q => ⟨(hq q).2.1, fun w => by cases w⟩)
      rw [w] at g
      have hp1 := hp.tr ((pK.adv hl).tr o.1)
      refine fin_k hp1 (Nat.lt_of_lt_of_le hlt ((pK.adv hl).tr o.1).1) hd (fun w1 => ?_)
      obtain ⟨g1, g2, g3, g4, g5⟩ := g w1
      obtain ⟨a1, a2, a3, a4⟩ := hq g1
      have g2 : S.2.1.2 ≤ S1.2.1.2 := g2
      exact ⟨a1, g5, a3, fun z p hp => ⟨(a4 z p hp).1, Nat.lt_of_lt_of_le (a4 z p hp).2 g2⟩, fun t ht => by cases ht; exact ⟨g3, g4⟩⟩
  · exact fin_k hp hlt hd (fun w => by obtain ⟨a1, a2, a3, a4⟩ := hq w; exact ⟨a1, a2, a3, a4, fun t ht => by cases ht⟩)
theorem o1_k (hl : S.1.1 < n) : pK n S (gO1 S) ∧ ((gO1 S).1.2 = none → min 16 S.2.1.1 ≠ 16 ∧ S.1.2 = none) := by
  refine ⟨⟨Nat.le_succ _, hl, Nat.le_refl _, by show S.2.1.2 + S.1.1 ≤ S.2.1.2 + (S.1.1 + 1); omega, fun _ _ _ _ => rfl, fun _ _ _ _ => rfl, rfl, rfl, fun x q => ?_⟩, fun q => ?_⟩
  · show (if min 16 S.2.1.1 = 16 then mrk S.1.2 4 S.1.1 else S.1.2) = some x
    split
    · exact mrk_s q
    · exact q
  · have q : (if min 16 S.2.1.1 = 16 then mrk S.1.2 4 S.1.1 else S.1.2) = none := q
    split at q
    · exact absurd q mrk_n
    · rename_i w; exact ⟨w, q⟩
theorem or_k {E : PE} (hK : KOk E.1 n) {f : Nat} (hf : n + 70 ≤ f) {S0 : PS} {G : GX} (hE : ∀ k v, E.2.2 k = some v → v < G.1.2.2) (hu : ∀ k, E.1 k = 31 → E.2.1 k < 10 ^ 6) (hl : S0.1.1 < n) (hd : dz ≤ 2) : gR n S0 (lK n S0 G) (gOr E f dz S0 G) := by
  unfold gOr
  obtain ⟨o1, o2⟩ := o1_k hl
  refine gR.B pN_n (fun t w => ?_) (fun tl S2 w => ?_)
  · rcases pN_s w with ⟨-, h⟩ | ⟨-, h⟩
    · cases h; exact ⟨Nat.le_succ _, hl⟩
    · cases h
  · obtain ⟨j2, -, -⟩ := pK.nm hK (S := gO1 S0) o1.2.1 w
    have k2 := o1.tr j2.1
    have l2 : S0.1.1 < S2.1.1 := Nat.lt_of_lt_of_le (show S0.1.1 < S0.1.1 + 1 by omega) j2.1.1
    have e2 : S2.1.2 = none → S0.2.1.1 ≠ 16 ∧ Gd G.1.2.2 S0.2.1.2 S2.2 ∧ tl < G.1.2.2 := fun q => by
      obtain ⟨a1, a2, a3, -, -⟩ := pN_e (N := G.1.2.2) hE w q
      obtain ⟨b1, b2⟩ := o2 a1
      refine ⟨by omega, ?_, a2⟩
      rw [a3]
      exact ⟨Nat.le_refl _, fun j h1 h2 => absurd h2 (Nat.not_lt.mpr h1)⟩
    have hr : rkN 3 = 2 := rfl
    have st : ∀ (S3 : PS) (c : Nat), (c ≠ 32 ∧ c ≠ 33) → kd E S3 = c → S3.1.1 ≤ n → S3.1.1 < n := fun S3 c hc h1 h2 => hK.lt h2 (by rw [show E.1 S3.1.1 = c from h1]; exact hc)
    have ex : ∀ (S3 : PS) (g : Nat → PS → GR), pK n S0 S3 → (S3.1.2 = none → Gd G.1.2.2 S0.2.1.2 S3.2) → (∀ i S4, pK n S3 S4 → (S4.1.2 = none → S3.1.2 = none ∧ S3.2.1.2 ≤ S4.2.1.2 ∧ S0.2.1.2 ≤ i ∧ i < S4.2.1.2 ∧ Gd G.1.2.2 S0.2.1.2 S4.2) → gR n S0 (lK n S0 G) (g i S4)) → gR n S0 (lK n S0 G) (gB (pp E f 0 3 0 S3) g) := fun S3 g hp hG hk => by
      refine gR.B (pp_t hK f 0 3 0 S3 (by decide) hp.2.1 (fun q => by cases q) (by omega)) (fun t w => ?_) (fun i S4 w => ?_)
      · have := pp_w hK hp.2.1 (fun q => by cases q) w
        have := hp.1
        omega
      · have o := pp_o hK hp.2.1 (fun q => by cases q) w
        have g := pp_n (N := G.1.2.2) (fr := S0.2.1.2) hE hu f 0 3 0 S3 (fun q => ⟨hG q, fun w => by cases w⟩)
        rw [w] at g
        exact hk i S4 o.1 g
    split
    · refine gR.T (Nat.le_of_lt l2) k2.2.1 (fun q3 => ?_)
      have l3 := st S2 4 (by decide) q3 k2.2.1
      have k3 := k2.tr (pK.adv l3)
      refine ex (adv S2) _ k3 (fun q => (e2 q).2.1) (fun i0 S4 p4 g4 => ?_)
      have k4 := k3.tr p4
      refine gR.T k4.1 k4.2.1 (fun q5 => ?_)
      have l5 := st S4 54 (by decide) q5 k4.2.1
      have k5 := k4.tr (pK.adv l5)
      refine ex (adv S4) _ k5 (fun q => (g4 q).2.2.2.2) (fun i1 S6 p6 g6 => ?_)
      have k6 := k5.tr p6
      refine gR.T k6.1 k6.2.1 (fun q7 => ?_)
      have l7 := st S6 5 (by decide) q7 k6.2.1
      have k7 := k6.tr (pK.adv l7)
      refine ex (adv S6) _ k7 (fun q => (g6 q).2.2.2.2) (fun i2 S8 p8 g8 => ?_)
      have k8 := k7.tr p8
      have l8 : S0.1.1 < S8.1.1 := by
        have a1 := ((pK.adv l3).tr (p4.tr ((pK.adv l5).tr (p6.tr ((pK.adv l7).tr p8))))).1
        omega
      refine ot_k hK hf hE hu k8 l8 hd (fun q => ?_)
      obtain ⟨a1, a2, a3, a4, a5⟩ := g8 q
      obtain ⟨b1, b2, b3, b4, b5⟩ := g6 a1
      obtain ⟨c1, c2, c3, c4, c5⟩ := g4 b1
      obtain ⟨d1, d2, d3⟩ := e2 c1
      have a2 : S6.2.1.2 ≤ S8.2.1.2 := a2
      have b2 : S4.2.1.2 ≤ S6.2.1.2 := b2
      refine ⟨d1, a5, d3, fun _ p hp => ?_⟩
      show S0.2.1.2 ≤ (if p = 0 then i0 else if p = 1 then i1 else i2) ∧ (if p = 0 then i0 else if p = 1 then i1 else i2) < S8.2.1.2
      split
      · exact ⟨c3, by omega⟩
      · split
        · exact ⟨b3, by omega⟩
        · exact ⟨a3, a4⟩
    · rename_i hz
      have hz : dz ≠ 0 := hz
      exact ot_k hK hf hE hu k2 l2 hd (fun q => by obtain ⟨a1, a2, a3⟩ := e2 q; exact ⟨a1, a2, a3, fun w => absurd w hz⟩)
end PB31
