section PB32
set_option maxRecDepth 100000
variable {n : Nat}
theorem gR.m {S S1 : PS} {P P1 : GZ → Prop} {r : GR} (h : gR n S1 P1 r) (hs : S.1.1 ≤ S1.1.1) (hp : ∀ Z, P1 Z → P Z) : gR n S P r := by
  cases r with
  | none => exact h
  | some y =>
    cases y with
    | inl t => exact ⟨Nat.le_trans hs h.1, h.2⟩
    | inr Z => exact hp Z h
theorem sK.av {S : PS} (h : S.1.1 < n) : sK n S (adv S) := (pK.adv h).s
theorem GzI.av {S : PS} {G : GX} (h : GzI (S, G)) : GzI (adv S, G) := ⟨h.1, h.2.1, Nat.le_succ_of_le h.2.2.1, h.2.2.2⟩
theorem li_k {E : PE} (hK : KOk E.1 n) {f : Nat} (hf : n + 70 ≤ f) {S : PS} {G : GX} (hE : ∀ k v, E.2.2 k = some v → v < G.1.2.2) (hu : ∀ k, E.1 k = 31 → E.2.1 k < 10 ^ 6) (hS : S.1.1 ≤ n) : gR n S (lK n S G) (gLi E f S G) := by
  have st : ∀ c : Nat, (c ≠ 32 ∧ c ≠ 33) → kd E S = c → S.1.1 < n := fun c hc h1 => hK.lt hS (by rw [show E.1 S.1.1 = c from h1]; exact hc)
  unfold gLi
  split
  · rename_i q
    have hl := st 2 (by decide) q
    refine (gTi_k hK (S := adv S) (G := G) hl).m (Nat.le_succ _) (fun Z h => ?_)
    obtain ⟨h1, h2, h3⟩ := h
    exact ⟨(sK.av hl).tr h1, Nat.lt_of_succ_lt h2, fun a b => h3 a b.av⟩
  · split
    · rename_i q; exact or_k hK hf hE hu (st 3 (by decide) q) (by decide)
    · split
      · rename_i q; exact or_k hK hf hE hu (st 6 (by decide) q) (by decide)
      · split
        · rename_i q; exact or_k hK hf hE hu (st 7 (by decide) q) (by decide)
        · exact ⟨Nat.le_refl _, hS⟩
/-- what the lines keep -/
def mK (n : Nat) (S : PS) (G : GX) (Z : GZ) : Prop := sK n S Z.1 ∧ (Z.1.1.2 = none → GzI (S, G) → GzI Z)
theorem env_E {t : TP} {G : GX} : ∀ k v, (envQ t G).2.2 k = some v → v < G.1.2.2 := fun k v h => by
  have := (ff_lt _ _ _ h).1
  omega
theorem env_u {t : TP} {G : GX} : ∀ k, (envQ t G).1 k = 31 → (envQ t G).2.1 k < 10 ^ 6 := fun k h => tkN_lt (tK_tk h (by decide) (by decide))
theorem ls_k {t : TP} {f : Nat} (hf : tl t + 70 ≤ f) : ∀ g S G, S.1.1 ≤ tl t → tl t - S.1.1 < g → gR (tl t) S (mK (tl t) S G) (gLs t f g S G)
  | 0, _, _, _, h => absurd h (Nat.not_lt_zero _)
  | g + 1, S, G, hS, hg => by
    unfold gLs
    split
    · exact ⟨⟨Nat.le_refl _, hS, fun _ q => q, Nat.le_refl _⟩, fun _ q => q⟩
    · have h := li_k (E := envQ t G) (tK_ok t) hf env_E env_u hS
      split
      · rename_i q; rw [q] at h; exact h
      · rename_i u q; rw [q] at h; exact h
      · rename_i S1 G1 q
        rw [q] at h
        obtain ⟨h1, h2, h3⟩ := h
        have h1 : sK (tl t) S S1 := h1
        have h2 : S.1.1 < S1.1.1 := h2
        refine gR.T h1.1 h1.2.1 (fun q2 => ?_)
        have hl : S1.1.1 < tl t := (tK_ok t).lt h1.2.1 (by rw [show tK t S1.1.1 = 53 from q2]; decide)
        refine (ls_k hf g (adv S1) G1 hl (by show tl t - (S1.1.1 + 1) < g; omega)).m (Nat.le_succ_of_le h1.1) (fun Z hZ => ?_)
        obtain ⟨z1, z2⟩ := hZ
        exact ⟨(h1.tr (sK.av hl)).tr z1, fun a b => z2 a (GzI.av (h3 ((sK.av hl).nb (z1.nb a)) b))⟩
theorem bd_k {E : PE} (hK : KOk E.1 n) {S : PS} {G : GX} (hS : S.1.1 ≤ n) : gR n S (mK n S G) (gBd E S G) := by
  unfold gBd
  split
  · rename_i q
    have hl : S.1.1 < n := hK.lt hS (by rw [show E.1 S.1.1 = 0 from q]; decide)
    have s0 := sK.av hl
    refine gR.B pU_n (fun t w => ?_) (fun a S1 w => ?_)
    · have := pU_w w; subst this; exact ⟨s0.1, s0.2.1⟩
    obtain ⟨k1, p1, e1, v1, -, r1⟩ := pU_o hK s0.2.1 w
    have s1 := s0.tr k1
    refine gR.T s1.1 s1.2.1 (fun q2 => ?_)
    have l1 : S1.1.1 < n := hK.lt s1.2.1 (by rw [show E.1 S1.1.1 = 1 from q2]; decide)
    have s2 := s1.tr (sK.av l1)
    refine gR.B pU_n (fun t w => ?_) (fun b S3 w => ?_)
    · have := pU_w w; subst this; exact ⟨s2.1, s2.2.1⟩
    obtain ⟨k3, p3, e3, v3, -, r3⟩ := pU_o hK s2.2.1 w
    have s3 := s2.tr k3
    refine gR.T s3.1 s3.2.1 (fun q4 => ?_)
    have l3 : S3.1.1 < n := hK.lt s3.2.1 (by rw [show E.1 S3.1.1 = 53 from q4]; decide)
    refine ⟨s3.tr (sK.av l3), fun hn hI => ?_⟩
    have hn : S3.1.2 = none := hn
    have n1 : S1.1.2 = none := k3.nb hn
    have ra := inB_le (r1 n1)
    have rb := inB_le (r3 hn)
    have eS : S3.2 = S.2 := e3.trans e1
    obtain ⟨i1, i2, i3, i4, i5, i6⟩ := hI
    refine ⟨by show S3.2.1.1 ≤ 16; rw [eS]; exact i1, i2, ?_, ?_, i5, ra.1, ra.2, rb.1, rb.2⟩
    · show S3.2.1.2 ≤ S3.1.1 + 1
      have i3 : S.2.1.2 ≤ S.1.1 := i3
      have := s3.2.2.2
      omega
    · show ∀ k, k < S3.2.1.1 → orG G.1.2.2 S3.2 k
      rw [eS]; exact i4
  · exact ⟨⟨Nat.le_refl _, hS, fun _ q => q, Nat.le_refl _⟩, fun _ q => q⟩
def s00 : PS := ((0, none), ((0, 0), (fun _ _ => 0), fun _ => none))
def g00 : GX := ((5, 5, 0), (fun _ _ => 0), fun _ => 0)
theorem GzI.q0 : GzI (s00, g00) := ⟨by decide, by decide, by decide, fun k h => absurd h (Nat.not_lt_zero _), fun k h => absurd h (Nat.not_lt_zero _), by decide, by decide, by decide, by decide⟩
/-- the whole text -/
theorem ga_k (t : TP) : gR (tl t) s00 (mK (tl t) s00 g00) (gGa t 480 402 s00 g00) := by
  unfold gGa
  have h := bd_k (E := envQ t g00) (tK_ok t) (S := s00) (G := g00) (Nat.zero_le _)
  have ht := tl_le t
  cases hb : gBd (envQ t g00) s00 g00 with
  | none => rw [hb] at h; exact h
  | some y =>
    rw [hb] at h
    cases y with
    | inl u => exact h
    | inr Z =>
      obtain ⟨S1, G1⟩ := Z
      obtain ⟨h1, h2⟩ := h
      have h1 : sK (tl t) s00 S1 := h1
      refine (ls_k (by omega) 402 S1 G1 h1.2.1 (by omega)).m h1.1 (fun Z hZ => ?_)
      obtain ⟨z1, z2⟩ := hZ
      exact ⟨h1.tr z1, fun a b => z2 a (h2 (z1.nb a) b)⟩
theorem ga_r (t : TP) : RG (gGa t 480 402 s00 g00) (gaQ t 488 403 q0Q) := RG.ga (Q := q0Q) (S := s00) (Nat.zero_le _) ⟨rfl, rfl, rfl, rfl, rfl⟩
end PB32
