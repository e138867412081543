/-! ===== the map's bins without the map's own cell ===== -/
section HM4
set_option maxRecDepth 100000
theorem NxL.mem {p : PT} {i j : Nat} : ∀ {l : List Nat}, NxL p l → i ∈ l → p 0 i = some j → j ∈ l
  | [], _, hi, _ => by cases hi
  | a :: r, h, hi, hp => by
    rcases List.mem_cons.mp hi with e | e
    · rw [e, h.1] at hp
      exact List.mem_cons_of_mem _ (List.mem_of_head? hp)
    · exact List.mem_cons_of_mem _ (NxL.mem h.2 e hp)
theorem dO_mem {G : Nat → Prop} {lt : Nat → Nat → Prop} {p : PT} {D : Nat → List Nat} {rt : Nat} (h : TrG G lt p D rt) {i j : Nat} {o : Option Nat} (hi : G i) (ho : p 2 i = o ∨ p 3 i = o) (hj : j ∈ dO D o) : G j := by
  cases o with
  | none => cases hj
  | some c =>
    have gc : G c := (h.2.1 i c hi ho).1
    exact h.2.2.2.2.2.2.1 j ((h.2.2.2.2.2.1 c gc).subset hj)
theorem TrG.lc {G : Nat → Prop} {lt lt' : Nat → Nat → Prop} {p : PT} {D : Nat → List Nat} {rt : Nat} (h : TrG G lt p D rt) (hl : ∀ i j, G i → G j → lt i j → lt' i j) : TrG G lt' p D rt := by
  obtain ⟨h1, h2, h3, h4, h5, h6, h7, h8⟩ := id h
  exact ⟨h1, h2, h3, h4, h5, h6, h7, fun i hi => ⟨fun j hj => hl j i (dO_mem h hi (Or.inl rfl) hj) hi ((h8 i hi).1 j hj), fun j hj => hl i j hi (dO_mem h hi (Or.inr rfl) hj) ((h8 i hi).2 j hj)⟩⟩
/-- a bin that is not touched -/
theorem BnH.cg {h h' : AH} {E E' : ND} {p p' : PT} {rd rd' : Nat → Bool} {lt lt' : Nat → Nat → Prop} {l : List Nat} {tr : Bool} {o : Option Nat} (H : BnH h E p rd lt l tr o) (hE : ∀ i, i ∈ l → nA E' i = nA E i ∧ nH E' i = nH E i ∧ nK E' i = nK E i ∧ nV E' i = nV E i) (hp : ∀ i, i ∈ l → (∀ f, p' f i = p f i) ∧ rd' i = rd i) (hlt : ∀ i j, i ∈ l → j ∈ l → lt i j → lt' i j) (hk : ∀ i e, i ∈ l → h (nA E i) = some e → h' (nA E i) = some e) : BnH h' E' p' rd' lt' l tr o := by
  have hm : ∀ (o9 : Option Nat), (∀ j, o9 = some j → j ∈ l) → o9.map (nA E') = o9.map (nA E) := fun o9 h9 => by
    cases o9 with
    | none => rfl
    | some j => show some _ = some _; rw [(hE j (h9 j rfl)).1]
  cases tr with
  | false =>
    obtain ⟨h1, h2, h3⟩ := H
    refine ⟨fun i hi => ?_, h2.cg (fun i hi => (hp i hi).1 0), h3⟩
    obtain ⟨e1, e2, e3, e4⟩ := hE i hi
    rw [e1, hk i _ hi (h1 i hi)]
    unfold cNd
    rw [e2, e3, e4, (hp i hi).1 0, hm _ (fun j hj => h2.mem hi hj)]
  | true =>
    obtain ⟨D, rt, h1, h2, h3, h4, h5⟩ := H
    have hc := ClA.of h2 h3
    refine ⟨D, rt, ⟨fun i hi => ?_, fun i j hi hj e => ?_⟩, (h2.lc hlt).cg (fun f i hi _ => (hp i hi).1 f), fun i hi f hf j hj => ?_, ?_, h5⟩
    · obtain ⟨e1, e2, e3, e4⟩ := hE i hi
      rw [e1, hk i _ hi (h1.1 i hi)]
      unfold cTn
      rw [e2, e3, e4, (hp i hi).1 0, (hp i hi).1 1, (hp i hi).1 2, (hp i hi).1 3, (hp i hi).1 4, (hp i hi).2, hm _ (fun j hj => hc i hi 0 (by decide) j hj), hm _ (fun j hj => hc i hi 1 (by decide) j hj), hm _ (fun j hj => hc i hi 2 (by decide) j hj), hm _ (fun j hj => hc i hi 3 (by decide) j hj), hm _ (fun j hj => hc i hi 4 (by decide) j hj)]
    · rw [(hE i hi).1, (hE j hj).1] at e; exact h1.2 i j hi hj e
    · rw [(hp i hi).1 f] at hj; exact h3 i hi f hf j hj
    · rw [(hp rt h2.2.2.2.1).1 0]; exact h4
/-- all of HmI but the map's own cell -/
def HmB (Γ : Gm) (z : ZR) (h : AH) (n nt tb : Nat) (S : HS) (tm : Nat → Nat) (tu : Nat → Nat → Nat) : Prop :=
  ((nt = 0 ∧ n = 0) ∨ ((nt = 16 ∨ nt = 32 ∨ nt = 64) ∧ ∃ T, h tb = some (.inl (gA Γ 5, (nt, refs T))) ∧ ∀ b, b < nt → T b = (S.2.2.2.2.2 b).map (nA S.1))) ∧
  (∀ b, b < nt → BnH h S.1 S.2.1 S.2.2.1 (ltT S.1 tm tu) (S.2.2.2.1 b) (S.2.2.2.2.1 b) (S.2.2.2.2.2 b) ∧ (S.2.2.2.1 b).Nodup ∧ (∀ i, i ∈ S.2.2.2.1 b ↔ i < n ∧ bx nt (nH S.1 i) = b) ∧ (S.2.2.2.2.1 b = true → nt = 64)) ∧
  (∀ i j, i < n → j < n → nA S.1 i = nA S.1 j → i = j) ∧ NkH Γ z h (fun i => i < n) S.1 tm tu ∧ (∀ i j, i < n → j < n → i ≠ j → tlU (tm i) (tu i) ≠ tlU (tm j) (tu j)) ∧ n ≤ 16
def cMp (nt tb k : Nat) (mc : Int32) (lf : UInt32) : va_E := .inr (27, [.null, .null, if nt = 0 then .null else .ref tb, .null, .int (nI k), .int mc, .int (nI (nt * 3 / 4)), .float lf])
theorem HmI.b {Γ : Gm} {z : ZR} {h : AH} {mp n nt tb : Nat} {mc : Int32} {lf : UInt32} {S : HS} {tm : Nat → Nat} {tu : Nat → Nat → Nat} : HmI Γ z h mp n nt tb mc lf S tm tu ↔ h mp = some (cMp nt tb n mc lf) ∧ HmB Γ z h n nt tb S tm tu := Iff.rfl
/-- a table of 16 or 32: lists alone -/
theorem HmB.ls {Γ : Gm} {z : ZR} {h : AH} {n nt tb : Nat} {S : HS} {tm : Nat → Nat} {tu : Nat → Nat → Nat} (H : HmB Γ z h n nt tb S tm tu) (hnt : nt = 16 ∨ nt = 32) : NdA h n S.1 S.2.1 ∧ ∀ b, b < nt → NxL S.2.1 (S.2.2.2.1 b) ∧ S.2.2.2.2.2 b = (S.2.2.2.1 b).head? ∧ S.2.2.2.2.1 b = false := by
  obtain ⟨a2, a3, a4, a5, a6, a7⟩ := H
  have hf : ∀ b, b < nt → S.2.2.2.2.1 b = false := fun b hb => by
    cases e : S.2.2.2.2.1 b with
    | false => rfl
    | true => have := (a3 b hb).2.2.2 e; omega
  refine ⟨⟨fun i hi => ?_, a4⟩, fun b hb => ?_⟩
  · have hb := (bx_e (nt := nt) (by omega) (nH S.1 i)).2
    obtain ⟨b1, b2, b3, b4⟩ := a3 _ hb
    rw [hf _ hb] at b1
    exact b1.1 i ((b3 i).mpr ⟨hi, rfl⟩)
  · obtain ⟨b1, b2, b3, b4⟩ := a3 b hb
    rw [hf b hb] at b1
    exact ⟨b1.2.1, b1.2.2, hf b hb⟩
/-- a bin's halves: who lies in them -/
theorem spB_mem {E : ND} {n nt b i : Nat} {B : Nat → List Nat} (hnt : nt = 16 ∨ nt = 32) (hmem : ∀ b, b < nt → ∀ i, i ∈ B b ↔ i < n ∧ bx nt (nH E i) = b) : i ∈ spB E nt B b ↔ i < n ∧ bx (2 * nt) (nH E i) = b := by
  have hm : b % nt < nt := Nat.mod_lt _ (by omega)
  have hx := (bx_e (nt := nt) (by omega) (nH E i)).2
  unfold spB
  rw [List.mem_filter, hmem _ hm]
  constructor
  · rintro ⟨⟨h1, h2⟩, h3⟩
    exact ⟨h1, of_decide_eq_true h3⟩
  · rintro ⟨h1, h2⟩
    refine ⟨⟨h1, ?_⟩, decide_eq_true h2⟩
    rw [← h2, bx_2 hnt]
    split
    · rw [Nat.add_zero, Nat.mod_eq_of_lt hx]
    · rw [Nat.add_mod_right, Nat.mod_eq_of_lt hx]
/-- names are kept where the map alone changes -/
theorem FrM.sk {Γ : Gm} {h h' : AH} {mp tb n nt : Nat} {E : ND} {T : Nat → Option Nat} {fs : List Value} (hF : FrM h h' mp tb n E) (h1 : h mp = some (.inr (27, fs))) (h2 : h tb = some (.inl (gA Γ 5, (nt, refs T)))) (h3 : ∀ i, i < n → ∃ c gs, h (nA E i) = some (.inr (c, gs)) ∧ c ≠ 25) : StK Γ h h' := by
  refine ⟨fun s gs hs => hF s _ hs ?_ ?_ (fun i hi e => ?_), fun w m f hw => hF w _ hw ?_ ?_ (fun i hi e => ?_)⟩
  · intro e; rw [e, h1] at hs; simp at hs
  · intro e; rw [e, h2] at hs; cases hs
  · obtain ⟨c, g, k1, k2⟩ := h3 i hi
    rw [e, k1] at hs; simp at hs; exact k2 hs.1
  · intro e; rw [e, h1] at hw; cases hw
  · intro e; rw [e, h2] at hw; simp [refs] at hw
  · obtain ⟨c, g, k1, k2⟩ := h3 i hi
    rw [e, k1] at hw; cases hw
/-- the map of double size -/
def rzS (S : HS) (nt : Nat) (p' : PT) : HS := (S.1, p', S.2.2.1, spB S.1 nt S.2.2.2.1, fun _ => false, fun b => (spB S.1 nt S.2.2.2.1 b).head?)
theorem HmB.rz {Γ : Gm} {z : ZR} {h h' : AH} {mp n nt tb tb2 : Nat} {S : HS} {tm : Nat → Nat} {tu : Nat → Nat → Nat} {fs : List Value} {p' : PT} {T' : Nat → Option Nat} (H : HmB Γ z h n nt tb S tm tu) (hnt : nt = 16 ∨ nt = 32) (hmp : h mp = some (.inr (27, fs))) (c1 : h' tb2 = some (.inl (gA Γ 5, (2 * nt, refs T')))) (c2 : ∀ b, b < 2 * nt → T' b = (spB S.1 nt S.2.2.2.1 b).head?.map (nA S.1) ∧ NxL p' (spB S.1 nt S.2.2.2.1 b)) (c3 : NdA h' n S.1 p') (c4 : FrM h h' mp tb n S.1) : HmB Γ z h' n (2 * nt) tb2 (rzS S nt p') tm tu := by
  have hL := H.ls hnt
  obtain ⟨a2, a3, a4, a5, a6, a7⟩ := H
  rcases a2 with g | ⟨-, T, k1, k2⟩
  · omega
  have hmem : ∀ b, b < nt → ∀ i, i ∈ S.2.2.2.1 b ↔ i < n ∧ bx nt (nH S.1 i) = b := fun b hb => (a3 b hb).2.2.1
  have hk : StK Γ h h' := c4.sk hmp k1 (fun i hi => ⟨28, _, hL.1.1 i hi, by decide⟩)
  refine ⟨Or.inr ⟨by omega, T', c1, fun b hb => (c2 b hb).1⟩, fun b hb => ⟨⟨fun i hi => c3.1 i ((spB_mem hnt hmem).mp hi).1, (c2 b hb).2, rfl⟩, ?_, fun i => spB_mem hnt hmem, fun e => by cases e⟩, a4, a5.sk hk, a6, a7⟩
  exact ((a3 (b % nt) (Nat.mod_lt _ (by omega))).2.1).filter _
end HM4
