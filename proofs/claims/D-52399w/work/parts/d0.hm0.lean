/-! ===== a HashMap: its bins ===== -/
section HM0
set_option maxRecDepth 100000
def cNd (E : ND) (p : PT) (i : Nat) : va_E := .inr (28, [.int (nH E i), .ref (nK E i), .ref (nV E i), va_rf ((p 0 i).map (nA E))])
def NdH (h : AH) (l : List Nat) (E : ND) (p : PT) : Prop := ∀ i, i ∈ l → h (nA E i) = some (cNd E p i)
/-- a bin: a list, or a tree -/
def BnH (h : AH) (E : ND) (p : PT) (rd : Nat → Bool) (lt : Nat → Nat → Prop) (l : List Nat) (tr : Bool) (o : Option Nat) : Prop := match tr with
  | false => NdH h l E p ∧ NxL p l ∧ o = l.head?
  | true => ∃ D rt, TnH h (inL l) E p rd ∧ TrG (inL l) lt p D rt ∧ ClN (inL l) p ∧ p 0 rt ≠ none ∧ o = some rt
abbrev ltT (E : ND) (tm : Nat → Nat) (tu : Nat → Nat → Nat) : Nat → Nat → Prop := ltN (nH E) (txN tm tu)
/-- the shape of a map: nodes, pointers, colours, bins, which are trees, their first nodes -/
abbrev HS : Type := ND × PT × (Nat → Bool) × (Nat → List Nat) × (Nat → Bool) × (Nat → Option Nat)
def HmI (Γ : Gm) (z : ZR) (h : AH) (mp n nt tb : Nat) (mc : Int32) (lf : UInt32) (S : HS) (tm : Nat → Nat) (tu : Nat → Nat → Nat) : Prop :=
  h mp = some (.inr (27, [.null, .null, if nt = 0 then .null else .ref tb, .null, .int (nI n), .int mc, .int (nI (nt * 3 / 4)), .float lf])) ∧
  ((nt = 0 ∧ n = 0) ∨ ((nt = 16 ∨ nt = 32 ∨ nt = 64) ∧ ∃ T, h tb = some (.inl (gA Γ 5, (nt, refs T))) ∧ ∀ b, b < nt → T b = (S.2.2.2.2.2 b).map (nA S.1))) ∧
  (∀ b, b < nt → BnH h S.1 S.2.1 S.2.2.1 (ltT S.1 tm tu) (S.2.2.2.1 b) (S.2.2.2.2.1 b) (S.2.2.2.2.2 b) ∧ (S.2.2.2.1 b).Nodup ∧ (∀ i, i ∈ S.2.2.2.1 b ↔ i < n ∧ bx nt (nH S.1 i) = b) ∧ (S.2.2.2.2.1 b = true → nt = 64)) ∧
  (∀ i j, i < n → j < n → nA S.1 i = nA S.1 j → i = j) ∧ NkH Γ z h (fun i => i < n) S.1 tm tu ∧ (∀ i j, i < n → j < n → i ≠ j → tlU (tm i) (tu i) ≠ tlU (tm j) (tu j)) ∧ n ≤ 16
/-- all but Strings is kept -/
def NoS (h h' : AH) : Prop := ∀ q e, h q = some e → (∀ fs, e ≠ .inr (25, fs)) → h' q = some e
theorem NoS.of {Γ : Gm} {z : ZR} {h h1 : AH} {s m : Nat} {u : Nat → Nat} (H1 : NmS Γ z h s m u) (hF : ∀ q, q ≠ s → h1 q = h q) : NoS h h1 := fun q e hq hn => by
  obtain ⟨w, x, y, f, a1, -⟩ := H1
  rw [hF q (fun e9 => by rw [e9, a1] at hq; exact hn _ (Option.some.inj hq).symm)]; exact hq
theorem NmS.ex {Γ : Gm} {z : ZR} {h : AH} {s m m2 : Nat} {u v : Nat → Nat} (H : NmS Γ z h s m u) (e : m = m2 ∧ ∀ i, i < m → u i = v i) : NmS Γ z h s m2 v := by
  obtain ⟨w, x, y, f, a1, a2, a3, a4, a5⟩ := H
  obtain ⟨rfl, e2⟩ := e
  refine ⟨w, x, y, f, a1, a2, a3, fun i hi => by rw [← e2 i hi]; exact a4 i hi, ?_⟩
  unfold hOK at *
  rw [← hsU_ext m e2]
  exact a5
theorem NmS.hs {Γ : Gm} {z : ZR} {h h1 : AH} {s m s2 m2 : Nat} {u v : Nat → Nat} (H2 : NmS Γ z h s2 m2 v) (H1 : NmS Γ z h s m u) (N1 : NmS Γ z h1 s m u) (hF : ∀ q, q ≠ s → h1 q = h q) : NmS Γ z h1 s2 m2 v := by
  by_cases e : s2 = s
  · rw [e] at H2 ⊢
    exact N1.ex (H1.uq H2)
  · obtain ⟨w, x, y, f, a1, a2, a3⟩ := H2
    have a2' := NoS.of H1 hF w _ a2 (fun fs e9 => by cases e9)
    exact ⟨w, x, y, f, by rw [hF s2 e]; exact a1, a2', a3⟩
theorem NdH.ns {h h' : AH} {l : List Nat} {E : ND} {p : PT} (H : NdH h l E p) (hn : NoS h h') : NdH h' l E p := fun i hi => hn _ _ (H i hi) (fun fs e => by simp [cNd] at e)
theorem TnH.ns {h h' : AH} {G : Nat → Prop} {E : ND} {p : PT} {rd : Nat → Bool} (H : TnH h G E p rd) (hn : NoS h h') : TnH h' G E p rd := ⟨fun i hi => hn _ _ (H.1 i hi) (fun fs e => by simp [cTn] at e), H.2⟩
theorem BnH.ns {h h' : AH} {E : ND} {p : PT} {rd : Nat → Bool} {lt : Nat → Nat → Prop} {l : List Nat} {tr : Bool} {o : Option Nat} (H : BnH h E p rd lt l tr o) (hn : NoS h h') : BnH h' E p rd lt l tr o := by
  cases tr with
  | false => exact ⟨H.1.ns hn, H.2⟩
  | true =>
    obtain ⟨D, rt, h1, h2⟩ := H
    exact ⟨D, rt, h1.ns hn, h2⟩
/-- a hash was kept in a name's String -/
theorem HmI.hs {Γ : Gm} {z : ZR} {h h1 : AH} {mp n nt tb : Nat} {mc : Int32} {lf : UInt32} {S : HS} {tm : Nat → Nat} {tu : Nat → Nat → Nat} {s m : Nat} {u : Nat → Nat} (H : HmI Γ z h mp n nt tb mc lf S tm tu) (H1 : NmS Γ z h s m u) (N1 : NmS Γ z h1 s m u) (hF : ∀ q, q ≠ s → h1 q = h q) : HmI Γ z h1 mp n nt tb mc lf S tm tu := by
  have hn := NoS.of H1 hF
  obtain ⟨a1, a2, a3, a4, a5, a6, a7⟩ := H
  refine ⟨hn _ _ a1 (fun fs e => by simp at e), ?_, fun b hb => ⟨(a3 b hb).1.ns hn, (a3 b hb).2⟩, a4, fun i hi => ⟨(a5 i hi).1.hs H1 N1 hF, (a5 i hi).2⟩, a6, a7⟩
  rcases a2 with g | ⟨g1, T, g2, g3⟩
  · exact Or.inl g
  · exact Or.inr ⟨g1, T, hn _ _ g2 (fun fs e => by cases e), g3⟩
/-- a key's bin holds it, if any does -/
theorem HmI.bin {Γ : Gm} {z : ZR} {h : AH} {mp n nt tb : Nat} {mc : Int32} {lf : UInt32} {S : HS} {tm : Nat → Nat} {tu : Nat → Nat → Nat} {m : Nat} {u : Nat → Nat} (H : HmI Γ z h mp n nt tb mc lf S tm tu) (hnt : nt = 16 ∨ nt = 32 ∨ nt = 64) {r : Option Nat} (hr : FdR (inL (S.2.2.2.1 (bx nt (hsK u m)))) tm tu m u r) : FdR (fun i => i < n) tm tu m u r := by
  obtain ⟨a1, a2, a3, a4, a5, a6, a7⟩ := H
  have hb := (bx_e hnt (hsK u m)).2
  obtain ⟨b1, b2, b3, b4⟩ := a3 _ hb
  refine ⟨fun i e => ?_, fun e i hi q => ?_⟩
  · exact ⟨((b3 i).mp (hr.1 i e).1).1, (hr.1 i e).2⟩
  · refine hr.2 e i ((b3 i).mpr ⟨hi, ?_⟩) q
    rw [(a5 i hi).2, hsK_ext q]
/-- a key was looked for; its hash may be kept in it -/
def GnP (Γ : Gm) (z : ZR) (h : AH) (n : Nat) (E : ND) (tm : Nat → Nat) (tu : Nat → Nat → Nat) (s m : Nat) (u : Nat → Nat) : Oc → ZR → AH → Prop := Rv (fun v z' h' => z' = z ∧ (∃ r : Option Nat, v = va_rf (r.map (nA E)) ∧ FdR (fun i => i < n) tm tu m u r) ∧ NmS Γ z h' s m u ∧ ∀ q, q ≠ s → h' q = h q)
end HM0
