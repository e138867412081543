section W13
set_option maxRecDepth 100000
/-- a static that holds a reference, any one -/
theorem gs_any {Γ : Gm} (hΓ : GOK Γ) {Cn nm ds : String} (hn : Cond.isRef (.static Cn nm ds) ∈ flatL) (hly : Cond.laysStatic Cn nm ds ∈ lw_tbl) (hini : Cond.initialized Cn ∈ lw_all) : ∃ o : Option Nat, va_Z Cn nm ds (va_rf o) (fun a => gN Γ ≤ a) (gS Γ) (gS Γ).heap := by
  obtain ⟨a0, hT, -, -, -, hN, -⟩ := hΓ
  have hb := flat_of_before _ hN _ hn
  cases hv : (Term.static Cn nm ds).eval a0 (gS Γ) none [] (gS Γ) with
  | none => simp [Cond.before, Cond.holds, Cond.value, hv] at hb
  | some w =>
    simp only [Cond.before, Cond.holds, Cond.value, hv] at hb
    cases w with
    | ref a => exact ⟨some a, va_Zof (hT _ hly) (hT _ (lw_all_tbl hini)) hv (fun a ha => Nat.not_le.mpr ha)⟩
    | null => exact ⟨none, va_Zof (hT _ hly) (hT _ (lw_all_tbl hini)) hv (fun a ha => Nat.not_le.mpr ha)⟩
    | _ => simp at hb
/-- a byte of a char -/
def bs (c : Nat) : Int32 := (nI c).toInt8.toInt32
theorem bs_nar (c : Nat) : narrow .byte (.int (nI c)) = .int (bs c) := rfl
theorem bs_and0 : ∀ c, c < 256 → bs c &&& nI 255 = nI c := by decide +kernel
theorem bs_and {c : Nat} (h : c < 256) : bs c &&& nI 255 = nI c := bs_and0 c h
theorem bs_lo0 : ∀ c, c < 128 → bs c = nI c := by decide +kernel
theorem bs_eq {c d : Nat} (hc : c < 256) (hd : d < 256) : bs c = bs d ↔ c = d := by
  refine ⟨fun h => ?_, fun h => by rw [h]⟩
  have h1 := bs_and hc
  rw [h, bs_and hd] at h1
  exact ((nI_eq (by omega) (by omega)).mp h1).symm
theorem i2c0 : ∀ c, c < 256 → ((nI c).toUInt32 % 65536).toInt32 = nI c := by decide +kernel
theorem nar_c0 : ∀ c, c < 256 → narrow .char (.int (nI c)) = .int (nI c) := by decide +kernel
theorem nar_c {c : Nat} (h : c < 256) : narrow .char (.int (nI c)) = .int (nI c) := nar_c0 c h
/-- a String: its length and chars (Latin-1) -/
def StU (Γ : Gm) (z : ZR) (h : AH) (a n : Nat) (u : Nat → Nat) : Prop := ∃ (v : Nat) (x y : Int32) (f : Nat → Int32), rd z h a (.inr (25, [.ref v, .int (nI 0), .int x, .int y])) ∧ rd z h v (.inl (gA Γ 1, (n, .inl f))) ∧ n < 2 ^ 20 ∧ ∀ i, i < n → f i = bs (u i) ∧ u i < 256
theorem StU.rc {Γ : Gm} (hΓ : GOK Γ) {z : ZR} {h : AH} {a n : Nat} {u : Nat → Nat} (hs : StU Γ z h a n u) : rcv Γ z h a "java/lang/String" := by
  obtain ⟨v, x, y, f, h1, -⟩ := hs
  exact rc_J11 hΓ h1
theorem StU.mono {Γ : Gm} {z z' : ZR} {h h' : AH} {a n : Nat} {u : Nat → Nat} (hs : StU Γ z h a n u) (hz : zle z z') (hh : hle h h') : StU Γ z' h' a n u := by
  obtain ⟨v, x, y, f, h1, h2, h3⟩ := hs
  exact ⟨v, x, y, f, h1.mono hz hh, h2.mono hz hh, h3⟩
theorem stT_ok : ∀ k, k < 91 → (tx k).length < 40 ∧ ∀ c ∈ tx k, c < 128 := by decide +kernel
theorem cst_st {Γ : Gm} {z : ZR} {h : AH} (hz : zle (cst Γ) z) {k : Nat} (hk : k < 91) : StU Γ z h (gE Γ (100 + k)) (tx k).length (fun j => (tx k).getD j 0) := by
  obtain ⟨h1, h2⟩ := stT_ok k hk
  refine ⟨gE Γ (2000 + k), _, _, fun j => nI ((tx k).getD j 0), Or.inr (hz _ _ (Or.inr (Or.inr (Or.inl ⟨k, hk, rfl, rfl⟩)))), Or.inr (hz _ _ (Or.inr (Or.inr (Or.inr (Or.inl ⟨k, hk, rfl, rfl⟩))))), by omega, fun i hi => ?_⟩
  have hc : (tx k).getD i 0 < 128 := by
    rw [List.getD_eq_getElem?_getD, List.getElem?_eq_getElem hi]
    exact h2 _ (List.getElem_mem hi)
  exact ⟨(bs_lo0 _ hc).symm, Nat.lt_trans hc (by decide)⟩
theorem shr0 {n : Nat} (h : n < 2 ^ 20) : nI n >>> (nI 0 &&& 31) = nI n := by
  rw [show (nI 0 &&& 31 : Int32) = 0 by decide]
  apply Int32.toBitVec_inj.mp
  rw [Int32.toBitVec_shiftRight]
  simp
end W13
