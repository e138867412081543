/-! ===== groups ===== -/
section PB9
set_option maxRecDepth 100000
/-- cells that are seen; the line; its length -/
abbrev GS : Type := (Nat → Bool) × (Nat → Nat) × Nat
def gst (B : GB) (s : GS) (y : Option Nat) : GS := if hasT B y && !(s.1 (y.getD 0)) then (va_up s.1 (y.getD 0) true, va_up s.2.1 s.2.2 (y.getD 0), s.2.2 + 1) else s
def ged (B : GB) (k : Nat) (s : GS) : Nat → GS
  | 0 => s
  | e + 1 => gst B (ged B k s e) (bes (Bc B) (Br B) ((ged B k s e).2.1 k) e)
def gbf (B : GB) : Nat → Nat → GS → GS
  | 0, _, s => s
  | f + 1, k, s => if k < s.2.2 then gbf B f (k + 1) (ged B k s 6) else s
def g0 (sn : Nat → Bool) (x : Nat) : GS := (va_up sn x true, va_up (fun _ => 0) 0 x, 1)
/-- groups among the first cells, and what is seen -/
def grp (B : GB) : Nat → Nat × (Nat → Bool)
  | 0 => (0, fun _ => false)
  | n + 1 => if hasT B (some n) && !((grp B n).2 n) then ((grp B n).1 + 1, (gbf B 50 0 (g0 (grp B n).2 n)).1) else grp B n
def GI (B : GB) (s : GS) : Prop := (∀ i, i < s.2.2 → s.2.1 i < Bz B) ∧ s.2.2 ≤ cnt s.1 (Bz B)
theorem cnt_up {f : Nat → Bool} {y : Nat} (hf : f y = false) : ∀ {n : Nat}, y < n → cnt (va_up f y true) n = cnt f n + 1
  | 0, h => absurd h (Nat.not_lt_zero _)
  | n + 1, h => by
    show cnt (va_up f y true) n + (if va_up f y true n then 1 else 0) = cnt f n + (if f n then 1 else 0) + 1
    by_cases q : n = y
    · have e : cnt (va_up f y true) n = cnt f n := by
        rw [cnt_sum, cnt_sum]
        exact sumN_congr (fun i hi => by simp [va_up, show i ≠ y by omega])
      rw [e, q, hf]; simp [va_up]
    · rw [cnt_up hf (n := n) (by omega)]
      simp [va_up, q]; omega
theorem cnt_lt {f : Nat → Bool} {y n : Nat} (hf : f y = false) (hy : y < n) : cnt f n < n := by
  have := cnt_lt1 hy hf
  omega
theorem gst_t {B : GB} {s : GS} {y : Nat} (h1 : hasT B (some y) = true) (h2 : s.1 y = false) : gst B s (some y) = (va_up s.1 y true, va_up s.2.1 s.2.2 y, s.2.2 + 1) := by
  unfold gst
  rw [h1]
  show (if true && !(s.1 y) then _ else _) = _
  rw [h2]; rfl
theorem gst_f {B : GB} {s : GS} {y : Option Nat} (h : hasT B y = false ∨ s.1 (y.getD 0) = true) : gst B s y = s := by
  unfold gst
  rcases h with h | h
  · rw [h]; rfl
  · rw [h, Bool.not_true, Bool.and_false]; rfl
theorem gst_i {B : GB} {s : GS} (hs : GI B s) {y : Option Nat} (hy : ∀ q, y = some q → q < Bz B) : GI B (gst B s y) ∧ s.2.2 ≤ (gst B s y).2.2 ∧ ∀ i, i < s.2.2 → (gst B s y).2.1 i = s.2.1 i := by
  cases y with
  | none => rw [gst_f (Or.inl rfl)]; exact ⟨hs, Nat.le_refl _, fun _ _ => rfl⟩
  | some q =>
    have hq := hy q rfl
    by_cases h : hasT B (some q) = true ∧ s.1 q = false
    · rw [gst_t h.1 h.2]
      refine ⟨⟨fun i hi => ?_, ?_⟩, Nat.le_succ _, fun i hi => ?_⟩
      · show va_up s.2.1 s.2.2 q i < Bz B
        unfold va_up
        split
        · exact hq
        · rename_i hne; exact hs.1 i (by have : i < s.2.2 + 1 := hi; omega)
      · show s.2.2 + 1 ≤ cnt (va_up s.1 q true) (Bz B)
        rw [cnt_up h.2 hq]
        have := hs.2; omega
      · show va_up s.2.1 s.2.2 q i = s.2.1 i
        unfold va_up
        rw [if_neg (by omega)]
    · rw [gst_f]
      · exact ⟨hs, Nat.le_refl _, fun _ _ => rfl⟩
      · cases h1 : hasT B (some q) with
        | false => exact Or.inl rfl
        | true =>
          cases h2 : s.1 q with
          | true => exact Or.inr h2
          | false => exact absurd ⟨h1, h2⟩ h
theorem ged_i {B : GB} (hB : BO B) {k : Nat} {s : GS} (hs : GI B s) (hk : k < s.2.2) : ∀ e, e ≤ 6 → GI B (ged B k s e) ∧ s.2.2 ≤ (ged B k s e).2.2 ∧ (ged B k s e).2.1 k = s.2.1 k
  | 0, _ => ⟨hs, Nat.le_refl _, rfl⟩
  | e + 1, he => by
    obtain ⟨h1, h2, h3⟩ := ged_i hB hs hk e (by omega)
    have hl : (ged B k s e).2.1 k < 49 := by have := h1.1 k (by omega); have := hB.z; omega
    obtain ⟨g1, g2, g3⟩ := gst_i h1 (y := bes (Bc B) (Br B) ((ged B k s e).2.1 k) e) (fun q hq => bes_lt hB.1.1 hB.1.2 hl (by omega) hq)
    exact ⟨g1, Nat.le_trans h2 g2, (g3 k (by omega)).trans h3⟩
theorem GI.le {B : GB} {s : GS} (hs : GI B s) : s.2.2 ≤ Bz B := Nat.le_trans hs.2 (cnt_le _ _)
theorem g0_i {B : GB} {sn : Nat → Bool} {x : Nat} (hx : x < Bz B) (hs : sn x = false) : GI B (g0 sn x) := by
  refine ⟨fun i hi => ?_, ?_⟩
  · have : i = 0 := by have : i < 1 := hi; omega
    subst this
    show va_up (fun _ => 0) 0 x 0 < Bz B
    simp [va_up, hx]
  · show 1 ≤ cnt (va_up sn x true) (Bz B)
    rw [cnt_up hs hx]; omega
theorem gbf_t {B : GB} {k : Nat} {s : GS} (hk : k < 50) (h : k < s.2.2) : gbf B (50 - k) k s = gbf B (50 - (k + 1)) (k + 1) (ged B k s 6) := by
  rw [show 50 - k = 50 - (k + 1) + 1 by omega]
  show (if _ then _ else _) = _
  rw [if_pos h]
theorem gbf_f {B : GB} {k : Nat} {s : GS} (hk : k < 50) (h : ¬ k < s.2.2) : gbf B (50 - k) k s = s := by
  rw [show 50 - k = 50 - (k + 1) + 1 by omega]
  show (if _ then _ else _) = _
  rw [if_neg h]
theorem grp_t {B : GB} {n : Nat} (h1 : hasT B (some n) = true) (h2 : (grp B n).2 n = false) : grp B (n + 1) = ((grp B n).1 + 1, (gbf B 50 0 (g0 (grp B n).2 n)).1) := by
  show (if _ then _ else _) = _
  rw [h1, h2]; rfl
theorem grp_f {B : GB} {n : Nat} (h : hasT B (some n) = false ∨ (grp B n).2 n = true) : grp B (n + 1) = grp B n := by
  show (if _ then _ else _) = _
  rcases h with h | h
  · rw [h]; rfl
  · rw [h, Bool.not_true, Bool.and_false]; rfl
def cZ (Γ : Gm) (n : Nat) (f : Nat → Int32) : va_E := .inl (gA Γ 3, (n, .inl f))
/-- the line in its row -/
def lnP (s : GS) (f : Nat → Int32) : Prop := ∀ i, i < s.2.2 → f i = nI (s.2.1 i)
theorem upd_bI {f : Nat → Bool} {y : Nat} : upd (fun i => bI (f i)) y (nI 1) = fun i => bI (va_up f y true i) := by
  funext i
  unfold upd va_up
  split <;> rfl
theorem lnP_st {s : GS} {f : Nat → Int32} {y : Nat} (h : lnP s f) : lnP (va_up s.1 y true, va_up s.2.1 s.2.2 y, s.2.2 + 1) (upd f s.2.2 (nI y)) := by
  intro i hi
  show upd f s.2.2 (nI y) i = nI (va_up s.2.1 s.2.2 y i)
  unfold upd va_up
  split
  · rfl
  · exact h i (by have : i < s.2.2 + 1 := hi; omega)
end PB9
