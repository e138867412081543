/-! ===== the model's view of the board ===== -/
section PB6
set_option maxRecDepth 100000
def atO (B : GB) (x : Nat) : Option Nat := match Bl B x with
  | 0 => none
  | k + 1 => some k
def tbO (B : GB) (x e : Nat) : Option Nat := match bes (Bc B) (Br B) x e with
  | none => none
  | some y => atO B y
theorem atO_n {B : GB} {x : Nat} : atO B x = none ↔ Bl B x = 0 := by
  unfold atO
  split
  · rename_i q; simp [q]
  · rename_i q; simp [q]
theorem atO_s {B : GB} {x k : Nat} : atO B x = some k ↔ Bl B x = k + 1 := by
  unfold atO
  split
  · rename_i q; simp [q]
  · rename_i q; simp [q]
theorem atO_is (B : GB) (x : Nat) : (atO B x).isSome = hasT B (some x) := by
  unfold atO hasT
  split
  · rename_i q; simp [q]
  · rename_i q; simp [q]
theorem tbO_is (B : GB) (x e : Nat) : (tbO B x e).isSome = hasT B (bes (Bc B) (Br B) x e) := by
  unfold tbO
  split
  · rename_i q; rw [q]; rfl
  · rename_i y q; rw [q]; exact atO_is B y
/-- a board that is consistent -/
def BC (B : GB) : Prop := BO B ∧ (∀ k, k < Bt B → Bp B k = none → Bu B k = 0) ∧ (∀ x k, Bl B x = k + 1 → k < Bt B ∧ Bp B k = some x) ∧ ∀ k x, Bp B k = some x → k < Bt B ∧ Bl B x = k + 1 ∧ x < Bz B
theorem BC.t {B : GB} (h : BC B) {x k : Nat} (hk : atO B x = some k) : k < Bt B ∧ Bp B k = some x ∧ Bl B x = k + 1 := by
  have q := atO_s.mp hk
  exact ⟨(h.2.2.1 x k q).1, (h.2.2.1 x k q).2, q⟩
theorem BC.a {B : GB} (h : BC B) (x : Nat) : ∀ y, atO B x = some y → y < 2 ^ 31 := fun y q => by
  have := (h.t q).1
  have := h.1.2.1
  omega
theorem BC.b {B : GB} (h : BC B) (x e : Nat) : ∀ y, tbO B x e = some y → y < 2 ^ 31 := fun y q => by
  unfold tbO at q
  split at q
  · cases q
  · exact h.a _ y q
def besM (c r x e : Nat) : Int32 := if (decide (nI 0 ≤ nI (x % c) + dxI e) && decide (nI (x % c) + dxI e ≤ nI (c - 1))) && (decide (nI 0 ≤ nI (x / c) + dyI e) && decide (nI (x / c) + dyI e ≤ nI (r - 1))) then (nI (x / c) + dyI e) * nI c + (nI (x % c) + dxI e) else -1
theorem bes_m0 : ∀ c, c < 5 → ∀ r, r < 5 → ∀ x, x < 49 → ∀ e, e < 6 → oI (bes (c + 3) (r + 3) x e) = besM (c + 3) (r + 3) x e := by decide +kernel
theorem bes_m {c r x e : Nat} (hc : 3 ≤ c ∧ c ≤ 7) (hr : 3 ≤ r ∧ r ≤ 7) (hx : x < 49) (he : e < 6) : oI (bes c r x e) = besM c r x e := by
  have := bes_m0 (c - 3) (by omega) (r - 3) (by omega) x hx e he
  rw [show c - 3 + 3 = c by omega, show r - 3 + 3 = r by omega] at this
  exact this
theorem cnt_0 {f : Nat → Bool} : ∀ {n : Nat}, cnt f n = 0 → ∀ i, i < n → f i = false
  | 0, _, i, hi => absurd hi (Nat.not_lt_zero i)
  | n + 1, h, i, hi => by
    have h : cnt f n + (if f n then 1 else 0) = 0 := h
    by_cases q : i = n
    · subst q
      cases hf : f i with
      | false => rfl
      | true => rw [hf] at h; simp at h
    · exact cnt_0 (n := n) (by omega) i (by omega)
theorem cnt_t {f : Nat → Bool} {n : Nat} (h : f n = true) : cnt f (n + 1) = cnt f n + 1 := by
  show _ + (if f n then 1 else 0) = _
  rw [h]; rfl
theorem cnt_f {f : Nat → Bool} {n : Nat} (h : f n = false) : cnt f (n + 1) = cnt f n := by
  show _ + (if f n then 1 else 0) = _
  rw [h]; rfl
theorem ff_none {p : Nat → Bool} : ∀ (f i : Nat), (∀ j, i ≤ j → j < i + f → p j = false) → ff p f i = none
  | 0, _, _ => rfl
  | f + 1, i, h => by
    show (if p i then _ else _) = _
    rw [h i (by omega) (by omega)]
    exact ff_none f (i + 1) (fun j h1 h2 => h j (by omega) (by omega))
theorem ag_0 {B : GB} (hB : BO B) {k x t : Nat} (hx : x < 49) (h0 : plN B = 0) : agN B k x t = none := by
  refine ff_none 6 0 (fun e _ he => ?_)
  have : hasT B (bes (Bc B) (Br B) x e) = false := by
    cases hb : bes (Bc B) (Br B) x e with
    | none => rfl
    | some y => exact cnt_0 h0 y (bes_lt hB.1.1 hB.1.2 hx (by omega) hb)
  unfold agP
  rw [this]
  rfl
/-- the model's cells, read -/
def cMd (I : Nat → Int32) (D : Nat → Nat) : va_E := .inr (3, [.int (I 0), .ref (D 1), .int (I 1), .int (I 2), .ref (D 2), .ref (D 3), .ref (D 4), .ref (D 5), .int (I 3), .int (I 4), .int (I 5), .int (I 6), .int (I 7), .ref (D 6), .ref (D 7), .ref (D 8), .ref (D 9), .ref (D 10), .ref (D 11), .ref (D 12), .ref (D 13), .int (I 8), .int (I 9), .int (I 10)])
def cTd (c r t o nn : Int32) (D : Nat → Nat) : va_E := .inr (4, [.int c, .int r, .int t, .ref (D 0), .int o, .ref (D 1), .ref (D 2), .ref (D 3), .ref (D 4), .ref (D 5), .ref (D 6), .int nn, .ref (D 7), .ref (D 8), .ref (D 9)])
def cSt (S : Nat → Nat) (pl rn : Int32) : va_E := .inr (5, [.ref (S 0), .ref (S 1), .ref (S 2), .int pl, .int rn])
def cI (Γ : Gm) (n : Nat) (f : Nat → Int32) : va_E := .inl (gA Γ 0, (n, .inl f))
/-- all but the model's own cell -/
def MrR (Γ : Gm) (z : ZR) (h : AH) (D : Nat → Nat) (s : Nat) (B : GB) : Prop := ∃ (o nn rn : Int32) (nu tu : Nat → Int32) (S : Nat → Nat),
  rd z h (D 7) (cTd (nI (Bc B)) (nI (Br B)) (nI (Bt B)) o nn (fun i => D (20 + i))) ∧ rd z h (D 20) (cI Γ 51 nu) ∧ (∀ k p, k < Bt B → p < 3 → nu (3 * k + p) = nI (Bn B k p)) ∧ rd z h s (cSt S (nI (plN B)) rn) ∧
  rd z h (S 0) (cI Γ 49 (fun x => oI (atO B x))) ∧ rd z h (S 1) (cI Γ 16 (fun k => oI (Bp B k))) ∧ rd z h (S 2) (cI Γ 16 tu) ∧ ∀ k x, Bp B k = some x → tu k = nI (Bu B k)
def MrP (Γ : Gm) (z : ZR) (h : AH) (m s : Nat) (B : GB) : Prop := ∃ (I : Nat → Int32) (D : Nat → Nat), rd z h m (cMd I D) ∧ MrR Γ z h D s B
theorem rd_up {z : ZR} {h : AH} {a b : Nat} {e e0 e' : va_E} (hr : rd z h a e) (hb : h b = some e0) (hn : ¬ e = e0) : rd z (up h b e') a e := hr.elim (fun q => Or.inl (by rw [up_n (ne_ob q hb hn)]; exact q)) Or.inr
theorem MrR.up {Γ : Gm} {z : ZR} {h : AH} {D : Nat → Nat} {s m : Nat} {B : GB} {I : Nat → Int32} {e' : va_E} (hR : MrR Γ z h D s B) (hm : h m = some (cMd I D)) : MrR Γ z (up h m e') D s B := by
  obtain ⟨o, nn, rn, nu, tu, S, h1, h2, h3, h4, h5, h6, h7, h8⟩ := hR
  exact ⟨o, nn, rn, nu, tu, S, rd_up h1 hm (by simp [cTd, cMd]), rd_up h2 hm (by simp [cI, cMd]), h3, rd_up h4 hm (by simp [cSt, cMd]), rd_up h5 hm (by simp [cI, cMd]), rd_up h6 hm (by simp [cI, cMd]), rd_up h7 hm (by simp [cI, cMd]), h8⟩
theorem cst_dx {Γ : Gm} {z : ZR} (hz : zle (cst Γ) z) : z (gE Γ 34) (.inl (gA Γ 0, (6, .inl dxI))) := by
  refine hz _ _ ?_
  unfold cst
  simp
theorem cst_dy {Γ : Gm} {z : ZR} (hz : zle (cst Γ) z) : z (gE Γ 35) (.inl (gA Γ 0, (6, .inl dyI))) := by
  refine hz _ _ ?_
  unfold cst
  simp
/-- whether a cell has all its neighbours -/
def inN (B : GB) (y : Nat) : Bool := (ff (fun e => (bes (Bc B) (Br B) y e).isNone) 6 0).isNone
def gnE (B : GB) (k x t e : Nat) : Nat := match bes (Bc B) (Br B) x e with
  | none => 0
  | some y => (if hasT B (some y) then Bn B k (ed e t) else 0) + (if decide (arN B y = 5) && ((atO B x).isNone && inN B y) then 10 else 0)
/-- what a tile that is put somewhere brings -/
def gnN (B : GB) (k x t : Nat) : Nat := if plN B = 0 then 0 else sumN (gnE B k x t) 6
theorem gnE_le {B : GB} (hB : BO B) {k : Nat} (hk : k < Bt B) (x t e : Nat) : gnE B k x t e ≤ 19 := by
  unfold gnE
  split
  · omega
  · have := hB.2.2.2.2.2 k hk (ed e t) (ed_lt _ _)
    split <;> split <;> omega
theorem gnN_le {B : GB} (hB : BO B) {k : Nat} (hk : k < Bt B) (x t : Nat) : gnN B k x t ≤ 114 := by
  unfold gnN
  split
  · omega
  · exact Nat.le_trans (sumN_le (gnE_le hB hk x t) 6) (by decide)
end PB6
