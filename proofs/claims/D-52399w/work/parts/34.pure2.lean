/-! ===== what fits, matches, points ===== -/
section PB2
set_option maxRecDepth 100000
/-- which of a tile's numbers stands at an edge, turned -/
def ed (e t : Nat) : Nat := (e + 6 - t) % 6 / 2
theorem ed_lt (e t : Nat) : ed e t < 3 := by unfold ed; omega
theorem ed_i0 : ∀ e, e < 6 → ∀ t, t < 6 → nI e - nI t + nI 6 = nI (e + 6 - t) := by decide +kernel
theorem ed_i {e t : Nat} (he : e < 6) (ht : t < 6) : nI e - nI t + nI 6 = nI (e + 6 - t) := ed_i0 e he t ht
/-- a sound board -/
def BO (B : GB) : Prop := BS B ∧ Bt B ≤ 16 ∧ (∀ x, Bl B x ≤ Bt B) ∧ (∀ k, k < Bt B → Bu B k < 6) ∧ (∀ k y, Bp B k = some y → y < 49) ∧ ∀ k, k < Bt B → ∀ p, p < 3 → Bn B k p ≤ 9
theorem BO.l {B : GB} (h : BO B) : ∀ x, Bl B x ≤ 16 := fun x => Nat.le_trans (h.2.2.1 x) h.2.1
theorem BO.z {B : GB} (h : BO B) : Bz B ≤ 49 := BS.z h.1
/-- the number that the tile in a cell has at an edge -/
def nmA (B : GB) (x e : Nat) : Nat := Bn B (Bl B x - 1) (ed e (Bu B (Bl B x - 1)))
theorem nmA_le {B : GB} (h : BO B) {x : Nat} (hx : 0 < Bl B x) (e : Nat) : nmA B x e ≤ 9 := h.2.2.2.2.2 _ (by have := h.2.2.1 x; omega) _ (ed_lt _ _)
/-- the first of a row -/
def ff (p : Nat → Bool) : Nat → Nat → Option Nat
  | 0, _ => none
  | f + 1, i => if p i then some i else ff p f (i + 1)
def agP (B : GB) (k x t e : Nat) : Bool := hasT B (bes (Bc B) (Br B) x e) && decide (nmA B ((bes (Bc B) (Br B) x e).getD 0) ((e + 3) % 6) ≠ Bn B k (ed e t))
def agN (B : GB) (k x t : Nat) : Option Nat := ff (agP B k x t) 6 0
def ftN (B : GB) (k x t : Nat) : Bool := (Bp B k).isNone && !(hasT B (some x)) && !(decide (arN B x = 0) && decide (0 < plN B)) && (agN B k x t).isNone
def wyN (B : GB) (k : Nat) : Nat := sumN (fun x => cnt (fun t => ftN B k x t) 6) (Bz B)
def fwP (B : GB) (k w : Nat) : Bool := ftN B k (w / 6) (w % 6)
/-- the first way: six times the cell, and the turn -/
def fwN (B : GB) (k : Nat) : Option Nat := ff (fwP B k) (6 * Bz B) 0
def lfN (B : GB) (k : Nat) : Bool := (Bp B k).isNone && decide (wyN B k = 0)
def alN (B : GB) (k : Nat) : Bool := decide (Bn B k 0 = Bn B k 1) && decide (Bn B k 1 = Bn B k 2)
def lcN (B : GB) : Nat := cnt (fun x => !(hasT B (some x)) && decide (0 < arN B x)) (Bz B)
def lkN (B : GB) (k : Nat) : Nat := if alN B k then lcN B else 6 * lcN B
def suE (B : GB) (x e : Nat) : Nat := if hasT B (some x) && hasT B (bes (Bc B) (Br B) x e) then nmA B x e else 0
def suN (B : GB) : Nat := sumN (fun x => sumN (suE B x) 3) (Bz B)
def poN (B : GB) : Nat := suN B + 10 * rgN B
theorem plN_le (B : GB) : plN B ≤ Bz B := cnt_le _ _
theorem rgN_le (B : GB) : rgN B ≤ Bz B := cnt_le _ _
theorem lcN_le (B : GB) : lcN B ≤ Bz B := cnt_le _ _
theorem wyN_le (B : GB) (k : Nat) : wyN B k ≤ Bz B * 6 := sumN_le (fun _ => cnt_le _ 6) _
theorem suE_le {B : GB} (h : BO B) (x e : Nat) : suE B x e ≤ 9 := by
  unfold suE
  split
  · rename_i q
    have : 0 < Bl B x := by
      have := (Bool.and_eq_true _ _ ▸ q).1
      simpa [hasT] using this
    exact nmA_le h this e
  · omega
theorem suN_le {B : GB} (h : BO B) : suN B ≤ Bz B * 27 := sumN_le (fun x => Nat.le_trans (sumN_le (suE_le h x) 3) (by decide)) _
theorem poN_le {B : GB} (h : BO B) : poN B ≤ 1813 := by
  have h1 := suN_le h
  have h2 := rgN_le B
  have h3 := h.z
  unfold poN
  omega
theorem oI_rng {o : Option Nat} (ho : ∀ y, o = some y → y < 49) : ¬ oI o < -128 ∧ ¬ 127 < oI o := by
  cases o with
  | none => decide
  | some y =>
    have h1 := ho y rfl
    have key : ∀ y, y < 49 → ¬ nI y < -128 ∧ ¬ (127 : Int32) < nI y := by decide +kernel
    exact key y h1
theorem nI_rng {n : Nat} (hn : n < 49) : ¬ nI n < -128 ∧ ¬ 127 < nI n := oI_rng (o := some n) (fun y q => by cases q; exact hn)
end PB2
/-- a box of a small int, read -/
theorem bx_rd {Γ : Gm} {z : ZR} {h : AH} (hz : zle (cst Γ) z) {x : Int32} (hx : ¬ x < -128 ∧ ¬ 127 < x) : rd z h (bxA Γ x) (.inr (26, [.int x])) := by
  obtain ⟨j, hj, e1, e2⟩ := bx_small hx.1 hx.2
  refine Or.inr (hz _ _ (Or.inl ⟨j, hj, ?_, ?_⟩))
  · unfold bxA; rw [e1, nI_clamp (by omega)]
  · rw [e2]
theorem ff_f {p : Nat → Bool} {N i : Nat} (hi : i < N) (hp : p i = false) : ff p (N - i) i = ff p (N - (i + 1)) (i + 1) := by
  rw [show N - i = (N - (i + 1)) + 1 by omega]
  show (if p i then _ else _) = _
  rw [hp]; rfl
theorem ff_t {p : Nat → Bool} {N i : Nat} (hi : i < N) (hp : p i = true) : ff p (N - i) i = some i := by
  rw [show N - i = (N - (i + 1)) + 1 by omega]
  show (if p i then _ else _) = _
  rw [hp]; rfl
theorem ff_0 {p : Nat → Bool} {N : Nat} : ff p (N - N) N = none := by rw [Nat.sub_self]; rfl
theorem ff_lt {p : Nat → Bool} : ∀ (f i r : Nat), ff p f i = some r → r < i + f ∧ p r = true
  | 0, i, r, h => by cases h
  | f + 1, i, r, h => by
    unfold ff at h
    by_cases hp : p i = true
    · rw [if_pos hp] at h; cases h; exact ⟨by omega, hp⟩
    · rw [if_neg hp] at h
      have := ff_lt f (i + 1) r h
      exact ⟨by omega, this.2⟩
