/-! ===== the board, in plain numbers ===== -/
section PB
set_option maxRecDepth 100000
/-- columns, rows, tiles; a tile's three numbers; what lies in a cell (tile + 1, or 0); a tile's cell; its turn -/
abbrev GB : Type := (Nat × Nat × Nat) × (Nat → Nat → Nat) × (Nat → Nat) × (Nat → Option Nat) × (Nat → Nat)
abbrev Bc (B : GB) : Nat := B.1.1
abbrev Br (B : GB) : Nat := B.1.2.1
abbrev Bt (B : GB) : Nat := B.1.2.2
abbrev Bn (B : GB) : Nat → Nat → Nat := B.2.1
abbrev Bl (B : GB) : Nat → Nat := B.2.2.1
abbrev Bp (B : GB) : Nat → Option Nat := B.2.2.2.1
abbrev Bu (B : GB) : Nat → Nat := B.2.2.2.2
/-- the number of cells -/
def Bz (B : GB) : Nat := Bc B * Br B
def dxI (e : Nat) : Int32 := if e = 0 ∨ e = 5 then 1 else if e = 2 ∨ e = 3 then -1 else 0
def dyI (e : Nat) : Int32 := if e = 1 ∨ e = 2 then 1 else if e = 4 ∨ e = 5 then -1 else 0
def dxZ (e : Nat) : Int := if e = 0 ∨ e = 5 then 1 else if e = 2 ∨ e = 3 then -1 else 0
def dyZ (e : Nat) : Int := if e = 1 ∨ e = 2 then 1 else if e = 4 ∨ e = 5 then -1 else 0
/-- the cell beside another -/
def bes (c r x e : Nat) : Option Nat := if ((x % c : Nat) : Int) + dxZ e < 0 ∨ (c : Int) ≤ ((x % c : Nat) : Int) + dxZ e ∨ ((x / c : Nat) : Int) + dyZ e < 0 ∨ (r : Int) ≤ ((x / c : Nat) : Int) + dyZ e then none else some ((c : Int) * (((x / c : Nat) : Int) + dyZ e) + (((x % c : Nat) : Int) + dxZ e)).toNat
def besI (c r x e : Nat) : Int32 := if nI (x % c) + dxI e < 0 ∨ nI c ≤ nI (x % c) + dxI e ∨ nI (x / c) + dyI e < 0 ∨ nI r ≤ nI (x / c) + dyI e then -1 else nI c * (nI (x / c) + dyI e) + (nI (x % c) + dxI e)
theorem bes_i0 : ∀ c, c < 5 → ∀ r, r < 5 → ∀ x, x < 49 → ∀ e, e < 6 → oI (bes (c + 3) (r + 3) x e) = besI (c + 3) (r + 3) x e := by decide +kernel
theorem bes_i {c r x e : Nat} (hc : 3 ≤ c ∧ c ≤ 7) (hr : 3 ≤ r ∧ r ≤ 7) (hx : x < 49) (he : e < 6) : oI (bes c r x e) = besI c r x e := by
  have := bes_i0 (c - 3) (by omega) (r - 3) (by omega) x hx e he
  rw [show c - 3 + 3 = c by omega, show r - 3 + 3 = r by omega] at this
  exact this
theorem bes_lt0 : ∀ c, c < 5 → ∀ r, r < 5 → ∀ x, x < 49 → ∀ e, e < 6 → (match bes (c + 3) (r + 3) x e with | none => true | some y => decide (y < (c + 3) * (r + 3))) = true := by decide +kernel
theorem bes_lt {c r x e y : Nat} (hc : 3 ≤ c ∧ c ≤ 7) (hr : 3 ≤ r ∧ r ≤ 7) (hx : x < 49) (he : e < 6) (h : bes c r x e = some y) : y < c * r := by
  have := bes_lt0 (c - 3) (by omega) (r - 3) (by omega) x hx e he
  rw [show c - 3 + 3 = c by omega, show r - 3 + 3 = r by omega, h] at this
  simpa using this
theorem cr_le {c r : Nat} (hc : 3 ≤ c ∧ c ≤ 7) (hr : 3 ≤ r ∧ r ≤ 7) : c * r ≤ 49 := Nat.le_trans (Nat.mul_le_mul hc.2 hr.2) (by decide)
def hasT (B : GB) (o : Option Nat) : Bool := match o with
  | none => false
  | some x => decide (0 < Bl B x)
def cnt (f : Nat → Bool) : Nat → Nat
  | 0 => 0
  | n + 1 => cnt f n + (if f n then 1 else 0)
def sumN (f : Nat → Nat) : Nat → Nat
  | 0 => 0
  | n + 1 => sumN f n + f n
theorem cnt_le (f : Nat → Bool) : ∀ n, cnt f n ≤ n
  | 0 => Nat.le_refl _
  | n + 1 => by
    have := cnt_le f n
    show cnt f n + (if f n then 1 else 0) ≤ n + 1
    split <;> omega
theorem sumN_le {f : Nat → Nat} {k : Nat} (hf : ∀ i, f i ≤ k) : ∀ n, sumN f n ≤ n * k
  | 0 => by simp [sumN]
  | n + 1 => by
    have h1 := sumN_le hf n
    have h2 := hf n
    show sumN f n + f n ≤ (n + 1) * k
    rw [Nat.succ_mul]
    omega
/-- tiles around a cell -/
def arN (B : GB) (x : Nat) : Nat := cnt (fun e => hasT B (bes (Bc B) (Br B) x e)) 6
theorem arN_le (B : GB) (x : Nat) : arN B x ≤ 6 := cnt_le _ 6
def plN (B : GB) : Nat := cnt (fun x => hasT B (some x)) (Bz B)
def moN (B : GB) (x : Nat) : Nat := if hasT B (some x) then arN B x else 0
theorem moN_le (B : GB) (x : Nat) : moN B x ≤ 6 := by
  have := arN_le B x
  unfold moN
  split <;> omega
def maN (B : GB) : Nat := sumN (moN B) (Bz B) / 2
def riN (B : GB) (x : Nat) : Bool := decide (arN B x = 6)
def rgN (B : GB) : Nat := cnt (riN B) (Bz B)
/-- the board's sizes -/
def BS (B : GB) : Prop := (3 ≤ Bc B ∧ Bc B ≤ 7) ∧ (3 ≤ Br B ∧ Br B ≤ 7)
theorem BS.z {B : GB} (h : BS B) : Bz B ≤ 49 := cr_le h.1 h.2
end PB
