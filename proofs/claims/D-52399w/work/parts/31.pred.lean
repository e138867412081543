/-! ===== pictures of the component's cells ===== -/
section PC
set_option maxRecDepth 100000
/-- an ArrayList a with its row arr: n things xs -/
def ALp (Γ : Gm) (z : ZR) (h : AH) (a arr n : Nat) (xs : Nat → Nat) : Prop := ∃ (mod : Int32) (cap : Nat) (f : Nat → Option Nat), rd z h a (.inr (23, [.int mod, .ref arr, .int (nI n)])) ∧ rd z h arr (.inl (gA Γ 4, (cap, refs f))) ∧ n ≤ cap ∧ cap < 2 ^ 31 ∧ ∀ i, i < n → f i = some (xs i)
/-- the box of a small int -/
def bxA (Γ : Gm) (x : Int32) : Nat := gE Γ (1000 + (x + 128).toNatClampNeg)
def TilP (Γ : Gm) (z : ZR) (a : Nat) (num : Nat → Nat) : Prop := ∃ b : Nat, z a (.inr (10, [.ref b])) ∧ z b (.inl (gA Γ 0, (3, .inl (fun p => nI (num p)))))
/-- a Game's cells: A 0, A 1 tiles; A 2, A 3 orders; A 4 lies; A 5, A 6 cells; A 7, A 8 turns; A (100 + i) the tiles -/
def GmP (Γ : Gm) (z : ZR) (h : AH) (g : Nat) (A : Nat → Nat) (B : GB) (rn dn : Int32) : Prop :=
  rd z h g (.inr (2, [.int (nI (Bc B)), .int (nI (Br B)), .ref (A 0), .ref (A 2), .int rn, .int dn, .ref (A 4), .ref (A 5), .ref (A 7)])) ∧ rd z h (A 4) (.inl (gA Γ 0, (49, .inl (fun x => nI (Bl B x))))) ∧
  ALp Γ z h (A 0) (A 1) (Bt B) (fun k => A (100 + k)) ∧ (∀ k, k < Bt B → TilP Γ z (A (100 + k)) (Bn B k)) ∧ ALp Γ z h (A 5) (A 6) (Bt B) (fun k => bxA Γ (oI (Bp B k))) ∧ ALp Γ z h (A 7) (A 8) (Bt B) (fun k => bxA Γ (nI (Bu B k)))
end PC
