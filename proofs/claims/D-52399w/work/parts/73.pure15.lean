/-! ===== rounds ===== -/
section PB15
set_option maxRecDepth 100000
def isJ (k : Nat) : Bool := decide ((20 ≤ k ∧ k ≤ 23) ∨ (40 ≤ k ∧ k ≤ 48))
def isU (k : Nat) : Bool := decide (k = 19 ∨ k = 60)
/-- what the nodes point to lies before them, in the same order -/
def TdR (T : TD) : Prop := ∀ k, k < T.1.1 → (∀ i, T.2.1 23 k ≤ i → i < T.2.1 24 k → (isU (T.2.1 27 i) = true ∨ isJ (T.2.1 27 i) = true → T.2.1 23 k ≤ T.2.1 28 i ∧ T.2.1 28 i < i) ∧ (isJ (T.2.1 27 i) = true → T.2.1 23 k ≤ T.2.1 29 i ∧ T.2.1 29 i < i)) ∧ (∀ t, T.2.2 k = some t → T.2.1 23 k ≤ t ∧ t < T.2.1 24 k) ∧ (T.2.1 21 k = 0 → ∀ p, p < 3 → T.2.1 23 k ≤ T.2.1 25 (3 * k + p) ∧ T.2.1 25 (3 * k + p) < T.2.1 24 k)
theorem rkI_c {B : GB} {rn : Int32} {v v' : Nat → Int32} {k l r : Nat} (hp : rkP B k l r) (h1 : isU k = true ∨ isJ k = true → v l = v' l) (h2 : isJ k = true → v r = v' r) : rkI B rn v k l r = rkI B rn v' k l r := by
  obtain ⟨hk, -⟩ := hp
  rcases hk with rfl | rfl | rfl | rfl | rfl | rfl | rfl | rfl | rfl | rfl | rfl | rfl | rfl | rfl | rfl | rfl | rfl | rfl | rfl | rfl | rfl | rfl | rfl | rfl | rfl <;> first | (simp only [rkI, h1 (Or.inr rfl), h2 rfl]; done) | (simp only [rkI, h1 (Or.inl rfl)]; done) | (simp only [rkI]; done)
theorem ndV_c {B : GB} {rn : Int32} {T : TD} (hS : TdS B T) (hR : TdR T) {k : Nat} (hk : k < T.1.1) (vl vl' : Nat → Int32) : ∀ n, T.2.1 23 k + n ≤ T.2.1 24 k → ∀ i, T.2.1 23 k ≤ i → i < T.2.1 23 k + n → ndV B rn T vl (T.2.1 23 k) n i = ndV B rn T vl' (T.2.1 23 k) n i
  | 0, _, i, h1, h2 => by omega
  | n + 1, hn, i, h1, h2 => by
    have ih := ndV_c (rn := rn) hS hR hk vl vl' n (by omega)
    show upd _ _ _ i = upd _ _ _ i
    by_cases hi : i = T.2.1 23 k + n
    · rw [hi, upd_eq, upd_eq]
      have hp := ((hS.2.2 k hk).2.2.2.2.1 (T.2.1 23 k + n) (by omega) (by omega)).1
      have hr := (hR k hk).1 (T.2.1 23 k + n) (by omega) (by omega)
      exact rkI_c hp (fun q => ih _ (hr.1 q).1 (hr.1 q).2) (fun q => ih _ (hr.2 q).1 (hr.2 q).2)
    · rw [upd_ne hi, upd_ne hi]
      exact ih i h1 (by omega)
/-- an order's nodes' values -/
def evN (B : GB) (rn : Int32) (T : TD) (k : Nat) : Nat → Int32 := coV B rn T (fun _ => 0) k
def coR (B : GB) (rn : Int32) (T : TD) (k : Nat) : Bool × GB := coB B T (evN B rn T k) k
theorem coV_c {B : GB} {rn : Int32} {T : TD} (hS : TdS B T) (hR : TdR T) {k : Nat} (hk : k < T.1.1) (vl : Nat → Int32) {i : Nat} (h1 : T.2.1 23 k ≤ i) (h2 : i < T.2.1 24 k) : coV B rn T vl k i = evN B rn T k i :=
  ndV_c hS hR hk vl _ _ (by omega) i h1 (by omega)
theorem coB_c {B : GB} {rn : Int32} {T : TD} (hS : TdS B T) (hR : TdR T) {k : Nat} (hk : k < T.1.1) (vl : Nat → Int32) : coB B T (coV B rn T vl k) k = coR B rn T k := by
  obtain ⟨r1, r2, r3⟩ := hR k hk
  have hte : teB T (coV B rn T vl k) k = teB T (evN B rn T k) k := by
    unfold teB
    cases ht : T.2.2 k with
    | none => rfl
    | some t =>
      have := coV_c (rn := rn) hS hR hk vl (r2 t ht).1 (r2 t ht).2
      simp only [this]
  unfold coR coB
  rw [hte]
  cases teB T (evN B rn T k) k with
  | false => rfl
  | true =>
    by_cases h0 : T.2.1 21 k = 0
    · have e0 := coV_c (rn := rn) hS hR hk vl (r3 h0 0 (by decide)).1 (r3 h0 0 (by decide)).2
      have e1 := coV_c (rn := rn) hS hR hk vl (r3 h0 1 (by decide)).1 (r3 h0 1 (by decide)).2
      have e2 := coV_c (rn := rn) hS hR hk vl (r3 h0 2 (by decide)).1 (r3 h0 2 (by decide)).2
      rw [Nat.add_zero] at e0
      simp only [h0, e0, e1, e2]
    · have h4 := (hS.2.2 k hk).2.2.2.1
      have : T.2.1 21 k = 1 ∨ T.2.1 21 k = 2 := by omega
      rcases this with h | h <;> simp only [h]
theorem coB_1 {B : GB} {T : TD} {v : Nat → Int32} {k : Nat} : (coB B T v k).2.1 = B.1 ∧ (coB B T v k).2.2.1 = B.2.1 := by
  unfold coB
  repeat' split
  all_goals exact ⟨rfl, rfl⟩
theorem TdS.c {B B' : GB} {T : TD} (hS : TdS B T) (h : B'.1 = B.1) : TdS B' T := by
  have e : Bt B' = Bt B := by show B'.1.2.2 = B.1.2.2; rw [h]
  unfold TdS rkP at hS ⊢
  rw [e]
  exact hS
theorem coB_C {B : GB} (hC : BC B) {T : TD} (hS : TdS B T) {v : Nat → Int32} {k : Nat} (hk : k < T.1.1) : BC (coB B T v k).2 := by
  obtain ⟨-, -, s⟩ := hS
  obtain ⟨s1, s2, s3, -⟩ := s k hk
  have hB := hC.1
  have hcc : (3 ≤ Bc B ∧ Bc B ≤ 7) ∧ (3 ≤ Br B ∧ Br B ≤ 7) := hB.1
  unfold coB
  split
  · exact hC
  · split
    · split
      · exact hC
      · rename_i w hw
        have h1 := ff_lt _ _ _ hw
        have h2 : ftN B (T.2.1 22 k) (w / 6) (w % 6) = true := h1.2
        exact BC_put hC s3 (by omega) (by omega) (ftN_d h2).1 (ftN_d h2).2
    · split
      · exact hC
      · rename_i hf
        exact BC_put hC s3 (cel_lt (fm_lt (by omega)) (fm_lt (by omega))) (fm_lt (by decide)) (ftN_d hf).1 (ftN_d hf).2
    · split
      · exact hC
      · rename_i y hy
        exact BC_tak hC hy
/-- the first orders of a round: how many were carried out, and the board -/
def plR (B : GB) (rn : Int32) (T : TD) : Nat → Nat × GB
  | 0 => (0, B)
  | n + 1 => ((plR B rn T n).1 + (if (coR (plR B rn T n).2 rn T n).1 then 1 else 0), (coR (plR B rn T n).2 rn T n).2)
theorem plR_ok {B : GB} (hC : BC B) {rn : Int32} {T : TD} (hS : TdS B T) : ∀ n, n ≤ T.1.1 → BC (plR B rn T n).2 ∧ (plR B rn T n).2.1 = B.1 ∧ (plR B rn T n).2.2.1 = B.2.1 ∧ (plR B rn T n).1 ≤ n
  | 0, _ => ⟨hC, rfl, rfl, Nat.le_refl _⟩
  | n + 1, hn => by
    obtain ⟨h1, h2, h3, h4⟩ := plR_ok hC (rn := rn) hS n (by omega)
    refine ⟨coB_C h1 (hS.c h2) (by omega), coB_1.1.trans h2, coB_1.2.trans h3, ?_⟩
    show (plR B rn T n).1 + (if _ then 1 else 0) ≤ n + 1
    split <;> omega
/-- whole rounds: how many orders were carried out, and the board -/
def plN_ (T : TD) (B : GB) (rn : Int32) : Nat → Nat × GB
  | 0 => (0, B)
  | n + 1 => ((plN_ T B rn n).1 + (plR (plN_ T B rn n).2 (rn + nI n) T T.1.1).1, (plR (plN_ T B rn n).2 (rn + nI n) T T.1.1).2)
theorem plN_ok {B : GB} (hC : BC B) {rn : Int32} {T : TD} (hS : TdS B T) : ∀ n, BC (plN_ T B rn n).2 ∧ (plN_ T B rn n).2.1 = B.1 ∧ (plN_ T B rn n).2.2.1 = B.2.1 ∧ (plN_ T B rn n).1 ≤ 16 * n
  | 0 => ⟨hC, rfl, rfl, Nat.le_refl _⟩
  | n + 1 => by
    obtain ⟨h1, h2, h3, h4⟩ := plN_ok hC (rn := rn) hS n
    obtain ⟨g1, g2, g3, g4⟩ := plR_ok h1 (rn := rn + nI n) (hS.c h2) T.1.1 (Nat.le_refl _)
    refine ⟨g1, g2.trans h2, g3.trans h3, ?_⟩
    show (plN_ T B rn n).1 + _ ≤ 16 * (n + 1)
    have := hS.1
    omega
end PB15
