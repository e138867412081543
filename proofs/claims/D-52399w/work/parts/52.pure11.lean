/-! ===== answers ===== -/
section PB11
set_option maxRecDepth 100000
def ixB (x : Int32) (n : Nat) : Bool := decide (0 ≤ x) && decide (x < nI n)
/-- an index below n -/
def ixO (x : Int32) (n : Nat) : Option Nat := if ixB x n then some x.toNatClampNeg else none
theorem ixB_t {x : Int32} {n : Nat} (hn : n < 2 ^ 31) (h : ixB x n = true) : ∃ c, c < n ∧ x = nI c ∧ ixO x n = some c := by
  have h' := h
  unfold ixB at h
  simp only [Bool.and_eq_true, decide_eq_true_eq] at h
  obtain ⟨j, h1, h2, -, h3, -⟩ := pk_mu (Int32.not_lt.mpr h.1) (Int32.not_le.mpr h.2) hn
  exact ⟨j, h1, h2, by unfold ixO; rw [if_pos h', h3]⟩
theorem ixB_f {x : Int32} {n : Nat} (h : ixB x n = false) : ixO x n = none := by unfold ixO; rw [if_neg (by rw [h]; decide)]
theorem ixB_in {x : Int32} {n : Nat} (hn : n < 2 ^ 30) : (decide (nI 0 ≤ x) && decide (x ≤ nI n - nI 1)) = ixB x n := by
  unfold ixB
  congr 1
  have e : (x ≤ nI n - nI 1) = (x < nI n) := by
    rw [Int32.le_iff_toInt_le, Int32.lt_iff_toInt_lt, pk_sub_toInt hn (by decide), nI_toInt (by omega)]
    simp only [eq_iff_iff]
    omega
  simp only [e]
theorem ixB_in1 {x : Int32} {n : Nat} (hn : n < 2 ^ 30) (h1 : 1 ≤ n) : (decide (nI 0 ≤ x) && decide (x ≤ nI (n - 1))) = ixB x n := by
  rw [← pk_sub h1]; exact ixB_in hn
theorem upd_upd {f : Nat → Int32} {a : Nat} {x y : Int32} : upd (upd f a x) a y = upd f a y := by
  funext j
  unfold upd
  split <;> rfl
theorem Mx.thr {Γ : Gm} {h : AH} {D : Nat → Nat} {M : MS} (hX : Mx Γ h D M) (v : Int32) : Mx Γ (up h (D 0) (cMd (upd M.1 0 v) D)) D (upd M.1 0 v, M.2) := hX.i (j := 0) (Or.inl (by decide)) rfl
theorem MBd.thr {M : MS} {B : GB} {v : Int32} (hb : MBd M 30 40 B) : MBd (upd M.1 0 v, M.2) 30 40 B := hb
/-- what the answers rest on -/
def Mag (M M' : MS) : Prop := (∀ j, (j = 1 ∨ j = 2 ∨ (20 ≤ j ∧ j < 25) ∨ j = 30 ∨ j = 31) → M'.1 j = M.1 j) ∧ ∀ i, (i = 1 ∨ (20 ≤ i ∧ i < 30) ∨ (40 ≤ i ∧ i < 43)) → M'.2.1 i = M.2.1 i
theorem Mag.rf {M : MS} : Mag M M := ⟨fun _ _ => rfl, fun _ _ => rfl⟩
theorem Mag.tr {M M1 M2 : MS} (a : Mag M M1) (b : Mag M1 M2) : Mag M M2 := ⟨fun j hj => (b.1 j hj).trans (a.1 j hj), fun j hj => (b.2 j hj).trans (a.2 j hj)⟩
theorem Mag.i {M M1 : MS} (a : Mag M M1) {I : Nat → Int32} (h : ∀ j, (j = 1 ∨ j = 2 ∨ (20 ≤ j ∧ j < 25) ∨ j = 30 ∨ j = 31) → I j = M1.1 j) : Mag M (I, M1.2) := ⟨fun j hj => (h j hj).trans (a.1 j hj), a.2⟩
theorem Mag.thr {M M1 : MS} (a : Mag M M1) {v : Int32} : Mag M (upd M1.1 0 v, M1.2) := a.i (fun j hj => upd_ne (by omega))
theorem Mag.b {M M' : MS} {B : GB} (a : Mag M M') (hb : MBd M 30 40 B) : MBd M' 30 40 B := by
  obtain ⟨h1, h2, h3, h4, h5, h6, h7, h8⟩ := hb
  refine ⟨(a.1 20 (by decide)).trans h1, (a.1 21 (by decide)).trans h2, (a.1 22 (by decide)).trans h3, fun k p hk hp => ?_, (a.1 30 (by decide)).trans h5, (a.2 40 (by decide)).trans h6, (a.2 41 (by decide)).trans h7, fun k x hk => ?_⟩
  · rw [a.2 20 (by decide)]; exact h4 k p hk hp
  · rw [a.2 42 (by decide)]; exact h8 k x hk
/-- a public method's end: its answer and whether it would have thrown -/
def Mq (Γ : Gm) (z : ZR) (h : AH) (D : Nat → Nat) (M : MS) (q : Int32 × Nat) : Value → ZR → AH → Prop := fun v z' h' => v = .int q.1 ∧ z' = z ∧ ∃ M', Mag M M' ∧ M'.1 0 = nI q.2 ∧ Mx Γ h' D M' ∧ FrD h h' D
theorem Mq.of {Γ : Gm} {z : ZR} {h h' : AH} {D : Nat → Nat} {M : MS} {q : Int32 × Nat} {x : Int32} (hX : Mx Γ h D M) (h1 : x = q.1) (h2 : h' = up h (D 0) (cMd (upd M.1 0 (nI q.2)) D)) : Mq Γ z h D M q (.int x) z h' := by
  subst h2
  exact ⟨by rw [h1], rfl, (upd M.1 0 (nI q.2), M.2), Mag.thr Mag.rf, rfl, hX.thr _, FrD.rf.w (by decide)⟩
theorem Mq.ofI {Γ : Gm} {z : ZR} {h h' : AH} {D : Nat → Nat} {M : MS} {q : Int32 × Nat} {x : Int32} (hX : Mx Γ h D M) (h1 : x = q.1) {I1 : Nat → Int32} (hI : ∀ j, (j = 1 ∨ j = 2 ∨ 11 ≤ j) → I1 j = M.1 j) (h2 : h' = up h (D 0) (cMd (upd I1 0 (nI q.2)) D)) : Mq Γ z h D M q (.int x) z h' := by
  subst h2
  refine ⟨by rw [h1], rfl, (upd I1 0 (nI q.2), M.2), Mag.i Mag.rf (fun j hj => ?_), rfl, ?_, FrD.rf.w (by decide)⟩
  · rw [upd_ne (by omega)]; exact hI j (by omega)
  · refine Mx.w (i := 0) hX (by decide) rfl (fun i _ hi => ?_)
    unfold mdC
    rw [if_neg hi, if_neg hi]
    have k : ∀ j, 11 ≤ j → upd I1 0 (nI q.2) j = M.1 j := fun j hj => by rw [upd_ne (by omega)]; exact hI j (by omega)
    show (if i = 7 then cTd (upd I1 0 (nI q.2) 20) (upd I1 0 (nI q.2) 21) (upd I1 0 (nI q.2) 22) (upd I1 0 (nI q.2) 23) (upd I1 0 (nI q.2) 24) _ else if i = 8 then cTd (upd I1 0 (nI q.2) 25) (upd I1 0 (nI q.2) 26) (upd I1 0 (nI q.2) 27) (upd I1 0 (nI q.2) 28) (upd I1 0 (nI q.2) 29) _ else if i = 10 then cSt _ (upd I1 0 (nI q.2) 30) (upd I1 0 (nI q.2) 31) else if i = 11 then cSt _ (upd I1 0 (nI q.2) 32) (upd I1 0 (nI q.2) 33) else _) = _
    rw [k 20 (by decide), k 21 (by decide), k 22 (by decide), k 23 (by decide), k 24 (by decide), k 25 (by decide), k 26 (by decide), k 27 (by decide), k 28 (by decide), k 29 (by decide), k 30 (by decide), k 31 (by decide), k 32 (by decide), k 33 (by decide)]
theorem bgI_mag {I : Nat → Int32} {B : GB} {k n j : Nat} (hj : j = 1 ∨ j = 2 ∨ 11 ≤ j) : bgI (upd I 0 (nI 0)) B k n j = I j := by
  unfold bgI
  cases bwN B k n with
  | none => show upd (upd I 0 _) 8 _ j = _; rw [upd_ne (by omega), upd_ne (by omega)]
  | some q => show upd (upd (upd (upd I 0 _) 8 _) 9 _) 10 _ j = _; rw [upd_ne (by omega), upd_ne (by omega), upd_ne (by omega), upd_ne (by omega)]
def aHas (B : GB) (x : Int32) : Int32 × Nat := match ixO x (Bz B) with
  | none => (nI 0, 1)
  | some c => (bI (hasT B (some c)), 0)
def aTil (B : GB) (x : Int32) : Int32 × Nat := match ixO x (Bz B) with
  | none => (nI 0, 1)
  | some c => match atO B c with
    | none => (nI 0, 2)
    | some k => (nI k, 0)
def aNum (B : GB) (x y : Int32) : Int32 × Nat := match ixO x (Bz B) with
  | none => (nI 0, 1)
  | some c => match ixO y 6 with
    | none => (nI 0, 1)
    | some e => if hasT B (some c) then (nI (nmA B c e), 0) else (nI 0, 2)
def aMaO (B : GB) (x : Int32) : Int32 × Nat := match ixO x (Bz B) with
  | none => (nI 0, 1)
  | some c => (nI (moN B c), 0)
def aRin (B : GB) (x : Int32) : Int32 × Nat := match ixO x (Bz B) with
  | none => (nI 0, 1)
  | some c => (bI (riN B c), 0)
def aPla (B : GB) (x : Int32) : Int32 × Nat := match ixO x (Bt B) with
  | none => (nI 0, 1)
  | some k => (bI (Bp B k).isSome, 0)
def aCel (B : GB) (x : Int32) : Int32 × Nat := match ixO x (Bt B) with
  | none => (nI 0, 1)
  | some k => match Bp B k with
    | none => (nI 0, 2)
    | some c => (nI c, 0)
def aTur (B : GB) (x : Int32) : Int32 × Nat := match ixO x (Bt B) with
  | none => (nI 0, 1)
  | some k => match Bp B k with
    | none => (nI 0, 2)
    | some _ => (nI (Bu B k), 0)
def aWay (B : GB) (x : Int32) : Int32 × Nat := match ixO x (Bt B) with
  | none => (nI 0, 1)
  | some k => (nI (wyN B k), 0)
def aLef (B : GB) (x : Int32) : Int32 × Nat := match ixO x (Bt B) with
  | none => (nI 0, 1)
  | some k => (bI (lfN B k), 0)
def aFit (B : GB) (x y t : Int32) : Int32 × Nat := match ixO x (Bt B) with
  | none => (nI 0, 1)
  | some k => match ixO y (Bz B) with
    | none => (nI 0, 1)
    | some c => match ixO t 6 with
      | none => (nI 0, 1)
      | some u => (bI (ftN B k c u), 0)
def aAga (B : GB) (x y t : Int32) : Int32 × Nat := match ixO x (Bt B) with
  | none => (nI 0, 1)
  | some k => match ixO y (Bz B) with
    | none => (nI 0, 1)
    | some c => match ixO t 6 with
      | none => (nI 0, 1)
      | some u => (oI (agN B k c u), 0)
theorem sumN_0 {f : Nat → Nat} : ∀ {n : Nat}, sumN f n = 0 → ∀ i, i < n → f i = 0
  | 0, _, i, hi => absurd hi (Nat.not_lt_zero i)
  | n + 1, h, i, hi => by
    have h : sumN f n + f n = 0 := h
    by_cases q : i = n
    · rw [q]; omega
    · exact sumN_0 (n := n) (by omega) i (by omega)
theorem fw_wy (B : GB) (k : Nat) : (fwN B k).isNone = decide (wyN B k = 0) := by
  by_cases h : wyN B k = 0
  · rw [decide_eq_true h]
    have : fwN B k = none := by
      refine ff_none _ _ (fun w _ hw => ?_)
      have h1 := sumN_0 h (w / 6) (by omega)
      exact cnt_0 h1 (w % 6) (by omega)
    rw [this]; rfl
  · rw [decide_eq_false h]
    cases hf : fwN B k with
    | some w => rfl
    | none =>
      exfalso
      apply h
      have h1 := ff_no _ _ hf
      refine sumN_zero (fun x hx => ?_)
      rw [cnt_sum]
      refine sumN_zero (fun t ht => ?_)
      have := h1 (6 * x + t) (by omega) (by omega)
      rw [fwP_e ht] at this
      rw [this]; rfl
theorem fw_lt {B : GB} (hB : BO B) {k : Nat} : ∀ y, fwN B k = some y → y < 2 ^ 31 := fun y q => by
  have := (ff_lt _ _ _ q).1
  have := hB.z
  omega
def aLok (B : GB) (x : Int32) : Int32 × Nat := match ixO x (Bt B) with
  | none => (nI 0, 1)
  | some k => if lfN B k then (nI (lkN B k), 0) else (nI 0, 2)
def aBeC (B : GB) (x : Int32) : Int32 × Nat := match ixO x (Bt B) with
  | none => (nI 0, 1)
  | some k => match bwN B k (6 * Bz B) with
    | none => (nI 0, 2)
    | some q => (nI (q.1 / 6), 0)
def aBeT (B : GB) (x : Int32) : Int32 × Nat := match ixO x (Bt B) with
  | none => (nI 0, 1)
  | some k => match bwN B k (6 * Bz B) with
    | none => (nI 0, 2)
    | some q => (nI (q.1 % 6), 0)
end PB11
