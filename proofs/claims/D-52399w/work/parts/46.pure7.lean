/-! ===== what a tile brings: points with it = points + gain ===== -/
section PB7
set_option maxRecDepth 100000
theorem sumN_congr {f g : Nat → Nat} : ∀ {n : Nat}, (∀ i, i < n → f i = g i) → sumN f n = sumN g n
  | 0, _ => rfl
  | n + 1, h => by
    show sumN f n + f n = sumN g n + g n
    rw [sumN_congr (n := n) (fun i hi => h i (by omega)), h n (by omega)]
theorem sumN_add {f g : Nat → Nat} : ∀ (n : Nat), sumN (fun i => f i + g i) n = sumN f n + sumN g n
  | 0 => rfl
  | n + 1 => by
    show sumN (fun i => f i + g i) n + (f n + g n) = (sumN f n + f n) + (sumN g n + g n)
    rw [sumN_add n]; omega
theorem sumN_zero {f : Nat → Nat} {n : Nat} (h : ∀ i, i < n → f i = 0) : sumN f n = 0 := by
  rw [sumN_congr (g := fun _ => 0) h]
  induction n with
  | zero => rfl
  | succ n ih => show sumN (fun _ => 0) n + 0 = 0; rw [ih (fun i hi => h i (by omega))]
theorem sumN_swap (f : Nat → Nat → Nat) (m : Nat) : ∀ (n : Nat), sumN (fun i => sumN (fun j => f i j) m) n = sumN (fun j => sumN (fun i => f i j) n) m
  | 0 => (sumN_zero (fun _ _ => rfl)).symm
  | n + 1 => by
    show sumN (fun i => sumN (fun j => f i j) m) n + sumN (fun j => f n j) m = sumN (fun j => sumN (fun i => f i j) n + f n j) m
    rw [sumN_swap f m n, sumN_add]
theorem sumN_one {g : Nat → Nat} {y : Nat} : ∀ {n : Nat}, y < n → sumN (fun i => if i = y then g i else 0) n = g y
  | 0, h => absurd h (Nat.not_lt_zero _)
  | n + 1, h => by
    show sumN (fun i => if i = y then g i else 0) n + (if n = y then g n else 0) = g y
    by_cases hy : n = y
    · rw [if_pos hy, sumN_zero (fun i hi => by rw [if_neg (by omega)]), hy]; omega
    · rw [if_neg hy, sumN_one (n := n) (by omega)]
      try rfl
theorem sumN_mul {f : Nat → Nat} (k : Nat) : ∀ (n : Nat), k * sumN f n = sumN (fun i => k * f i) n
  | 0 => rfl
  | n + 1 => by
    show k * (sumN f n + f n) = sumN (fun i => k * f i) n + k * f n
    rw [Nat.mul_add, sumN_mul k n]
theorem cnt_sum {f : Nat → Bool} : ∀ (n : Nat), cnt f n = sumN (fun i => if f i then 1 else 0) n
  | 0 => rfl
  | n + 1 => by
    show cnt f n + (if f n then 1 else 0) = sumN (fun i => if f i then 1 else 0) n + (if f n then 1 else 0)
    rw [cnt_sum n]
theorem cnt_lt1 {f : Nat → Bool} {e : Nat} : ∀ {n : Nat}, e < n → f e = false → cnt f n + 1 ≤ n
  | 0, h, _ => absurd h (Nat.not_lt_zero _)
  | n + 1, h, hf => by
    show cnt f n + (if f n then 1 else 0) + 1 ≤ n + 1
    by_cases he : e = n
    · subst he
      have := cnt_le f e
      rw [hf]; simp; omega
    · have := cnt_lt1 (f := f) (n := n) (by omega) hf
      split <;> omega
theorem cnt_lt2 {f : Nat → Bool} {e e' : Nat} : ∀ {n : Nat}, e < e' → e' < n → f e = false → f e' = false → cnt f n + 2 ≤ n
  | 0, _, h, _, _ => absurd h (Nat.not_lt_zero _)
  | n + 1, h0, h, hf, hf' => by
    show cnt f n + (if f n then 1 else 0) + 2 ≤ n + 1
    by_cases he : e' = n
    · subst he
      have := cnt_lt1 (f := f) h0 hf
      rw [hf']; simp; omega
    · have := cnt_lt2 (f := f) (n := n) h0 (by omega) hf hf'
      split <;> omega
theorem bes_s0 : ∀ c, c < 5 → ∀ r, r < 5 → ∀ x, x < (c + 3) * (r + 3) → ∀ e, e < 6 → (match bes (c + 3) (r + 3) x e with | none => true | some y => decide (bes (c + 3) (r + 3) y ((e + 3) % 6) = some x)) = true := by decide +kernel
theorem bes_sym {c r x e y : Nat} (hc : 3 ≤ c ∧ c ≤ 7) (hr : 3 ≤ r ∧ r ≤ 7) (hx : x < c * r) (he : e < 6) (h : bes c r x e = some y) : bes c r y ((e + 3) % 6) = some x := by
  have := bes_s0 (c - 3) (by omega) (r - 3) (by omega) x (by rw [show c - 3 + 3 = c by omega, show r - 3 + 3 = r by omega]; exact hx) e he
  rw [show c - 3 + 3 = c by omega, show r - 3 + 3 = r by omega, h] at this
  simpa using this
theorem bes_u0 : ∀ c, c < 5 → ∀ r, r < 5 → ∀ x, x < (c + 3) * (r + 3) → ∀ e, e < 6 → ∀ e', e' < 6 → (decide (e' < e) && (match bes (c + 3) (r + 3) x e with | none => false | some y => decide (bes (c + 3) (r + 3) x e' = some y))) = false := by decide +kernel
theorem bes_u {c r x e e' y : Nat} (hc : 3 ≤ c ∧ c ≤ 7) (hr : 3 ≤ r ∧ r ≤ 7) (hx : x < c * r) (he : e < 6) (he' : e' < e) (h : bes c r x e = some y) : bes c r x e' ≠ some y := by
  have := bes_u0 (c - 3) (by omega) (r - 3) (by omega) x (by rw [show c - 3 + 3 = c by omega, show r - 3 + 3 = r by omega]; exact hx) e he e' (by omega)
  rw [show c - 3 + 3 = c by omega, show r - 3 + 3 = r by omega, h, decide_eq_true he'] at this
  simpa using this
theorem bes_ne0 : ∀ c, c < 5 → ∀ r, r < 5 → ∀ x, x < (c + 3) * (r + 3) → ∀ e, e < 6 → bes (c + 3) (r + 3) x e ≠ some x := by decide +kernel
theorem bes_ne {c r x e : Nat} (hc : 3 ≤ c ∧ c ≤ 7) (hr : 3 ≤ r ∧ r ≤ 7) (hx : x < c * r) (he : e < 6) : bes c r x e ≠ some x := by
  have := bes_ne0 (c - 3) (by omega) (r - 3) (by omega) x (by rw [show c - 3 + 3 = c by omega, show r - 3 + 3 = r by omega]; exact hx) e he
  rw [show c - 3 + 3 = c by omega, show r - 3 + 3 = r by omega] at this
  exact this
/-- sums over the cells that have x beside them are sums over x's edges -/
theorem nb_sum {c r x m : Nat} (hc : 3 ≤ c ∧ c ≤ 7) (hr : 3 ≤ r ∧ r ≤ 7) (hx : x < c * r) (hm : m ≤ 6) (f : Nat → Nat → Nat) :
    sumN (fun y => sumN (fun e => if bes c r y e = some x then f y e else 0) m) (c * r) = sumN (fun e => match bes c r x ((e + 3) % 6) with | none => 0 | some y => f y e) m := by
  have hcr := cr_le hc hr
  rw [sumN_swap]
  refine sumN_congr (fun e he => ?_)
  cases h : bes c r x ((e + 3) % 6) with
  | none =>
    refine sumN_zero (fun y hy => ?_)
    rw [if_neg]
    intro q
    have := bes_sym hc hr hy (by omega) q
    rw [h] at this; cases this
  | some y0 =>
    have hy0 := bes_lt hc hr (by omega) (by omega) h
    have h2 := bes_sym hc hr hx (by omega) h
    rw [show ((e + 3) % 6 + 3) % 6 = e by omega] at h2
    have key : ∀ y, y < c * r → (if bes c r y e = some x then f y e else 0) = (if y = y0 then f y e else 0) := by
      intro y hy
      by_cases q : y = y0
      · rw [if_pos q, if_pos (by rw [q]; exact h2)]
      · rw [if_neg q, if_neg]
        intro q'
        have := bes_sym hc hr hy (by omega) q'
        rw [h] at this
        exact q (Option.some.inj this).symm
    rw [sumN_congr key, sumN_one (g := fun y => f y e) hy0]
theorem six (f : Nat → Nat) : sumN (fun e => f ((e + 3) % 6)) 6 = sumN f 6 := by
  show 0 + f 3 + f 4 + f 5 + f 0 + f 1 + f 2 = 0 + f 0 + f 1 + f 2 + f 3 + f 4 + f 5
  omega
theorem put_hT {B : GB} {k x t : Nat} (o : Option Nat) : hasT (putB B k x t) o = (hasT B o || decide (o = some x)) := by
  cases o with
  | none => rfl
  | some y =>
    show decide (0 < (if y = x then k + 1 else Bl B y)) = _
    by_cases h : y = x
    · rw [if_pos h, h]; simp
    · rw [if_neg h]
      have : (some y = some x) = False := by simp [h]
      simp [hasT, this]
theorem put_ar {B : GB} {k x t : Nat} (h0 : Bl B x = 0) (y : Nat) : arN (putB B k x t) y = arN B y + cnt (fun e => decide (bes (Bc B) (Br B) y e = some x)) 6 := by
  unfold arN
  rw [cnt_sum, cnt_sum, cnt_sum, ← sumN_add]
  refine sumN_congr (fun e _ => ?_)
  show (if hasT (putB B k x t) (bes (Bc B) (Br B) y e) = true then 1 else 0) = _
  rw [put_hT]
  by_cases q : bes (Bc B) (Br B) y e = some x
  · have : hasT B (some x) = false := by simp [hasT, h0]
    rw [q, this]; simp
  · simp [q]
theorem nb_le {c r x y : Nat} (hc : 3 ≤ c ∧ c ≤ 7) (hr : 3 ≤ r ∧ r ≤ 7) (hy : y < c * r) : ∀ n, n ≤ 6 → cnt (fun e => decide (bes c r y e = some x)) n ≤ 1
  | 0, _ => Nat.zero_le _
  | n + 1, hn => by
    show cnt _ n + (if decide (bes c r y n = some x) then 1 else 0) ≤ 1
    have ih := nb_le hc hr hy n (x := x) (by omega)
    by_cases q : bes c r y n = some x
    · have : cnt (fun e => decide (bes c r y e = some x)) n = 0 := by
        rw [cnt_sum]
        exact sumN_zero (fun e he => by simp [bes_u hc hr hy (by omega) he q])
      rw [this]; simp [q]
    · simp [q]; exact ih
theorem nb_ar {B : GB} {x y : Nat} (h0 : Bl B x = 0) : arN B y + cnt (fun e => decide (bes (Bc B) (Br B) y e = some x)) 6 ≤ 6 := by
  rw [← put_ar (k := 0) (t := 0) h0]
  exact arN_le _ _
/-- rings that are closed -/
theorem put_rg {B : GB} (hB : BO B) {k x t : Nat} (hx : x < Bz B) (h0 : Bl B x = 0) : 10 * rgN (putB B k x t) = 10 * rgN B + sumN (fun e => match bes (Bc B) (Br B) x e with | none => 0 | some y => if arN B y = 5 then 10 else 0) 6 := by
  have e1 : sumN (fun e => match bes (Bc B) (Br B) x e with | none => 0 | some y => if arN B y = 5 then 10 else 0) 6 = sumN (fun y => sumN (fun e => if bes (Bc B) (Br B) y e = some x then (if arN B y = 5 then 10 else 0) else 0) 6) (Bz B) := by
    have := nb_sum hB.1.1 hB.1.2 hx (Nat.le_refl 6) (fun y _ => if arN B y = 5 then 10 else 0)
    refine Eq.trans ?_ this.symm
    exact (six (fun e => match bes (Bc B) (Br B) x e with | none => 0 | some y => if arN B y = 5 then 10 else 0)).symm
  rw [e1]
  unfold rgN
  rw [cnt_sum, cnt_sum, sumN_mul, sumN_mul]
  show sumN _ (Bz B) = _
  rw [← sumN_add]
  refine sumN_congr (fun y hy => ?_)
  have hn := nb_le hB.1.1 hB.1.2 hy (x := x) 6 (Nat.le_refl 6)
  have ha := nb_ar (B := B) (x := x) (y := y) h0
  have e2 : sumN (fun e => if bes (Bc B) (Br B) y e = some x then (if arN B y = 5 then 10 else 0) else 0) 6 = (if arN B y = 5 then 10 else 0) * cnt (fun e => decide (bes (Bc B) (Br B) y e = some x)) 6 := by
    rw [cnt_sum, sumN_mul]
    refine sumN_congr (fun e _ => ?_)
    by_cases q : bes (Bc B) (Br B) y e = some x <;> simp [q]
  rw [e2]
  unfold riN
  rw [put_ar h0]
  generalize cnt (fun e => decide (bes (Bc B) (Br B) y e = some x)) 6 = N at *
  generalize arN B y = M at *
  have hN : N = 0 ∨ N = 1 := by omega
  rcases hN with rfl | rfl
  · simp
  · by_cases h5 : M = 5
    · subst h5; decide
    · have : ¬ M + 1 = 6 := by omega
      have : ¬ M = 6 := by omega
      simp [*]
theorem ff_no {p : Nat → Bool} : ∀ (f i : Nat), ff p f i = none → ∀ j, i ≤ j → j < i + f → p j = false
  | 0, i, _, j, h1, h2 => by omega
  | f + 1, i, h, j, h1, h2 => by
    unfold ff at h
    cases hp : p i with
    | true => rw [hp] at h; cases h
    | false =>
      rw [hp] at h
      by_cases q : j = i
      · rw [q]; exact hp
      · exact ff_no f (i + 1) h j (by omega) (by omega)
/-- the numbers that a tile brings -/
def gsE (B : GB) (k x t e : Nat) : Nat := if hasT B (bes (Bc B) (Br B) x e) then Bn B k (ed e t) else 0
theorem put_su {B : GB} (hC : BC B) {k x t : Nat} (hk : k < Bt B) (hx : x < Bz B) (hf : ftN B k x t = true) : suN (putB B k x t) = suN B + sumN (gsE B k x t) 6 := by
  obtain ⟨h0, hp0⟩ := ftN_d hf
  have hB := hC.1
  have hcr := hB.z
  have hag : agN B k x t = none := by
    unfold ftN at hf
    simp only [Bool.and_eq_true, Option.isNone_iff_eq_none] at hf
    exact hf.2
  have hag := ff_no _ _ hag
  have hnx : hasT B (some x) = false := by simp [hasT, h0]
  have nmx : ∀ e, nmA (putB B k x t) x e = Bn B k (ed e t) := fun e => by
    have e1 : Bl (putB B k x t) x = k + 1 := by show (if x = x then _ else _) = _; rw [if_pos rfl]
    unfold nmA
    rw [e1]
    show Bn B k (ed e (if k = k then t else Bu B k)) = _
    rw [if_pos rfl]
  have nmy : ∀ y e, y ≠ x → 0 < Bl B y → nmA (putB B k x t) y e = nmA B y e := fun y e hy hpy => by
    have e1 : Bl (putB B k x t) y = Bl B y := by show (if y = x then _ else _) = _; rw [if_neg hy]
    have hne : Bl B y - 1 ≠ k := fun q => by
      have := (hC.2.2.1 y (Bl B y - 1) (by omega)).2
      rw [q, hp0] at this; cases this
    unfold nmA
    rw [e1]
    show Bn B _ (ed e (if Bl B y - 1 = k then t else Bu B (Bl B y - 1))) = _
    rw [if_neg hne]
  have stp : ∀ y, y < Bz B → ∀ e, e < 3 → suE (putB B k x t) y e = suE B y e + ((if y = x then gsE B k x t e else 0) + (if bes (Bc B) (Br B) y e = some x then (if hasT B (some y) then nmA B y e else 0) else 0)) := by
    intro y hy e he
    unfold suE
    show (if hasT (putB B k x t) (some y) && hasT (putB B k x t) (bes (Bc B) (Br B) y e) then _ else 0) = _
    rw [put_hT, put_hT]
    by_cases hyx : y = x
    · subst hyx
      rw [hnx, if_pos rfl, if_neg (bes_ne hB.1.1 hB.1.2 hy (by omega)), nmx]
      have : decide (bes (Bc B) (Br B) y e = some y) = false := decide_eq_false (bes_ne hB.1.1 hB.1.2 hy (by omega))
      rw [this]
      simp [gsE]
    · rw [if_neg hyx]
      have : decide (some y = some x) = false := by simp [hyx]
      rw [this, Bool.or_false]
      by_cases hT : hasT B (some y) = true
      · have hpy : 0 < Bl B y := by simpa [hasT] using hT
        rw [nmy y e hyx hpy, hT]
        by_cases q : bes (Bc B) (Br B) y e = some x
        · rw [q, hnx]; simp
        · simp [q]
      · have hT : hasT B (some y) = false := by simpa using hT
        rw [hT]; simp
  have e1 : suN (putB B k x t) = sumN (fun y => sumN (fun e => suE B y e + ((if y = x then gsE B k x t e else 0) + (if bes (Bc B) (Br B) y e = some x then (if hasT B (some y) then nmA B y e else 0) else 0))) 3) (Bz B) :=
    sumN_congr (fun y hy => sumN_congr (stp y hy))
  have e2 : sumN (fun y => sumN (fun e => suE B y e + ((if y = x then gsE B k x t e else 0) + (if bes (Bc B) (Br B) y e = some x then (if hasT B (some y) then nmA B y e else 0) else 0))) 3) (Bz B) = suN B + (sumN (fun y => sumN (fun e => if y = x then gsE B k x t e else 0) 3) (Bz B) + sumN (fun y => sumN (fun e => if bes (Bc B) (Br B) y e = some x then (if hasT B (some y) then nmA B y e else 0) else 0) 3) (Bz B)) := by
    unfold suN
    rw [← sumN_add, ← sumN_add]
    refine sumN_congr (fun y _ => ?_)
    rw [← sumN_add, ← sumN_add]
  have e3 : sumN (fun y => sumN (fun e => if y = x then gsE B k x t e else 0) 3) (Bz B) = sumN (gsE B k x t) 3 := by
    rw [sumN_swap]
    refine sumN_congr (fun e _ => ?_)
    exact sumN_one (g := fun _ => gsE B k x t e) hx
  have e4 := nb_sum hB.1.1 hB.1.2 hx (by decide : 3 ≤ 6) (fun y e => if hasT B (some y) then nmA B y e else 0)
  have e5 : sumN (fun e => match bes (Bc B) (Br B) x ((e + 3) % 6) with | none => 0 | some y => if hasT B (some y) then nmA B y e else 0) 3 = sumN (fun e => gsE B k x t (e + 3)) 3 := by
    refine sumN_congr (fun e he => ?_)
    rw [show (e + 3) % 6 = e + 3 by omega]
    have ha := hag (e + 3) (by omega) (by omega)
    unfold agP at ha
    unfold gsE
    cases hb : bes (Bc B) (Br B) x (e + 3) with
    | none => rfl
    | some y =>
      rw [hb] at ha
      show (if hasT B (some y) then nmA B y e else 0) = _
      by_cases hT : hasT B (some y) = true
      · rw [hT] at ha ⊢
        have ha : decide (nmA B y ((e + 3 + 3) % 6) ≠ Bn B k (ed (e + 3) t)) = false := ha
        rw [show (e + 3 + 3) % 6 = e by omega] at ha
        rw [if_pos rfl, if_pos rfl]
        exact Classical.byContradiction fun q => of_decide_eq_false ha q
      · rw [if_neg hT, if_neg hT]
  rw [e1, e2, e3]
  refine congrArg (suN B + ·) ?_
  refine Eq.trans (congrArg (sumN (gsE B k x t) 3 + ·) (e4.trans e5)) ?_
  show 0 + gsE B k x t 0 + gsE B k x t 1 + gsE B k x t 2 + (0 + gsE B k x t 3 + gsE B k x t 4 + gsE B k x t 5) = 0 + gsE B k x t 0 + gsE B k x t 1 + gsE B k x t 2 + gsE B k x t 3 + gsE B k x t 4 + gsE B k x t 5
  omega
theorem gn_e {B : GB} (hB : BO B) {k x t e : Nat} (hx : x < Bz B) (h0 : Bl B x = 0) (he : e < 6) : gnE B k x t e = gsE B k x t e + (match bes (Bc B) (Br B) x e with | none => 0 | some y => if arN B y = 5 then 10 else 0) := by
  unfold gnE gsE
  cases hb : bes (Bc B) (Br B) x e with
  | none => rfl
  | some y =>
    show _ + _ = _ + _
    congr 1
    have hn : (atO B x).isNone = true := by rw [atO_n.mpr h0]; rfl
    rw [hn, Bool.true_and]
    by_cases h5 : arN B y = 5
    · have hbs := bes_sym hB.1.1 hB.1.2 hx he hb
      have hin : inN B y = true := by
        unfold inN
        rw [ff_none 6 0]
        · rfl
        · intro j _ hj
          show (bes (Bc B) (Br B) y j).isNone = false
          cases hbj : bes (Bc B) (Br B) y j with
          | some q => rfl
          | none =>
            exfalso
            have f1 : (fun e => hasT B (bes (Bc B) (Br B) y e)) j = false := by show hasT B (bes _ _ y j) = false; rw [hbj]; rfl
            have f2 : (fun e => hasT B (bes (Bc B) (Br B) y e)) ((e + 3) % 6) = false := by show hasT B (bes _ _ y ((e + 3) % 6)) = false; rw [hbs]; simp [hasT, h0]
            have hne : j ≠ (e + 3) % 6 := fun q => by rw [q, hbs] at hbj; cases hbj
            have h5 : cnt (fun e => hasT B (bes (Bc B) (Br B) y e)) 6 = 5 := h5
            rcases Nat.lt_or_gt_of_ne hne with q | q
            · have := cnt_lt2 (f := fun e => hasT B (bes (Bc B) (Br B) y e)) q (by omega : (e + 3) % 6 < 6) f1 f2; omega
            · have := cnt_lt2 (f := fun e => hasT B (bes (Bc B) (Br B) y e)) q (by omega : j < 6) f2 f1; omega
      rw [hin]; simp [h5]
    · simp [h5]
/-- the points with a tile that fits -/
theorem put_po {B : GB} (hC : BC B) {k x t : Nat} (hk : k < Bt B) (hx : x < Bz B) (hf : ftN B k x t = true) : poN (putB B k x t) = poN B + gnN B k x t := by
  obtain ⟨h0, hp0⟩ := ftN_d hf
  have hB := hC.1
  have e1 : sumN (gnE B k x t) 6 = sumN (gsE B k x t) 6 + sumN (fun e => match bes (Bc B) (Br B) x e with | none => 0 | some y => if arN B y = 5 then 10 else 0) 6 := by
    rw [← sumN_add]
    exact sumN_congr (fun e he => gn_e hB hx h0 he)
  have e2 : gnN B k x t = sumN (gnE B k x t) 6 := by
    unfold gnN
    split
    · rename_i hp
      have hx49 : x < 49 := by have := hB.z; omega
      refine (sumN_zero (fun e he => ?_)).symm
      unfold gnE
      cases hb : bes (Bc B) (Br B) x e with
      | none => rfl
      | some y =>
        have hy := bes_lt hB.1.1 hB.1.2 hx49 he hb
        have hT : hasT B (some y) = false := cnt_0 hp y hy
        have ha : ¬ arN B y = 5 := by
          intro q
          have : arN B y = 0 := by
            unfold arN
            rw [cnt_sum]
            refine sumN_zero (fun e he => ?_)
            cases hb2 : bes (Bc B) (Br B) y e with
            | none => rfl
            | some y2 =>
              have : hasT B (some y2) = false := cnt_0 hp y2 (bes_lt hB.1.1 hB.1.2 (Nat.lt_of_lt_of_le hy hB.z) he hb2)
              simp [this]
          omega
        show (if hasT B (some y) then _ else 0) + _ = 0
        rw [hT]; simp [ha]
    · rfl
  rw [e2, e1]
  unfold poN
  have := put_rg hB (k := k) (t := t) hx h0
  have := put_su hC hk hx hf
  omega
end PB7
