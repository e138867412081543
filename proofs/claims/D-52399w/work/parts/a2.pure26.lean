/-! ===== the digest, in plain numbers; room for the best tile ===== -/
section PB26
set_option maxRecDepth 100000
def dgX (B : GB) (rn : Int32) : Nat → Int32 := fun j => if j = 0 then nI (Bc B) else if j = 1 then nI (Br B) else if j = 2 then nI (Bt B) else if j = 3 then rn else if j = 4 then nI (plN B) else if j = 5 then nI (maN B) else if j = 6 then nI (poN B) else if j = 7 then nI (rgN B) else if j = 8 then nI (grp B (Bz B)).1 else oI ((btN B (Bt B)).map Prod.fst)
def dgL (f : Nat → Int32) : Nat → Int64
  | 0 => 1009
  | k + 1 => dgL f k * 31 + (f k).toInt64
theorem dgL_c {f g : Nat → Int32} : ∀ n, (∀ j, j < n → f j = g j) → dgL f n = dgL g n
  | 0, _ => rfl
  | n + 1, h => by
    show dgL f n * 31 + (f n).toInt64 = dgL g n * 31 + (g n).toInt64
    rw [dgL_c n (fun j hj => h j (by omega)), h n (by omega)]
def dgC (B : GB) (d : Int64) : Nat → Int64
  | 0 => d
  | c + 1 => ((dgC B d c * 31 + (oI (atO B c)).toInt64) * 31 + (nI (moN B c)).toInt64) * 31 + (bI (riN B c)).toInt64
def tuI (B : GB) (k : Nat) : Int32 := if (Bp B k).isSome then nI (Bu B k) else -1
def dgT (B : GB) (d : Int64) : Nat → Int64
  | 0 => d
  | k + 1 => ((dgT B d k * 31 + (tuI B k).toInt64) * 31 + (nI (wyN B k)).toInt64) * 31 + (bI (lfN B k)).toInt64
def dgA (B : GB) (rn : Int32) : Int64 := dgT B (dgC B (dgL (dgX B rn) 10) (Bz B)) (Bt B)
theorem lie0 : ∀ l, l < 17 → ∀ x : Int64, True → (nI l).toInt64 - 1 = (if l = 0 then (-1 : Int32) else nI (l - 1)).toInt64 := by
  intro l hl x _
  have : ∀ l, l < 17 → (nI l).toInt64 - 1 = (if l = 0 then (-1 : Int32) else nI (l - 1)).toInt64 := by decide
  exact this l hl
theorem lie_e {B : GB} {c : Nat} (h : Bl B c ≤ 16) (x : Int64) : x + (nI (Bl B c)).toInt64 - 1 = x + (oI (atO B c)).toInt64 := by
  have e : (oI (atO B c)) = (if Bl B c = 0 then (-1 : Int32) else nI (Bl B c - 1)) := by
    by_cases q : Bl B c = 0
    · rw [if_pos q, atO_n.mpr q]; rfl
    · obtain ⟨k, hk⟩ : ∃ k, Bl B c = k + 1 := ⟨Bl B c - 1, by omega⟩
      rw [if_neg q, atO_s.mpr hk, hk]; rfl
  rw [e, ← lie0 _ (by omega) x trivial]
  rw [Int64.sub_eq_add_neg, Int64.sub_eq_add_neg, Int64.add_assoc]
theorem ixO_n {c n : Nat} (h : c < n) (hn : n < 2 ^ 31) : ixO (nI c) n = some c := by
  unfold ixO ixB
  rw [decide_eq_true (nI_pos' (by omega)), decide_eq_true (nI_lt h hn)]
  show some (nI c).toNatClampNeg = _
  rw [nI_clamp (by omega)]
/-- improvements: no more than ways -/
theorem bwC_le (B : GB) (k : Nat) : ∀ n, bwC B k n ≤ cnt (fwP B k) n
  | 0 => Nat.le_refl _
  | n + 1 => by
    have ih := bwC_le B k n
    cases h : oLt ((bwN B k n).map Prod.snd) (mdN B k n) with
    | true =>
      rw [(bwN_t h).2]
      show _ ≤ cnt (fwP B k) n + _
      have hf : fwP B k n = true := by
        have := bwN_w (bwN_t h).1
        exact this.2.1
      rw [hf]
      simp only [if_true]
      omega
    | false =>
      rw [(bwN_f h).2]
      show _ ≤ cnt (fwP B k) n + _
      omega
theorem cnt6 {B : GB} {k : Nat} : ∀ m, cnt (fwP B k) (6 * m) ≤ 6 * cnt (fun x => decide (Bl B x = 0)) m
  | 0 => Nat.le_refl _
  | m + 1 => by
    have ih := cnt6 (B := B) (k := k) m
    have st : ∀ w, w / 6 = m → fwP B k w = true → Bl B m = 0 := fun w hw hf => by
      have := ftN_d (show ftN B k (w / 6) (w % 6) = true from hf)
      rw [hw] at this
      exact this.1
    have e : 6 * (m + 1) = 6 * m + 1 + 1 + 1 + 1 + 1 + 1 := by omega
    rw [e]
    show cnt (fwP B k) (6 * m) + (if fwP B k (6 * m) then 1 else 0) + (if fwP B k (6 * m + 1) then 1 else 0) + (if fwP B k (6 * m + 1 + 1) then 1 else 0) + (if fwP B k (6 * m + 1 + 1 + 1) then 1 else 0) + (if fwP B k (6 * m + 1 + 1 + 1 + 1) then 1 else 0) + (if fwP B k (6 * m + 1 + 1 + 1 + 1 + 1) then 1 else 0) ≤ 6 * (cnt (fun x => decide (Bl B x = 0)) m + (if decide (Bl B m = 0) then 1 else 0))
    by_cases q : Bl B m = 0
    · rw [decide_eq_true q]
      simp only [if_true]
      repeat' split
      all_goals omega
    · have nf : ∀ w, w / 6 = m → fwP B k w = false := fun w hw => by
        cases h : fwP B k w with
        | false => rfl
        | true => exact absurd (st w hw h) q
      rw [nf (6 * m) (by omega), nf (6 * m + 1) (by omega), nf (6 * m + 1 + 1) (by omega), nf (6 * m + 1 + 1 + 1) (by omega), nf (6 * m + 1 + 1 + 1 + 1) (by omega), nf (6 * m + 1 + 1 + 1 + 1 + 1) (by omega)]
      simp
      omega
theorem cnt_c (p q : Nat → Bool) (h : ∀ i, q i = !(p i)) : ∀ n, cnt p n + cnt q n = n
  | 0 => rfl
  | n + 1 => by
    have ih := cnt_c p q h n
    show cnt p n + (if p n then 1 else 0) + (cnt q n + (if q n then 1 else 0)) = n + 1
    rw [h n]
    cases p n <;> simp <;> omega
theorem bwN_0 {B : GB} (hC : BC B) {k : Nat} (hk : k < Bt B) (h0 : plN B = 0) : ∀ n, n ≤ 6 * Bz B → bwC B k n ≤ 1 ∧ (bwN B k n = none → bwC B k n = 0)
  | 0, _ => ⟨Nat.zero_le _, fun _ => rfl⟩
  | n + 1, hn => by
    have ih := bwN_0 hC hk h0 n (by omega)
    cases h : oLt ((bwN B k n).map Prod.snd) (mdN B k n) with
    | false => rw [(bwN_f h).2, (bwN_f h).1]; exact ih
    | true =>
      rw [(bwN_t h).2, (bwN_t h).1]
      cases hb : bwN B k n with
      | none => exact ⟨by rw [ih.2 hb]; exact Nat.le_refl _, fun q => by cases q⟩
      | some x =>
        exfalso
        have a1 := bw_p hC hk (by omega) (show bwN B k n = some (x.1, x.2) from hb)
        have a2 := bw_p hC hk hn (bwN_t h).1
        have g0 : ∀ c t, gnN B k c t = 0 := fun c t => by unfold gnN; rw [if_pos h0]
        rw [g0] at a1 a2
        have w := bwN_w (bwN_t h).1
        have hm : mdN B k n = some (pwN B k n) := by unfold mdN; rw [if_pos w.2.1]
        rw [hb, hm] at h
        have h : decide (x.2 < pwN B k n) = true := h
        have := of_decide_eq_true h
        omega
theorem bwC_288 {B : GB} (hC : BC B) {k : Nat} (hk : k < Bt B) : bwC B k (6 * Bz B) ≤ 288 := by
  have hz := BO.z hC.1
  by_cases h0 : plN B = 0
  · have := (bwN_0 hC hk h0 (6 * Bz B) (Nat.le_refl _)).1; omega
  · have a := bwC_le B k (6 * Bz B)
    have b := cnt6 (B := B) (k := k) (Bz B)
    have c := cnt_c (fun x => hasT B (some x)) (fun x => decide (Bl B x = 0)) (fun i => by
      show decide (Bl B i = 0) = !(decide (0 < Bl B i))
      by_cases q : Bl B i = 0
      · rw [q]; rfl
      · rw [decide_eq_false q, decide_eq_true (by omega)]; rfl) (Bz B)
    have d : plN B = cnt (fun x => hasT B (some x)) (Bz B) := rfl
    omega
theorem btC_le {B : GB} (hC : BC B) : btC B (Bt B) ≤ 4608 := by
  have : ∀ n, n ≤ Bt B → sumN (fun i => bwC B i (6 * Bz B)) n ≤ n * 288 := by
    intro n
    induction n with
    | zero => intro _; exact Nat.le_refl _
    | succ n ih =>
      intro hn
      have h1 := ih (by omega)
      have h2 := bwC_288 hC (show n < Bt B by omega)
      show sumN _ n + bwC B n (6 * Bz B) ≤ _
      omega
  have h1 := this (Bt B) (Nat.le_refl _)
  have h2 := hC.1.2.1
  show sumN _ _ ≤ _
  omega
end PB26
