/-! ===== the model's best way ===== -/
section PB8
set_option maxRecDepth 100000
theorem bw_p {B : GB} (hC : BC B) {k n w p : Nat} (hk : k < Bt B) (hn : n ≤ 6 * Bz B) (h : bwN B k n = some (w, p)) : p = poN B + gnN B k (w / 6) (w % 6) := by
  obtain ⟨h1, h2, h3⟩ := bwN_w h
  rw [h3]
  exact put_po hC hk (by omega) h2
/-- what the best way of the first n brings -/
def bgN (B : GB) (k n : Nat) : Option Nat := (bwN B k n).map (fun p => p.2 - poN B)
theorem bg_lt {B : GB} (hC : BC B) {k w : Nat} (hk : k < Bt B) (hw : w < 6 * Bz B) (hf : fwP B k w = true) : oLt (bgN B k w) (some (gnN B k (w / 6) (w % 6))) = oLt ((bwN B k w).map Prod.snd) (mdN B k w) := by
  have hp : pwN B k w = poN B + gnN B k (w / 6) (w % 6) := put_po hC hk (by omega) hf
  rw [mdN_some hf, hp]
  unfold bgN
  cases hb : bwN B k w with
  | none => rfl
  | some q =>
    have := bw_p hC hk (by omega) hb
    show decide (q.2 - poN B < _) = decide (q.2 < _)
    congr 1
    simp only [eq_iff_iff]
    omega
theorem bgN_le {B : GB} (hC : BC B) {k n : Nat} (hk : k < Bt B) (hn : n ≤ 6 * Bz B) : ∀ y, bgN B k n = some y → y < 2 ^ 31 := by
  intro y h
  unfold bgN at h
  cases hb : bwN B k n with
  | none => rw [hb] at h; cases h
  | some q =>
    rw [hb] at h; cases h
    have := bw_p hC hk hn hb
    have := gnN_le hC.1 hk (q.1 / 6) (q.1 % 6)
    show q.2 - poN B < 2 ^ 31
    omega
def bgI (I : Nat → Int32) (B : GB) (k n : Nat) : Nat → Int32 := match bwN B k n with
  | none => upd I 8 (-1)
  | some q => upd (upd (upd I 8 (nI (q.2 - poN B))) 9 (nI (q.1 / 6))) 10 (nI (q.1 % 6))
theorem bgI_8 (I : Nat → Int32) (B : GB) (k n : Nat) : bgI I B k n 8 = oI (bgN B k n) := by
  unfold bgI bgN
  cases bwN B k n <;> rfl
theorem bgI_f {I : Nat → Int32} {B : GB} {k w : Nat} (h : bwN B k (w + 1) = bwN B k w) : bgI I B k (w + 1) = bgI I B k w := by unfold bgI; rw [h]
theorem upd_ne {f : Nat → Int32} {a b : Nat} {x : Int32} (h : b ≠ a) : upd f a x b = f b := by simp [upd, h]
theorem upd_eq {f : Nat → Int32} {a : Nat} {x : Int32} : upd f a x a = x := by simp [upd]
theorem bgI_t {I : Nat → Int32} {B : GB} {k w p : Nat} (h : bwN B k (w + 1) = some (w, p)) : upd (upd (upd (bgI I B k w) 8 (nI (p - poN B))) 9 (nI (w / 6))) 10 (nI (w % 6)) = bgI I B k (w + 1) := by
  have e : bgI I B k (w + 1) = upd (upd (upd I 8 (nI (p - poN B))) 9 (nI (w / 6))) 10 (nI (w % 6)) := by unfold bgI; rw [h]
  rw [e]
  funext j
  by_cases h10 : j = 10
  · rw [h10, upd_eq, upd_eq]
  · by_cases h9 : j = 9
    · rw [h9, upd_ne (by decide), upd_eq, upd_ne (by decide), upd_eq]
    · by_cases h8 : j = 8
      · rw [h8, upd_ne (by decide), upd_ne (by decide), upd_eq, upd_ne (by decide), upd_ne (by decide), upd_eq]
      · rw [upd_ne h10, upd_ne h9, upd_ne h8, upd_ne h10, upd_ne h9, upd_ne h8]
        unfold bgI
        cases bwN B k w with
        | none => exact upd_ne h8
        | some q => show upd (upd (upd I 8 _) 9 _) 10 _ j = _; rw [upd_ne h10, upd_ne h9, upd_ne h8]
theorem bgI_lo {I : Nat → Int32} {B : GB} {k n j : Nat} (hj : j < 8) : bgI I B k n j = I j := by
  unfold bgI
  cases bwN B k n with
  | none => exact upd_ne (by omega)
  | some q => show upd (upd (upd I 8 _) 9 _) 10 _ j = _; rw [upd_ne (by omega), upd_ne (by omega), upd_ne (by omega)]
theorem bgI_is {B : GB} {k n : Nat} : (bgN B k n).isSome = (bwN B k n).isSome := by
  unfold bgN; cases bwN B k n <;> rfl
/-- the model's best tile, with what it brings -/
theorem bt_g {B : GB} (hC : BC B) : ∀ {n : Nat}, n ≤ Bt B → ∀ {k p : Nat}, btN B n = some (k, p) → poN B ≤ p ∧ p - poN B < 2 ^ 31 := by
  intro n hn k p h
  obtain ⟨h1, w, h2⟩ := btN_lt h
  have := bw_p hC (by omega) (Nat.le_refl _) h2
  have := gnN_le hC.1 (k := k) (by omega) (w / 6) (w % 6)
  omega
def tgN (B : GB) (n : Nat) : Option Nat := (btN B n).map (fun p => p.2 - poN B)
theorem tg_le {B : GB} (hC : BC B) {n : Nat} (hn : n ≤ Bt B) : ∀ y, tgN B n = some y → y < 2 ^ 31 := by
  intro y h
  unfold tgN at h
  cases hb : btN B n with
  | none => rw [hb] at h; cases h
  | some q => rw [hb] at h; cases h; exact (bt_g hC hn hb).2
theorem tg_lt {B : GB} (hC : BC B) {n : Nat} (hn : n < Bt B) : oLt (tgN B n) (bgN B n (6 * Bz B)) = oLt ((btN B n).map Prod.snd) ((bwN B n (6 * Bz B)).map Prod.snd) := by
  unfold tgN bgN
  cases hb : bwN B n (6 * Bz B) with
  | none => rfl
  | some q =>
    have h1 := bw_p hC hn (Nat.le_refl _) hb
    cases ht : btN B n with
    | none => rfl
    | some r =>
      have h2 := bt_g hC (Nat.le_of_lt hn) ht
      show decide (r.2 - poN B < q.2 - poN B) = decide (r.2 < q.2)
      congr 1
      simp only [eq_iff_iff]
      omega
end PB8
