/-! ===== put and take: the board stays consistent, the model follows ===== -/
section PB12
set_option maxRecDepth 100000
theorem BC_put {B : GB} (hC : BC B) {k x t : Nat} (hk : k < Bt B) (hx : x < Bz B) (ht : t < 6) (h0 : Bl B x = 0) (hp : Bp B k = none) : BC (putB B k x t) := by
  obtain ⟨hB, h1, h2, h3⟩ := hC
  have hz := hB.z
  refine ⟨putB_o hB hk (by omega) ht, fun i hi q => ?_, fun y i q => ?_, fun i y q => ?_⟩
  · replace q : (if i = k then some x else Bp B i) = none := q
    show (if i = k then t else Bu B i) = 0
    split at q
    · cases q
    · rename_i hne; rw [if_neg hne]; exact h1 i hi q
  · replace q : (if y = x then k + 1 else Bl B y) = i + 1 := q
    show i < Bt B ∧ (if i = k then some x else Bp B i) = some y
    split at q
    · rename_i e
      have : i = k := by omega
      subst this; subst e
      exact ⟨hk, if_pos rfl⟩
    · have := h2 y i q
      refine ⟨this.1, ?_⟩
      rw [if_neg (fun e => by rw [e, hp] at this; cases this.2)]
      exact this.2
  · replace q : (if i = k then some x else Bp B i) = some y := q
    show i < Bt B ∧ (if y = x then k + 1 else Bl B y) = i + 1 ∧ y < Bz B
    split at q
    · rename_i e
      cases q; subst e
      exact ⟨hk, if_pos rfl, hx⟩
    · have := h3 i y q
      refine ⟨this.1, ?_, this.2.2⟩
      rw [if_neg (fun e => by rw [e] at this; omega)]
      exact this.2.1
theorem BC_tak {B : GB} (hC : BC B) {k x : Nat} (hp : Bp B k = some x) : BC (takB B k) := by
  obtain ⟨hB, h1, h2, h3⟩ := hC
  have hg : (Bp B k).getD 0 = x := by rw [hp]; rfl
  refine ⟨takB_o hB, fun i hi q => ?_, fun y i q => ?_, fun i y q => ?_⟩
  · replace q : (if i = k then none else Bp B i) = none := q
    show (if i = k then 0 else Bu B i) = 0
    split
    · rfl
    · rename_i hne; rw [if_neg hne] at q; exact h1 i hi q
  · replace q : (if y = (Bp B k).getD 0 then 0 else Bl B y) = i + 1 := q
    rw [hg] at q
    show i < Bt B ∧ (if i = k then none else Bp B i) = some y
    split at q
    · cases q
    · rename_i hne
      have := h2 y i q
      refine ⟨this.1, ?_⟩
      rw [if_neg (fun e => by rw [e, hp] at this; exact hne (Option.some.inj this.2).symm)]
      exact this.2
  · replace q : (if i = k then none else Bp B i) = some y := q
    show i < Bt B ∧ (if y = (Bp B k).getD 0 then 0 else Bl B y) = i + 1 ∧ y < Bz B
    rw [hg]
    split at q
    · cases q
    · rename_i hne
      have := h3 i y q
      refine ⟨this.1, ?_, this.2.2⟩
      rw [if_neg (fun e => by have h4 := (h3 k x hp).2.1; rw [e] at this; omega)]
      exact this.2.1
theorem plN_put {B : GB} {k x t : Nat} (hx : x < Bz B) (h0 : Bl B x = 0) : plN (putB B k x t) = plN B + 1 := by
  have e : (fun y => hasT (putB B k x t) (some y)) = va_up (fun y => hasT B (some y)) x true := by
    funext y
    rw [put_hT]
    unfold va_up
    by_cases h : y = x
    · simp [h]
    · simp [h]
  show cnt (fun y => hasT (putB B k x t) (some y)) (Bz B) = _
  rw [e]
  exact cnt_up (by simp [hasT, h0]) hx
theorem plN_tak {B : GB} (hC : BC B) {k x : Nat} (hp : Bp B k = some x) : plN B = plN (takB B k) + 1 := by
  obtain ⟨hk, hl, hx⟩ := hC.2.2.2 k x hp
  have hg : (Bp B k).getD 0 = x := by rw [hp]; rfl
  have e : (fun y => hasT B (some y)) = va_up (fun y => hasT (takB B k) (some y)) x true := by
    funext y
    unfold va_up
    by_cases h : y = x
    · rw [if_pos h, h]; simp [hasT, hl]
    · rw [if_neg h]
      show _ = decide (0 < (if y = (Bp B k).getD 0 then 0 else Bl B y))
      rw [hg, if_neg h]; rfl
  unfold plN
  rw [e]
  refine cnt_up ?_ hx
  show decide (0 < (if x = (Bp B k).getD 0 then 0 else Bl B x)) = false
  rw [hg, if_pos rfl]; rfl
def putM (M : MS) (b a k x t : Nat) : MS := (upd M.1 b (M.1 b + nI 1), va_up (va_up (va_up M.2.1 a (upd (M.2.1 a) x (nI k))) (a + 1) (upd (M.2.1 (a + 1)) k (nI x))) (a + 2) (upd (M.2.1 (a + 2)) k (nI t)), M.2.2)
def takM (M : MS) (b a k x : Nat) : MS := (upd M.1 b (M.1 b - nI 1), va_up (va_up M.2.1 a (upd (M.2.1 a) x (-1))) (a + 1) (upd (M.2.1 (a + 1)) k (-1)), M.2.2)
theorem va_ne {α : Type} {f : Nat → α} {a b : Nat} {v : α} (h : b ≠ a) : va_up f a v b = f b := by unfold va_up; rw [if_neg h]
theorem va_eq {α : Type} {f : Nat → α} {a : Nat} {v : α} : va_up f a v a = v := by unfold va_up; rw [if_pos rfl]
theorem atO_put {B : GB} {k x t : Nat} : (fun y => oI (atO (putB B k x t) y)) = upd (fun y => oI (atO B y)) x (nI k) := by
  funext y
  unfold upd
  by_cases h : y = x
  · rw [if_pos h, atO_s.mpr (show Bl (putB B k x t) y = k + 1 from if_pos h)]; rfl
  · rw [if_neg h]
    have : Bl (putB B k x t) y = Bl B y := if_neg h
    unfold atO; rw [this]
theorem atO_tak {B : GB} {k x : Nat} (hp : Bp B k = some x) : (fun y => oI (atO (takB B k) y)) = upd (fun y => oI (atO B y)) x (-1) := by
  have hg : (Bp B k).getD 0 = x := by rw [hp]; rfl
  funext y
  unfold upd
  by_cases h : y = x
  · have : Bl (takB B k) y = 0 := by show (if y = (Bp B k).getD 0 then _ else _) = _; rw [hg, if_pos h]
    rw [if_pos h, atO_n.mpr this]; rfl
  · rw [if_neg h]
    have : Bl (takB B k) y = Bl B y := by show (if y = (Bp B k).getD 0 then _ else _) = _; rw [hg, if_neg h]
    unfold atO; rw [this]
theorem MBd_put {M : MS} {b a : Nat} {B : GB} (hb : MBd M b a B) (hba : (b = 30 ∧ a = 40) ∨ (b = 32 ∧ a = 43)) {k x t : Nat} (hx : x < Bz B) (h0 : Bl B x = 0) : MBd (putM M b a k x t) b a (putB B k x t) := by
  obtain ⟨h1, h2, h3, h4, h5, h6, h7, h8⟩ := hb
  refine ⟨?_, ?_, ?_, fun i p hi hp => ?_, ?_, ?_, ?_, fun i y hy => ?_⟩
  · show upd M.1 b _ 20 = _; rw [upd_ne (by omega)]; exact h1
  · show upd M.1 b _ 21 = _; rw [upd_ne (by omega)]; exact h2
  · show upd M.1 b _ 22 = _; rw [upd_ne (by omega)]; exact h3
  · show va_up (va_up (va_up M.2.1 a _) (a + 1) _) (a + 2) _ 20 _ = _
    rw [va_ne (by omega), va_ne (by omega), va_ne (by omega)]; exact h4 i p hi hp
  · show upd M.1 b _ b = _; rw [upd_eq, h5, plN_put hx h0, nI_add]
  · show va_up (va_up (va_up M.2.1 a _) (a + 1) _) (a + 2) _ a = _
    rw [va_ne (by omega), va_ne (by omega), va_eq, h6]; exact atO_put.symm
  · show va_up (va_up (va_up M.2.1 a _) (a + 1) _) (a + 2) _ (a + 1) = _
    rw [va_ne (by omega), va_eq, h7]
    funext i
    show (if i = k then nI x else oI (Bp B i)) = oI (if i = k then some x else Bp B i)
    split <;> rfl
  · show va_up (va_up (va_up M.2.1 a _) (a + 1) _) (a + 2) _ (a + 2) i = _
    rw [va_eq]
    replace hy : (if i = k then some x else Bp B i) = some y := hy
    show (if i = k then nI t else M.2.1 (a + 2) i) = nI (if i = k then t else Bu B i)
    by_cases q : i = k
    · rw [if_pos q, if_pos q]
    · rw [if_neg q, if_neg q]; rw [if_neg q] at hy; exact h8 i y hy
theorem MBd_tak {M : MS} {b a : Nat} {B : GB} (hb : MBd M b a B) (hC : BC B) (hba : (b = 30 ∧ a = 40) ∨ (b = 32 ∧ a = 43)) {k x : Nat} (hp : Bp B k = some x) : MBd (takM M b a k x) b a (takB B k) := by
  obtain ⟨h1, h2, h3, h4, h5, h6, h7, h8⟩ := hb
  refine ⟨?_, ?_, ?_, fun i p hi hp => ?_, ?_, ?_, ?_, fun i y hy => ?_⟩
  · show upd M.1 b _ 20 = _; rw [upd_ne (by omega)]; exact h1
  · show upd M.1 b _ 21 = _; rw [upd_ne (by omega)]; exact h2
  · show upd M.1 b _ 22 = _; rw [upd_ne (by omega)]; exact h3
  · show va_up (va_up M.2.1 a _) (a + 1) _ 20 _ = _
    rw [va_ne (by omega), va_ne (by omega)]; exact h4 i p hi hp
  · show upd M.1 b _ b = _
    have := plN_tak hC hp
    rw [upd_eq, h5, this, pk_sub (by omega)]; rfl
  · show va_up (va_up M.2.1 a _) (a + 1) _ a = _
    rw [va_ne (by omega), va_eq, h6]; exact (atO_tak hp).symm
  · show va_up (va_up M.2.1 a _) (a + 1) _ (a + 1) = _
    rw [va_eq, h7]
    funext i
    show (if i = k then -1 else oI (Bp B i)) = oI (if i = k then none else Bp B i)
    split <;> rfl
  · show va_up (va_up M.2.1 a _) (a + 1) _ (a + 2) i = _
    rw [va_ne (by omega), va_ne (by omega)]
    replace hy : (if i = k then none else Bp B i) = some y := hy
    show _ = nI (if i = k then 0 else Bu B i)
    split at hy
    · cases hy
    · rename_i q; rw [if_neg q]; exact h8 i y hy
end PB12
