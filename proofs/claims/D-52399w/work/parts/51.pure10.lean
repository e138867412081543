/-! ===== the model's memory: ints (0.. its own, 20.. told, 25.. fresh, 30.. now, 32.. ahead), rows by their place in D, what is seen ===== -/
section PB10
set_option maxRecDepth 100000
abbrev MS : Type := (Nat → Int32) × (Nat → Nat → Int32) × (Nat → Bool)
/-- the places: 0 itself, 1 tape, 2 kind, 3 number, 4 position, 5 length, 6 named, 7 told, 8 fresh, 9 value, 10 now, 11 ahead, 12 queue, 13 isSeen, 20.. told's rows, 30.. fresh's, 40.. now's, 43.. ahead's -/
def mi (i : Nat) : Bool := decide (i < 14) || (decide (20 ≤ i) && decide (i < 46))
def mln (i : Nat) : Nat := if i = 1 then 2000 else if i < 6 then 402 else if i = 6 then 16 else if i = 9 then 800 else if i = 12 then 49 else if i = 20 ∨ i = 30 then 51 else if i = 25 ∨ i = 35 then 51 else if i < 27 then 17 else if i < 30 then 800 else if i < 37 then 17 else if i < 40 then 800 else if i = 40 ∨ i = 43 then 49 else 16
def mdC (Γ : Gm) (D : Nat → Nat) (M : MS) (i : Nat) : va_E := if i = 0 then cMd M.1 D else if i = 7 then cTd (M.1 20) (M.1 21) (M.1 22) (M.1 23) (M.1 24) (fun i => D (20 + i)) else if i = 8 then cTd (M.1 25) (M.1 26) (M.1 27) (M.1 28) (M.1 29) (fun i => D (30 + i)) else if i = 10 then cSt (fun i => D (40 + i)) (M.1 30) (M.1 31) else if i = 11 then cSt (fun i => D (43 + i)) (M.1 32) (M.1 33) else if i = 13 then cZ Γ 49 (fun i => bI (M.2.2 i)) else cI Γ (mln i) (M.2.1 i)
def Mx (Γ : Gm) (h : AH) (D : Nat → Nat) (M : MS) : Prop := (∀ i, mi i = true → h (D i) = some (mdC Γ D M i)) ∧ ∀ i j, mi i = true → mi j = true → D i = D j → i = j
/-- only the model's cells have changed -/
def FrD (h h' : AH) (D : Nat → Nat) : Prop := ∀ a, (∀ i, mi i = true → a ≠ D i) → h' a = h a
theorem FrD.rf {h : AH} {D : Nat → Nat} : FrD h h D := fun _ _ => rfl
theorem FrD.tr {h h1 h2 : AH} {D : Nat → Nat} (a : FrD h h1 D) (b : FrD h1 h2 D) : FrD h h2 D := fun x hx => (b x hx).trans (a x hx)
theorem FrD.w {h h1 : AH} {D : Nat → Nat} {i : Nat} {e : va_E} (a : FrD h h1 D) (hi : mi i = true) : FrD h (up h1 (D i) e) D := fun x hx => by
  rw [up_n (hx i hi)]; exact a x hx
theorem Mx.w {Γ : Gm} {h : AH} {D : Nat → Nat} {M M' : MS} {i : Nat} {e : va_E} (hM : Mx Γ h D M) (hi : mi i = true) (he : mdC Γ D M' i = e) (hn : ∀ j, mi j = true → j ≠ i → mdC Γ D M' j = mdC Γ D M j) : Mx Γ (up h (D i) e) D M' := by
  refine ⟨fun j hj => ?_, hM.2⟩
  by_cases q : j = i
  · subst q; rw [up_s, he]
  · rw [up_n (fun q' => q (hM.2 j i hj hi q')), hn j hj q]; exact hM.1 j hj
theorem cMd_c {I I' : Nat → Int32} {D : Nat → Nat} (h : ∀ j, j < 11 → I' j = I j) : cMd I' D = cMd I D := by
  unfold cMd
  rw [h 0 (by decide), h 1 (by decide), h 2 (by decide), h 3 (by decide), h 4 (by decide), h 5 (by decide), h 6 (by decide), h 7 (by decide), h 8 (by decide), h 9 (by decide), h 10 (by decide)]
/-- which object has an int -/
def iow (j : Nat) : Nat := if j < 11 then 0 else if j < 25 then 7 else if j < 30 then 8 else if j < 32 then 10 else 11
theorem mdC_i {Γ : Gm} {D : Nat → Nat} {M : MS} {j : Nat} {v : Int32} (hj : j < 11 ∨ 20 ≤ j) : ∀ i, i ≠ iow j → mdC Γ D (upd M.1 j v, M.2) i = mdC Γ D M i := by
  intro i hi
  have key : ∀ q, iow q = i ∨ ¬ (q < 11 ∨ 20 ≤ q) → q < 34 → upd M.1 j v q = M.1 q := by
    intro q hq hl
    refine upd_ne (fun e => ?_)
    subst e
    rcases hq with hq | hq
    · exact hi hq.symm
    · exact hq hj
  unfold mdC
  by_cases h0 : i = 0
  · subst h0
    rw [if_pos rfl, if_pos rfl]
    exact cMd_c (fun q hq => key q (Or.inl (by unfold iow; rw [if_pos hq])) (by omega))
  · rw [if_neg h0, if_neg h0]
    by_cases h7 : i = 7
    · subst h7
      rw [if_pos rfl, if_pos rfl]
      show cTd (upd M.1 j v 20) (upd M.1 j v 21) (upd M.1 j v 22) (upd M.1 j v 23) (upd M.1 j v 24) _ = _
      rw [key 20 (Or.inl rfl) (by decide), key 21 (Or.inl rfl) (by decide), key 22 (Or.inl rfl) (by decide), key 23 (Or.inl rfl) (by decide), key 24 (Or.inl rfl) (by decide)]
    · rw [if_neg h7, if_neg h7]
      by_cases h8 : i = 8
      · subst h8
        rw [if_pos rfl, if_pos rfl]
        show cTd (upd M.1 j v 25) (upd M.1 j v 26) (upd M.1 j v 27) (upd M.1 j v 28) (upd M.1 j v 29) _ = _
        rw [key 25 (Or.inl rfl) (by decide), key 26 (Or.inl rfl) (by decide), key 27 (Or.inl rfl) (by decide), key 28 (Or.inl rfl) (by decide), key 29 (Or.inl rfl) (by decide)]
      · rw [if_neg h8, if_neg h8]
        by_cases h10 : i = 10
        · subst h10
          rw [if_pos rfl, if_pos rfl]
          show cSt _ (upd M.1 j v 30) (upd M.1 j v 31) = _
          rw [key 30 (Or.inl rfl) (by decide), key 31 (Or.inl rfl) (by decide)]
        · rw [if_neg h10, if_neg h10]
          by_cases h11 : i = 11
          · subst h11
            rw [if_pos rfl, if_pos rfl]
            show cSt _ (upd M.1 j v 32) (upd M.1 j v 33) = _
            rw [key 32 (Or.inl rfl) (by decide), key 33 (Or.inl rfl) (by decide)]
          · rw [if_neg h11, if_neg h11]
/-- a field is written -/
theorem Mx.i {Γ : Gm} {h : AH} {D : Nat → Nat} {M : MS} {j : Nat} {v : Int32} {e : va_E} (hM : Mx Γ h D M) (hj : j < 11 ∨ 20 ≤ j) (he : mdC Γ D (upd M.1 j v, M.2) (iow j) = e) : Mx Γ (up h (D (iow j)) e) D (upd M.1 j v, M.2) := by
  refine Mx.w hM ?_ he (fun i _ hi => mdC_i hj i hi)
  have key : ∀ q, q = 0 ∨ q = 7 ∨ q = 8 ∨ q = 10 ∨ q = 11 → mi q = true := by rintro q (rfl | rfl | rfl | rfl | rfl) <;> decide
  apply key
  unfold iow
  split
  · exact Or.inl rfl
  · split
    · exact Or.inr (Or.inl rfl)
    · split
      · exact Or.inr (Or.inr (Or.inl rfl))
      · split
        · exact Or.inr (Or.inr (Or.inr (Or.inl rfl)))
        · exact Or.inr (Or.inr (Or.inr (Or.inr rfl)))
/-- which places hold rows of ints -/
def mr (i : Nat) : Bool := mi i && !(decide (i = 0 ∨ i = 7 ∨ i = 8 ∨ i = 10 ∨ i = 11 ∨ i = 13))
theorem mr_i {i : Nat} (h : mr i = true) : mi i = true ∧ ¬ (i = 0 ∨ i = 7 ∨ i = 8 ∨ i = 10 ∨ i = 11 ∨ i = 13) := by
  unfold mr at h
  simpa using h
theorem mdC_r {Γ : Gm} {D : Nat → Nat} {M : MS} {i : Nat} (h : mr i = true) : mdC Γ D M i = cI Γ (mln i) (M.2.1 i) := by
  have := (mr_i h).2
  unfold mdC
  rw [if_neg (by omega), if_neg (by omega), if_neg (by omega), if_neg (by omega), if_neg (by omega), if_neg (by omega)]
/-- a row is written -/
theorem Mx.r {Γ : Gm} {h : AH} {D : Nat → Nat} {M : MS} {i : Nat} {f : Nat → Int32} (hM : Mx Γ h D M) (hi : mr i = true) : Mx Γ (up h (D i) (cI Γ (mln i) f)) D (M.1, va_up M.2.1 i f, M.2.2) := by
  refine Mx.w hM (mr_i hi).1 ?_ (fun j _ hj => ?_)
  · rw [mdC_r hi]
    show cI Γ (mln i) (va_up M.2.1 i f i) = _
    simp [va_up]
  · unfold mdC
    show (if j = 0 then _ else if j = 7 then _ else if j = 8 then _ else if j = 10 then _ else if j = 11 then _ else if j = 13 then _ else cI Γ (mln j) (va_up M.2.1 i f j)) = _
    have : va_up M.2.1 i f j = M.2.1 j := by unfold va_up; rw [if_neg hj]
    rw [this]
theorem Mx.z {Γ : Gm} {h : AH} {D : Nat → Nat} {M : MS} {sn : Nat → Bool} (hM : Mx Γ h D M) : Mx Γ (up h (D 13) (cZ Γ 49 (fun i => bI (sn i)))) D (M.1, M.2.1, sn) := by
  refine Mx.w (i := 13) hM (by decide) rfl (fun j _ hj => ?_)
  unfold mdC
  show (if j = 0 then _ else if j = 7 then _ else if j = 8 then _ else if j = 10 then _ else if j = 11 then _ else if j = 13 then _ else _) = _
  rw [if_neg hj]
  repeat' split
  all_goals first | rfl | (rename_i q; exact absurd q hj) | skip
  all_goals rw [if_neg hj]
/-- the board in the model's memory: told, and a state (b: 30 or 32 its ints, a: 40 or 43 its rows) -/
def MBd (M : MS) (b a : Nat) (B : GB) : Prop := M.1 20 = nI (Bc B) ∧ M.1 21 = nI (Br B) ∧ M.1 22 = nI (Bt B) ∧ (∀ k p, k < Bt B → p < 3 → M.2.1 20 (3 * k + p) = nI (Bn B k p)) ∧ M.1 b = nI (plN B) ∧ M.2.1 a = (fun x => oI (atO B x)) ∧ M.2.1 (a + 1) = (fun k => oI (Bp B k)) ∧ ∀ k x, Bp B k = some x → M.2.1 (a + 2) k = nI (Bu B k)
theorem Mx.n {Γ : Gm} {z : ZR} {h : AH} {D : Nat → Nat} {M : MS} {B : GB} (hM : Mx Γ h D M) (hb : MBd M 30 40 B) : MrR Γ z h D (D 10) B := by
  obtain ⟨h1, h2, h3, h4, h5, h6, h7, h8⟩ := hb
  refine ⟨M.1 23, M.1 24, M.1 31, M.2.1 20, M.2.1 42, fun i => D (40 + i), Or.inl ?_, Or.inl (hM.1 20 (by decide)), h4, Or.inl ?_, Or.inl ?_, Or.inl ?_, Or.inl (hM.1 42 (by decide)), h8⟩
  · rw [← h1, ← h2, ← h3]; exact hM.1 7 (by decide)
  · rw [← h5]; exact hM.1 10 (by decide)
  · rw [← h6]; exact hM.1 40 (by decide)
  · rw [← h7]; exact hM.1 41 (by decide)
theorem Mx.a {Γ : Gm} {z : ZR} {h : AH} {D : Nat → Nat} {M : MS} {B : GB} (hM : Mx Γ h D M) (hb : MBd M 32 43 B) : MrR Γ z h D (D 11) B := by
  obtain ⟨h1, h2, h3, h4, h5, h6, h7, h8⟩ := hb
  refine ⟨M.1 23, M.1 24, M.1 33, M.2.1 20, M.2.1 45, fun i => D (43 + i), Or.inl ?_, Or.inl (hM.1 20 (by decide)), h4, Or.inl ?_, Or.inl ?_, Or.inl ?_, Or.inl (hM.1 45 (by decide)), h8⟩
  · rw [← h1, ← h2, ← h3]; exact hM.1 7 (by decide)
  · rw [← h5]; exact hM.1 11 (by decide)
  · rw [← h6]; exact hM.1 43 (by decide)
  · rw [← h7]; exact hM.1 44 (by decide)
theorem Mx.m {Γ : Gm} {h : AH} {D : Nat → Nat} {M : MS} (hM : Mx Γ h D M) : h (D 0) = some (cMd M.1 D) := hM.1 0 (by decide)
end PB10
