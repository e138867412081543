/-! ===== the model's memory on the way over the tokens ===== -/
section PB20
set_option maxRecDepth 100000
/-- the tables, while nothing is wrong -/
def VT (M : MS) (Q : QS) : Prop := M.1 25 = nI Q.2.2.1.1 ∧ M.1 26 = nI Q.2.2.1.2.1 ∧ (∀ k p, k < qk Q → p < 3 → M.2.1 30 (3 * k + p) = nI (Q.2.2.2.1 k p)) ∧ (∀ k, k < qk Q → M.2.1 6 k = nI (Q.2.2.2.2 k)) ∧
  (∀ i k, i = 21 ∨ i = 22 ∨ i = 23 ∨ i = 24 → k < qo Q → M.2.1 (i + 10) k = nI (Q.2.1.2.1 i k)) ∧ (∀ k p, k < qo Q → Q.2.1.2.1 21 k = 0 → p < 3 → M.2.1 35 (3 * k + p) = nI (Q.2.1.2.1 25 (3 * k + p))) ∧ (∀ k, k < qo Q → M.2.1 36 k = oI (Q.2.1.2.2 k)) ∧
  ∀ i k, i = 27 ∨ i = 28 ∨ i = 29 → k < qn Q → M.2.1 (i + 10) k = nI (Q.2.1.2.1 i k)
def VQ (M : MS) (Q : QS) : Prop := (M.1 3 = nI (qt Q) ∧ M.1 4 = bI (qw Q) ∧ M.1 5 = nI (qe Q) ∧ (qe Q ≠ 0 → M.1 6 = nI (qf Q)) ∧ M.1 7 = nI (qd Q)) ∧ (M.1 27 = nI (qk Q) ∧ M.1 28 = nI (qo Q) ∧ M.1 29 = nI (qn Q)) ∧ (qw Q = false → VT M Q)
/-- the tokens in the memory -/
def TkV (M : MS) (t : TP) : Prop := M.1 1 = nI t.2 ∧ (∀ a, a < t.2 → M.2.1 1 a = nI (t.1 a)) ∧ (∀ k, k ≤ tcn t → M.2.1 2 k = nI (tK t k)) ∧ (∀ k, k ≤ tcn t → M.2.1 4 k = nI (tP t k)) ∧ (∀ k, k < tcn t → M.2.1 5 k = nI (tL t k)) ∧ ∀ k, k < tcn t → tK t k = 31 → M.2.1 3 k = nI (tkN t (tps t k))
/-- what the way over the tokens leaves as it is -/
def PF (M M' : MS) : Prop := (∀ j, (j < 3 ∨ (8 ≤ j ∧ j < 29) ∨ 30 ≤ j) → M'.1 j = M.1 j) ∧ (∀ i, (i < 37 ∨ 40 ≤ i) → M'.2.1 i = M.2.1 i) ∧ M'.2.2 = M.2.2
theorem PF.rf {M : MS} : PF M M := ⟨fun _ _ => rfl, fun _ _ => rfl, rfl⟩
theorem PF.tr {M M1 M2 : MS} (a : PF M M1) (b : PF M1 M2) : PF M M2 := ⟨fun j h => (b.1 j h).trans (a.1 j h), fun i h => (b.2.1 i h).trans (a.2.1 i h), b.2.2.trans a.2.2⟩
theorem PF.i {M M1 : MS} (a : PF M M1) {j : Nat} {v : Int32} (hj : (3 ≤ j ∧ j < 8) ∨ j = 29) : PF M (upd M1.1 j v, M1.2) := ⟨fun k h => (upd_ne (by omega)).trans (a.1 k h), a.2⟩
theorem PF.r {M M1 : MS} (a : PF M M1) {i : Nat} {f : Nat → Int32} (hi : 37 ≤ i ∧ i < 40) : PF M (M1.1, va_up M1.2.1 i f, M1.2.2) := ⟨a.1, fun k h => (va_ne (by omega)).trans (a.2.1 k h), a.2.2⟩
theorem TkV.pf {M M' : MS} {t : TP} (h : TkV M t) (a : PF M M') : TkV M' t := by
  obtain ⟨h1, h2, h3, h4, h5, h6⟩ := h
  refine ⟨(a.1 1 (by omega)).trans h1, ?_, ?_, ?_, ?_, ?_⟩
  · rw [a.2.1 1 (by omega)]; exact h2
  · rw [a.2.1 2 (by omega)]; exact h3
  · rw [a.2.1 4 (by omega)]; exact h4
  · rw [a.2.1 5 (by omega)]; exact h5
  · rw [a.2.1 3 (by omega)]; exact h6
def NmO (t : TP) (Q : QS) : Prop := qw Q = false → ∀ j, j < qk Q → Q.2.2.2.2 j < tl t ∧ tK t (Q.2.2.2.2 j) = 30
def eOk (n : Nat) (Q : QS) : Prop := qe Q ≤ 5 ∧ (qw Q = true → qe Q = 1) ∧ (qe Q ≠ 0 → qf Q ≤ n)
/-- all that is known on the way -/
def PCx (Γ : Gm) (h : AH) (D : Nat → Nat) (t : TP) (E : PE) (M : MS) (Q : QS) : Prop := Mx Γ h D M ∧ VQ M Q ∧ TkV M t ∧ E = envQ t Q.2.2 ∧ qt Q ≤ tl t ∧ TPo t ∧ NmO t Q ∧ qk Q ≤ 16 ∧ qo Q ≤ 16 ∧ qn Q ≤ 800 ∧ eOk (tl t) Q ∧ qd Q ≤ 9 ∧ (qw Q = false → qd Q ≤ 8)
def PP (Γ : Gm) (z : ZR) (h : AH) (D : Nat → Nat) (t : TP) (E : PE) (M : MS) (Q' : QS) : ZR → AH → Prop := fun z' h' => z' = z ∧ ∃ M', PF M M' ∧ PCx Γ h' D t E M' Q' ∧ FrD h h' D
/-- an int of the way is written -/
theorem VT.i {M : MS} {Q : QS} {j : Nat} {v : Int32} (h : VT M Q) (hj : 3 ≤ j ∧ j < 8) : VT (upd M.1 j v, M.2) Q := by
  obtain ⟨h1, h2, h3⟩ := h
  exact ⟨(upd_ne (by omega)).trans h1, (upd_ne (by omega)).trans h2, h3⟩
theorem VT.q {M : MS} {Q Q' : QS} (h : VT M Q) (he : Q'.2 = Q.2) : VT M Q' := by
  obtain ⟨q1, q2⟩ := Q
  obtain ⟨p1, p2⟩ := Q'
  have he : p2 = q2 := he
  subst he
  exact h
theorem VQ.av {M : MS} {Q : QS} (h : VQ M Q) : VQ (upd M.1 3 (nI (qt Q + 1)), M.2) (avQ Q) := by
  obtain ⟨⟨h1, h2, h3, h4, h5⟩, ⟨h6, h7, h8⟩, h9⟩ := h
  exact ⟨⟨rfl, h2, h3, fun q => h4 q, h5⟩, ⟨h6, h7, h8⟩, fun q => VT.q (VT.i (h9 q) (by omega)) rfl⟩
theorem VQ.dn {M : MS} {Q : QS} (h : VQ M Q) : VQ (upd M.1 7 (nI (qd Q + 1)), M.2) (dnQ Q) := by
  obtain ⟨⟨h1, h2, h3, h4, h5⟩, ⟨h6, h7, h8⟩, h9⟩ := h
  exact ⟨⟨h1, h2, h3, fun q => h4 q, rfl⟩, ⟨h6, h7, h8⟩, fun q => VT.q (VT.i (h9 q) (by omega)) rfl⟩
theorem VQ.up {M : MS} {Q : QS} (h : VQ M Q) : VQ (upd M.1 7 (nI (qd Q - 1)), M.2) (upQ Q) := by
  obtain ⟨⟨h1, h2, h3, h4, h5⟩, ⟨h6, h7, h8⟩, h9⟩ := h
  exact ⟨⟨h1, h2, h3, fun q => h4 q, rfl⟩, ⟨h6, h7, h8⟩, fun q => VT.q (VT.i (h9 q) (by omega)) rfl⟩
theorem VQ.wr {M : MS} {Q : QS} (h : VQ M Q) (hw : qw Q = false) : VQ (upd (upd (upd M.1 4 (nI 1)) 5 (nI 1)) 6 (nI (qt Q)), M.2) (wrQ Q) := by
  obtain ⟨⟨h1, h2, h3, h4, h5⟩, ⟨h6, h7, h8⟩, h9⟩ := h
  have e : wrQ Q = ((qt Q, true, 1, qt Q, qd Q), Q.2) := by unfold wrQ; rw [hw]; rfl
  rw [e]
  have k : ∀ j, j ≠ 4 → j ≠ 5 → j ≠ 6 → upd (upd (upd M.1 4 (nI 1)) 5 (nI 1)) 6 (nI (qt Q)) j = M.1 j := fun j a b c => by rw [upd_ne c, upd_ne b, upd_ne a]
  exact ⟨⟨(k 3 (by decide) (by decide) (by decide)).trans h1, rfl, rfl, fun _ => rfl, (k 7 (by decide) (by decide) (by decide)).trans h5⟩, ⟨(k 27 (by decide) (by decide) (by decide)).trans h6, (k 28 (by decide) (by decide) (by decide)).trans h7, (k 29 (by decide) (by decide) (by decide)).trans h8⟩, fun q => by cases q⟩
theorem VQ.mk {M : MS} {Q : QS} {c : Nat} (h : VQ M Q) (hw : qw Q = false) (he : qe Q = 0) : VQ (upd (upd M.1 5 (nI c)) 6 (nI (qt Q)), M.2) (mkQ c Q) := by
  obtain ⟨⟨h1, h2, h3, h4, h5⟩, ⟨h6, h7, h8⟩, h9⟩ := h
  have e : mkQ c Q = ((qt Q, qw Q, c, qt Q, qd Q), Q.2) := by unfold mkQ; rw [hw, he]; rfl
  rw [e]
  have k : ∀ j, j ≠ 5 → j ≠ 6 → upd (upd M.1 5 (nI c)) 6 (nI (qt Q)) j = M.1 j := fun j b c => by rw [upd_ne c, upd_ne b]
  exact ⟨⟨(k 3 (by decide) (by decide)).trans h1, (k 4 (by decide) (by decide)).trans h2, rfl, fun _ => rfl, (k 7 (by decide) (by decide)).trans h5⟩, ⟨(k 27 (by decide) (by decide)).trans h6, (k 28 (by decide) (by decide)).trans h7, (k 29 (by decide) (by decide)).trans h8⟩, fun q => VT.q (VT.i (M := (upd M.1 5 (nI c), M.2)) (VT.i (h9 q) (by omega)) (by omega)) rfl⟩
/-- a node is written -/
def ndM (M : MS) (k : Nat) (s l r : Int32) : MS := (upd M.1 29 (nI (k + 1)), va_up (va_up (va_up M.2.1 37 (upd (M.2.1 37) k s)) 38 (upd (M.2.1 38) k l)) 39 (upd (M.2.1 39) k r), M.2.2)
theorem ndM_r {M : MS} {k : Nat} {s l r : Int32} {i : Nat} (h7 : i ≠ 37) (h8 : i ≠ 38) (h9 : i ≠ 39) : (ndM M k s l r).2.1 i = M.2.1 i := by
  show va_up (va_up (va_up M.2.1 37 _) 38 _) 39 _ i = _
  rw [va_ne h9, va_ne h8, va_ne h7]
theorem VQ.nd {M : MS} {Q : QS} {s l r : Nat} (h : VQ M Q) : VQ (ndM M (qn Q) (nI s) (nI l) (nI r)) (ndQ s l r Q).2 := by
  obtain ⟨⟨h1, h2, h3, h4, h5⟩, ⟨h6, h7, h8⟩, h9⟩ := h
  refine ⟨⟨h1, h2, h3, fun q => h4 q, h5⟩, ⟨h6, h7, rfl⟩, fun q => ?_⟩
  obtain ⟨t1, t2, t3, t4, t5, t6, t7, t8⟩ := h9 q
  refine ⟨t1, t2, fun k p hk hp => ?_, fun k hk => ?_, fun i k hi hk => ?_, fun k p hk h0 hp => ?_, fun k hk => ?_, fun i k hi hk => ?_⟩
  · rw [ndM_r (by decide) (by decide) (by decide)]; exact t3 k p hk hp
  · rw [ndM_r (by decide) (by decide) (by decide)]; exact t4 k hk
  · rw [ndM_r (by omega) (by omega) (by omega)]
    show _ = nI ((ndA Q.2.1 s l r).2.1 i k)
    rw [ndA_o (by omega) (by omega) (by omega)]; exact t5 i k hi hk
  · rw [ndM_r (by decide) (by decide) (by decide)]
    have e21 : (ndA Q.2.1 s l r).2.1 21 = Q.2.1.2.1 21 := ndA_o (by decide) (by decide) (by decide)
    have e25 : (ndA Q.2.1 s l r).2.1 25 = Q.2.1.2.1 25 := ndA_o (by decide) (by decide) (by decide)
    have h0 : (ndA Q.2.1 s l r).2.1 21 k = 0 := h0
    show _ = nI ((ndA Q.2.1 s l r).2.1 25 _)
    rw [e25]; rw [e21] at h0
    exact t6 k p hk h0 hp
  · rw [ndM_r (by decide) (by decide) (by decide)]; exact t7 k hk
  · have hk : k < qn Q + 1 := hk
    obtain ⟨n1, n2, n3⟩ := ndA_n (T := Q.2.1) (s := s) (l := l) (r := r)
    show (ndM M (qn Q) (nI s) (nI l) (nI r)).2.1 (i + 10) k = nI ((ndA Q.2.1 s l r).2.1 i k)
    by_cases hq : k = qn Q
    · subst hq
      rcases hi with rfl | rfl | rfl
      · show (va_up (va_up (va_up M.2.1 37 (upd (M.2.1 37) (qn Q) (nI s))) 38 (upd (M.2.1 38) (qn Q) (nI l))) 39 (upd (M.2.1 39) (qn Q) (nI r))) 37 (qn Q) = _
        rw [va_ne (by decide), va_ne (by decide), va_eq, upd_eq, n1]
      · show (va_up (va_up (va_up M.2.1 37 (upd (M.2.1 37) (qn Q) (nI s))) 38 (upd (M.2.1 38) (qn Q) (nI l))) 39 (upd (M.2.1 39) (qn Q) (nI r))) 38 (qn Q) = _
        rw [va_ne (by decide), va_eq, upd_eq, n2]
      · show (va_up (va_up (va_up M.2.1 37 (upd (M.2.1 37) (qn Q) (nI s))) 38 (upd (M.2.1 38) (qn Q) (nI l))) 39 (upd (M.2.1 39) (qn Q) (nI r))) 39 (qn Q) = _
        rw [va_eq, upd_eq, n3]
    · have hk2 : k < Q.2.1.1.2 := by show k < qn Q; omega
      rw [ndA_i hk2, ← t8 i k hi hk2]
      rcases hi with rfl | rfl | rfl
      · show (va_up (va_up (va_up M.2.1 37 (upd (M.2.1 37) (qn Q) (nI s))) 38 (upd (M.2.1 38) (qn Q) (nI l))) 39 (upd (M.2.1 39) (qn Q) (nI r))) 37 k = _
        rw [va_ne (by decide), va_ne (by decide), va_eq, upd_ne hq]
      · show (va_up (va_up (va_up M.2.1 37 (upd (M.2.1 37) (qn Q) (nI s))) 38 (upd (M.2.1 38) (qn Q) (nI l))) 39 (upd (M.2.1 39) (qn Q) (nI r))) 38 k = _
        rw [va_ne (by decide), va_eq, upd_ne hq]
      · show (va_up (va_up (va_up M.2.1 37 (upd (M.2.1 37) (qn Q) (nI s))) 38 (upd (M.2.1 38) (qn Q) (nI l))) 39 (upd (M.2.1 39) (qn Q) (nI r))) 39 k = _
        rw [va_eq, upd_ne hq]
theorem ndM_f {M M1 : MS} (a : PF M M1) {k : Nat} {s l r : Int32} : PF M (ndM M1 k s l r) := ((((a.i (j := 29) (v := nI (k + 1)) (by omega)).r (i := 37) (f := upd (M1.2.1 37) k s) (by omega)).r (i := 38) (f := upd (M1.2.1 38) k l) (by omega)).r (i := 39) (f := upd (M1.2.1 39) k r) (by omega))
/-- the context goes on -/
theorem PCx.go {Γ : Gm} {h h' : AH} {D : Nat → Nat} {t : TP} {E : PE} {M M' : MS} {Q Q' : QS} (c : PCx Γ h D t E M Q) (f : PF M M') (hX : Mx Γ h' D M') (hV : VQ M' Q') (hk : qK (tl t) Q Q') (hn : qn Q' ≤ 800) (he : eOk (tl t) Q') : PCx Γ h' D t E M' Q' := by
  obtain ⟨c1, c2, c3, c4, c5, c6, c7, c8, c9, c10, c11, c12, c13⟩ := c
  obtain ⟨k1, k2, k3, k4, k5, k6, k7⟩ := hk
  have hw0 : qw Q' = false → qw Q = false := fun q => by
    cases hq : qw Q with
    | false => rfl
    | true => rw [k7 hq] at q; cases q
  refine ⟨hX, hV, c3.pf f, by rw [k5]; exact c4, k2, c6, fun q => ?_, by rw [show qk Q' = qk Q from by show Q'.2.2.1.2.2 = _; rw [k5]]; exact c8, by rw [k6]; exact c9, hn, he, by rw [k4]; exact c12, fun q => by rw [k4]; exact c13 (hw0 q)⟩
  have hw : qw Q = false := by
    cases hq : qw Q with
    | false => rfl
    | true => rw [k7 hq] at q; cases q
  have := c7 hw
  show ∀ j, j < Q'.2.2.1.2.2 → Q'.2.2.2.2 j < tl t ∧ tK t (Q'.2.2.2.2 j) = 30
  rw [k5]; exact this
/-- .. deeper, and up again -/
theorem PCx.god {Γ : Gm} {h h' : AH} {D : Nat → Nat} {t : TP} {E : PE} {M M' : MS} {Q Q' : QS} (c : PCx Γ h D t E M Q) (f : PF M M') (hX : Mx Γ h' D M') (hV : VQ M' Q') (k1 : qt Q' ≤ tl t) (k5 : Q'.2 = Q.2) (k7 : qw Q = true → qw Q' = true) (he : eOk (tl t) Q') (hd : qd Q' ≤ 9 ∧ (qw Q' = false → qd Q' ≤ 8)) : PCx Γ h' D t E M' Q' := by
  obtain ⟨c1, c2, c3, c4, c5, c6, c7, c8, c9, c10, c11, c12, c13⟩ := c
  refine ⟨hX, hV, c3.pf f, by rw [k5]; exact c4, k1, c6, fun q => ?_, by show Q'.2.2.1.2.2 ≤ 16; rw [k5]; exact c8, by show Q'.2.1.1.1 ≤ 16; rw [k5]; exact c9, by show Q'.2.1.1.2 ≤ 800; rw [k5]; exact c10, he, hd⟩
  have hw : qw Q = false := by
    cases hq : qw Q with
    | false => rfl
    | true => rw [k7 hq] at q; cases q
  have := c7 hw
  show ∀ j, j < Q'.2.2.1.2.2 → Q'.2.2.2.2 j < tl t ∧ tK t (Q'.2.2.2.2 j) = 30
  rw [k5]; exact this
theorem PCx.K {Γ : Gm} {h : AH} {D : Nat → Nat} {t : TP} {E : PE} {M : MS} {Q : QS} (c : PCx Γ h D t E M Q) : KOk E.1 (tl t) := by rw [c.2.2.2.1]; exact tK_ok t
theorem PCx.k {Γ : Gm} {h : AH} {D : Nat → Nat} {t : TP} {E : PE} {M : MS} {Q : QS} (c : PCx Γ h D t E M Q) : M.2.1 2 (qt Q) = nI (kQ E Q) := by
  rw [c.2.2.1.2.2.1 (qt Q) (Nat.le_trans c.2.2.2.2.1 (tl_tc t)), c.2.2.2.1]; rfl
theorem kQ_le {E : PE} {n k : Nat} (hK : KOk E.1 n) (h : k ≤ n) : E.1 k ≤ 54 := by
  rcases Nat.lt_or_ge k n with q | q
  · exact (hK.2.2 k q).2.2
  · have : k = n := by omega
    rw [this]; have := hK.2.1; omega
end PB20
