/-! ===== the model's way over lines ===== -/
section PB21
set_option maxRecDepth 100000
theorem nmV_lt {t : TP} {a : Nat} (h : ∀ j, t.1 (a + j) ≤ 57 ∨ True) : ∀ n, (∀ j, j < n → t.1 (a + j) - 48 ≤ 9) → nmV t a n < 10 ^ n
  | 0, _ => by show 0 < 1; decide
  | n + 1, hd => by
    have h1 := nmV_lt h n (fun j hj => hd j (by omega))
    have h2 := hd n (by omega)
    show 10 * nmV t a n + (t.1 (a + n) - 48) < 10 ^ (n + 1)
    rw [Nat.pow_succ]
    omega
theorem isDg_le {c : Nat} (h : isDg c = true) : 48 ≤ c ∧ c ≤ 57 := by
  unfold isDg at h
  rw [Bool.and_eq_true, decide_eq_true_eq, decide_eq_true_eq] at h
  exact h
theorem tkK_31 {t : TP} {a : Nat} (h : tkK t a = 31) : isLt (byA t a) = false ∧ isDg (byA t a) = true ∧ tkE t a - a ≤ 6 := by
  unfold tkK at h
  split at h
  · rename_i q
    cases hk : kwN t a (tkE t a - a) with
    | some k => rw [hk] at h; have := (ff_lt _ _ _ hk).1; simp only at h; omega
    | none => rw [hk] at h; simp only at h; split at h <;> omega
  · rename_i q
    split at h
    · rename_i q2
      split at h
      · omega
      · exact ⟨by simpa using q, q2, by omega⟩
    · split at h
      · split at h <;> omega
      · have := symK_r (byA t a); omega
theorem dg_all {t : TP} {a : Nat} (hl : isLt (byA t a) = false) (hd : isDg (byA t a) = true) : ∀ j, a + j < tkE t a → 48 ≤ t.1 (a + j) ∧ t.1 (a + j) ≤ 57 ∧ a + j < t.2 := by
  intro j hj
  have key : ∀ b, isDg (byA t b) = true → 48 ≤ t.1 b ∧ t.1 b ≤ 57 ∧ b < t.2 := fun b hb => by
    have h1 := dgP_lt (t := t) (a := b) hb
    have h2 := isDg_le hb
    unfold byA at h2
    rw [if_pos h1] at h2
    exact ⟨h2.1, h2.2, h1⟩
  by_cases h0 : j = 0
  · subst h0; exact key a hd
  · unfold tkE at hj
    rw [hl, hd] at hj
    exact key _ (run_all (p := dgP t) (by omega) hj)
theorem tkN_lt {t : TP} {a : Nat} (h : tkK t a = 31) : tkN t a < 10 ^ 6 := by
  obtain ⟨h1, h2, h3⟩ := tkK_31 h
  have := nmV_lt (t := t) (a := a) (fun _ => Or.inr trivial) (tkE t a - a) (fun j hj => by have := dg_all h1 h2 j (by omega); omega)
  exact Nat.lt_of_lt_of_le this (Nat.pow_le_pow_right (by decide) h3)
theorem tK_tk {t : TP} {k c : Nat} (h : tK t k = c) (h1 : c ≠ 33) (h2 : c ≠ 32) : tkK t (tps t k) = c := by
  unfold tK at h
  split at h
  · omega
  · unfold tkd at h
    split at h
    · omega
    · exact h
def inB (v lo hi : Nat) : Bool := decide (lo ≤ v) && decide (v ≤ hi)
/-- a number in a range -/
def nuQ (E : PE) (lo hi : Nat) (Q : QS) : QS := tkQ E 31 (if isQ E Q 31 && !(inB (E.2.1 (qt Q)) lo hi) then mkQ 5 Q else Q)
def nmI (E : PE) (Q : QS) : Nat → QS
  | 0 => Q
  | p + 1 => nuQ E 0 9 (nmI E Q p)
theorem isQ_mk {E : PE} {Q : QS} {c k : Nat} : isQ E (mkQ c Q) k = isQ E Q k := by
  unfold mkQ
  split <;> rfl
theorem isQ_if {E : PE} {Q : QS} {c k : Nat} {b : Bool} : isQ E (if b then mkQ c Q else Q) k = isQ E Q k := by
  cases b
  · rfl
  · exact isQ_mk
theorem qt_mk {Q : QS} {c : Nat} : qt (mkQ c Q) = qt Q := by unfold mkQ; split <;> rfl
theorem qw_mk {Q : QS} {c : Nat} : qw (mkQ c Q) = qw Q := by unfold mkQ; split <;> rfl
theorem q2_mk {Q : QS} {c : Nat} : (mkQ c Q).2 = Q.2 := by unfold mkQ; split <;> rfl
theorem qd_mk {Q : QS} {c : Nat} : qd (mkQ c Q) = qd Q := by unfold mkQ; split <;> rfl
theorem wr_w {Q : QS} : qw (wrQ Q) = true := by
  unfold wrQ
  split
  · assumption
  · rfl
theorem tk_w {E : PE} {Q : QS} {k : Nat} (h : qw (tkQ E k Q) = false) : isQ E Q k = true := by
  unfold tkQ at h
  cases hq : isQ E Q k with
  | true => rfl
  | false => rw [hq] at h; have := wr_w (Q := Q); simp at h; rw [this] at h; cases h
theorem nu_w {E : PE} {Q : QS} {lo hi : Nat} (h : qw (nuQ E lo hi Q) = false) : isQ E Q 31 = true := by
  have := tk_w h
  rwa [isQ_if] at this
theorem qK.nu {n : Nat} {E : PE} (hK : KOk E.1 n) {Q : QS} {lo hi : Nat} (h : qt Q ≤ n) : qK n Q (nuQ E lo hi Q) := by
  unfold nuQ
  split
  · exact (qK.mk h).tr (qK.tk hK (by decide) (qK.mk h).2.1)
  · exact qK.tk hK (by decide) h
theorem qK.ni {n : Nat} {E : PE} (hK : KOk E.1 n) {Q : QS} (h : qt Q ≤ n) : ∀ p, qK n Q (nmI E Q p)
  | 0 => qK.rf h
  | p + 1 => (qK.ni hK h p).tr (qK.nu hK (qK.ni hK h p).2.1)
/-- the marks at a tile's name -/
def t1Q (E : PE) (Q : QS) : QS := if isQ E Q 30 && (E.2.2 (qt Q)).isSome then mkQ 2 Q else Q
def t2Q (E : PE) (Q : QS) : QS := if isQ E Q 30 && decide (min 16 (qk Q) = 16) then mkQ 4 (t1Q E Q) else t1Q E Q
def t3Q (E : PE) (Q : QS) : QS := tkQ E 30 (t2Q E Q)
def nu3 (E : PE) (Q : QS) (p : Nat) : Nat := if p = 0 then E.2.1 (qt Q) else if p = 1 then E.2.1 (qt (nmI E Q 1)) else E.2.1 (qt (nmI E Q 2))
theorem nu3_e {E : PE} {Q : QS} {p : Nat} (h : p < 3) : nu3 E Q p = E.2.1 (qt (nmI E Q p)) := by
  rcases (show p = 0 ∨ p = 1 ∨ p = 2 by omega) with rfl | rfl | rfl <;> rfl
def tiQ (E : PE) (Q : QS) : QS := ((nmI E (t3Q E Q) 3).1, (nmI E (t3Q E Q) 3).2.1, ((Q.2.2.1.1, Q.2.2.1.2.1, min 16 (min 16 (qk Q) + 1)), va_up Q.2.2.2.1 (min 16 (qk Q)) (nu3 E (t3Q E Q)), va_up Q.2.2.2.2 (min 16 (qk Q)) (qt Q)))
theorem isQ_t1 {E : PE} {Q : QS} {k : Nat} : isQ E (t1Q E Q) k = isQ E Q k := isQ_if
theorem t1_2 {E : PE} {Q : QS} : (t1Q E Q).2 = Q.2 := by unfold t1Q; split; { exact q2_mk }; { rfl }
theorem t2_2 {E : PE} {Q : QS} : (t2Q E Q).2 = Q.2 := by
  unfold t2Q
  split
  · rw [q2_mk, t1_2]
  · exact t1_2
theorem isQ_t2 {E : PE} {Q : QS} {k : Nat} : isQ E (t2Q E Q) k = isQ E Q k := by
  unfold t2Q
  split
  · rw [isQ_mk, isQ_t1]
  · exact isQ_t1
theorem qK.t1 {n : Nat} {E : PE} {Q : QS} (h : qt Q ≤ n) : qK n Q (t1Q E Q) := by
  unfold t1Q
  split
  · exact qK.mk h
  · exact qK.rf h
theorem qK.t2 {n : Nat} {E : PE} {Q : QS} (h : qt Q ≤ n) : qK n Q (t2Q E Q) := by
  unfold t2Q
  split
  · exact (qK.t1 h).tr (qK.mk (qK.t1 h).2.1)
  · exact qK.t1 h
theorem qK.t3 {n : Nat} {E : PE} (hK : KOk E.1 n) {Q : QS} (h : qt Q ≤ n) : qK n Q (t3Q E Q) := (qK.t2 h).tr (qK.tk hK (by decide) (qK.t2 h).2.1)
theorem qt_t2 {E : PE} {Q : QS} : qt (t2Q E Q) = qt Q := by
  unfold t2Q t1Q
  repeat' split
  all_goals first | rfl | rw [qt_mk, qt_mk] | rw [qt_mk]
/-- an order: its start, its sums, its test, its end -/
def o1Q (Q : QS) : QS := avQ (if decide (min 16 (qo Q) = 16) then mkQ 4 Q else Q)
def oeQ (k dz tl fr : Nat) (s : Nat → Nat) (te : Option Nat) (Q : QS) : QS := (Q.1, ((min 16 (k + 1), qn Q), va_up (va_up (va_up (va_up (va_up Q.2.1.2.1 21 (va_up (Q.2.1.2.1 21) k dz)) 22 (va_up (Q.2.1.2.1 22) k tl)) 23 (va_up (Q.2.1.2.1 23) k fr)) 24 (va_up (Q.2.1.2.1 24) k (qn Q))) 25 (fun i => if 3 * k ≤ i ∧ dz = 0 then s (i - 3 * k) else Q.2.1.2.1 25 i), va_up Q.2.1.2.2 k te), Q.2.2)
def otQ (E : PE) (f k dz tl fr : Nat) (s : Nat → Nat) (Q : QS) : Option QS := match isQ E Q 8 with
  | true => match mm E f 8 0 (avQ Q) with
    | none => none
    | some (i, Q1) => some (oeQ k dz tl fr s (some i) Q1)
  | false => some (oeQ k dz tl fr s none Q)
def orQ (E : PE) (f dz : Nat) (Q : QS) : Option QS := match dz with
  | 0 => match mm E f 3 0 (tkQ E 4 (nmQ E (o1Q Q)).2) with
    | none => none
    | some (i0, Q1) => match mm E f 3 0 (tkQ E 54 Q1) with
      | none => none
      | some (i1, Q2) => match mm E f 3 0 (tkQ E 5 Q2) with
        | none => none
        | some (i2, Q3) => otQ E f (min 16 (qo Q)) 0 (nmQ E (o1Q Q)).1 (qn Q) (fun p => if p = 0 then i0 else if p = 1 then i1 else i2) Q3
  | d => otQ E f (min 16 (qo Q)) d (nmQ E (o1Q Q)).1 (qn Q) (fun _ => 0) (nmQ E (o1Q Q)).2
def liQ (E : PE) (f : Nat) (Q : QS) : Option QS := match isQ E Q 2 with
  | true => some (tiQ E (avQ Q))
  | false => match isQ E Q 3 with
    | true => orQ E f 0 Q
    | false => match isQ E Q 6 with
      | true => orQ E f 1 Q
      | false => match isQ E Q 7 with
        | true => orQ E f 2 Q
        | false => some (wrQ Q)
/-- the lines, one behind another -/
def lsQ (t : TP) (f : Nat) : Nat → QS → Option QS
  | 0, _ => none
  | g + 1, Q => match qw Q || decide (tK t (qt Q) = 33) with
    | true => some Q
    | false => match liQ (envQ t Q.2.2) f Q with
      | none => none
      | some Q1 => lsQ t f g (tkQ (envQ t Q1.2.2) 53 Q1)
def scQ (c : Nat) (Q : QS) : QS := (Q.1, Q.2.1, ((c, Q.2.2.1.2.1, Q.2.2.1.2.2), Q.2.2.2))
def srQ (r : Nat) (Q : QS) : QS := (Q.1, Q.2.1, ((Q.2.2.1.1, r, Q.2.2.1.2.2), Q.2.2.2))
def b1Q (E : PE) (Q : QS) : QS := tkQ E 1 (scQ (E.2.1 (qt (avQ Q))) (nuQ E 3 7 (avQ Q)))
def bdQ (E : PE) (Q : QS) : QS := match isQ E Q 0 with
  | false => Q
  | true => tkQ E 53 (srQ (E.2.1 (qt (b1Q E Q))) (nuQ E 3 7 (b1Q E Q)))
def gaQ (t : TP) (f g : Nat) (Q : QS) : Option QS := lsQ t f g (bdQ (envQ t Q.2.2) Q)
/-- how far the tables are looked at -/
def bd (Q : QS) (i : Nat) : Nat := if i = 6 then qk Q else if i = 30 then 3 * qk Q else if i = 35 then 3 * qo Q else if i < 37 then qo Q else qn Q
theorem VT.ext {M : MS} {Q : QS} (h : VT M Q) {I : Nat → Int32} {R : Nat → Nat → Int32} {s : Nat → Bool} (h1 : I 25 = M.1 25) (h2 : I 26 = M.1 26) (hR : ∀ i j, (i = 6 ∨ (30 ≤ i ∧ i < 40)) → j < bd Q i → R i j = M.2.1 i j) : VT (I, R, s) Q := by
  obtain ⟨t1, t2, t3, t4, t5, t6, t7, t8⟩ := h
  have b6 : bd Q 6 = qk Q := rfl
  have b30 : bd Q 30 = 3 * qk Q := rfl
  have b35 : bd Q 35 = 3 * qo Q := rfl
  refine ⟨h1.trans t1, h2.trans t2, fun k p hk hp => ?_, fun k hk => ?_, fun i k hi hk => ?_, fun k p hk h0 hp => ?_, fun k hk => ?_, fun i k hi hk => ?_⟩
  · show R 30 _ = _; rw [hR 30 _ (by omega) (by rw [b30]; omega)]; exact t3 k p hk hp
  · show R 6 _ = _; rw [hR 6 _ (by omega) (by rw [b6]; omega)]; exact t4 k hk
  · show R (i + 10) _ = _
    rw [hR (i + 10) _ (by omega) ?_]
    · exact t5 i k hi hk
    · unfold bd; rw [if_neg (by omega), if_neg (by omega), if_neg (by omega), if_pos (by omega)]; exact hk
  · show R 35 _ = _; rw [hR 35 _ (by omega) (by rw [b35]; omega)]; exact t6 k p hk h0 hp
  · show R 36 _ = _; rw [hR 36 _ (by omega) hk]; exact t7 k hk
  · show R (i + 10) _ = _
    rw [hR (i + 10) _ (by omega) ?_]
    · exact t8 i k hi hk
    · unfold bd; rw [if_neg (by omega), if_neg (by omega), if_neg (by omega), if_neg (by omega)]; exact hk
/-- what the way over lines leaves as it is -/
def PG (M M' : MS) : Prop := (∀ j, (j < 3 ∨ (8 ≤ j ∧ j < 25) ∨ 30 ≤ j) → M'.1 j = M.1 j) ∧ (∀ i, (i < 6 ∨ (7 ≤ i ∧ i < 30) ∨ 40 ≤ i) → M'.2.1 i = M.2.1 i) ∧ M'.2.2 = M.2.2
theorem PG.rf {M : MS} : PG M M := ⟨fun _ _ => rfl, fun _ _ => rfl, rfl⟩
theorem PG.tr {M M1 M2 : MS} (a : PG M M1) (b : PG M1 M2) : PG M M2 := ⟨fun j h => (b.1 j h).trans (a.1 j h), fun i h => (b.2.1 i h).trans (a.2.1 i h), b.2.2.trans a.2.2⟩
theorem PF.g {M M' : MS} (a : PF M M') : PG M M' := ⟨fun j h => a.1 j (by omega), fun i h => a.2.1 i (by omega), a.2.2⟩
theorem PG.i {M M1 : MS} (a : PG M M1) {j : Nat} {v : Int32} (hj : (3 ≤ j ∧ j < 8) ∨ (25 ≤ j ∧ j < 30)) : PG M (upd M1.1 j v, M1.2) := ⟨fun k h => (upd_ne (by omega)).trans (a.1 k h), a.2⟩
theorem PG.r {M M1 : MS} (a : PG M M1) {i : Nat} {f : Nat → Int32} (hi : i = 6 ∨ (30 ≤ i ∧ i < 40)) : PG M (M1.1, va_up M1.2.1 i f, M1.2.2) := ⟨a.1, fun k h => (va_ne (by omega)).trans (a.2.1 k h), a.2.2⟩
theorem TkV.pg {M M' : MS} {t : TP} (h : TkV M t) (a : PG M M') : TkV M' t := by
  obtain ⟨h1, h2, h3, h4, h5, h6⟩ := h
  refine ⟨(a.1 1 (by omega)).trans h1, ?_, ?_, ?_, ?_, ?_⟩
  · rw [a.2.1 1 (by omega)]; exact h2
  · rw [a.2.1 2 (by omega)]; exact h3
  · rw [a.2.1 4 (by omega)]; exact h4
  · rw [a.2.1 5 (by omega)]; exact h5
  · rw [a.2.1 3 (by omega)]; exact h6
def PPg (Γ : Gm) (z : ZR) (h : AH) (D : Nat → Nat) (t : TP) (M : MS) (Q' : QS) : ZR → AH → Prop := fun z' h' => z' = z ∧ ∃ M', PG M M' ∧ PCx Γ h' D t (envQ t Q'.2.2) M' Q' ∧ FrD h h' D
/-- a row is written where it isn't looked at -/
theorem PCx.rw {Γ : Gm} {h h' : AH} {D : Nat → Nat} {t : TP} {E : PE} {M : MS} {Q : QS} {i k : Nat} {v : Int32} (c : PCx Γ h D t E M Q) (hX : Mx Γ h' D (M.1, va_up M.2.1 i (upd (M.2.1 i) k v), M.2.2)) (hi : i = 6 ∨ (30 ≤ i ∧ i < 37)) (hk : bd Q i ≤ k) : PCx Γ h' D t E (M.1, va_up M.2.1 i (upd (M.2.1 i) k v), M.2.2) Q := by
  obtain ⟨c1, ⟨v1, v2, v3⟩, c3, c4, c5⟩ := c
  refine ⟨hX, ⟨v1, v2, fun q => ?_⟩, c3.pg (PG.rf.r (by omega)), c4, c5⟩
  refine (v3 q).ext rfl rfl (fun i' j hi' hj => ?_)
  by_cases e : i' = i
  · subst e; rw [va_eq, upd_ne (by omega)]
  · rw [va_ne e]
theorem PCx.sc {Γ : Gm} {h h' : AH} {D : Nat → Nat} {t : TP} {E : PE} {M : MS} {Q : QS} {x : Int32} {c : Nat} (hc : PCx Γ h D t E M Q) (hX : Mx Γ h' D (upd M.1 25 x, M.2)) (hx : qw Q = false → x = nI c) : PCx Γ h' D t E (upd M.1 25 x, M.2) (scQ c Q) := by
  obtain ⟨c1, ⟨v1, v2, v3⟩, c3, c4, c5⟩ := hc
  refine ⟨hX, ⟨v1, v2, fun q => ?_⟩, c3.pg (PG.rf.i (by omega)), c4, c5⟩
  obtain ⟨t1, t2, t3⟩ := v3 q
  exact ⟨hx q, t2, t3⟩
theorem PCx.sr {Γ : Gm} {h h' : AH} {D : Nat → Nat} {t : TP} {E : PE} {M : MS} {Q : QS} {x : Int32} {c : Nat} (hc : PCx Γ h D t E M Q) (hX : Mx Γ h' D (upd M.1 26 x, M.2)) (hx : qw Q = false → x = nI c) : PCx Γ h' D t E (upd M.1 26 x, M.2) (srQ c Q) := by
  obtain ⟨c1, ⟨v1, v2, v3⟩, c3, c4, c5⟩ := hc
  refine ⟨hX, ⟨v1, v2, fun q => ?_⟩, c3.pg (PG.rf.i (by omega)), c4, c5⟩
  obtain ⟨t1, t2, t3⟩ := v3 q
  exact ⟨t1, hx q, t3⟩
/-- lines go on -/
def qL (n : Nat) (Q Q' : QS) : Prop := qt Q ≤ qt Q' ∧ qt Q' ≤ n ∧ qn Q ≤ qn Q' ∧ (qw Q = true → qw Q' = true)
theorem qK.l {n : Nat} {Q Q' : QS} (a : qK n Q Q') : qL n Q Q' := ⟨a.1, a.2.1, a.2.2.1, a.2.2.2.2.2.2⟩
theorem qL.tr {n : Nat} {Q Q1 Q2 : QS} (a : qL n Q Q1) (b : qL n Q1 Q2) : qL n Q Q2 := ⟨Nat.le_trans a.1 b.1, b.2.1, Nat.le_trans a.2.2.1 b.2.2.1, fun q => b.2.2.2 (a.2.2.2 q)⟩
theorem ot_l {E : PE} {n : Nat} (hK : KOk E.1 n) {f k dz tl fr : Nat} {s : Nat → Nat} {Q Q' : QS} (hQ : qt Q ≤ n) (h : otQ E f k dz tl fr s Q = some Q') : qL n Q Q' := by
  unfold otQ at h
  split at h
  · rename_i q
    have hl := isQ_lt hK hQ (by decide) q
    cases hm : mm E f 8 0 (avQ Q) with
    | none => rw [hm] at h; cases h
    | some y => obtain ⟨i, Q1⟩ := y; rw [hm] at h; cases h; exact ((qK.av hl).tr (mm_k hK _ _ _ (avQ Q) hl _ _ hm)).l
  · cases h; exact (qK.rf hQ).l
theorem qK.o1 {n : Nat} {Q : QS} (h : qt Q < n) : qK n Q (o1Q Q) := by
  unfold o1Q
  split
  · exact (qK.mk (Nat.le_of_lt h)).tr (qK.av (by rw [qt_mk]; exact h))
  · exact qK.av h
theorem or_l {E : PE} {n : Nat} (hK : KOk E.1 n) {f dz : Nat} {Q Q' : QS} (hQ : qt Q < n) (h : orQ E f dz Q = some Q') : qL n Q Q' := by
  have k2 := (qK.o1 hQ).tr (qK.nm hK (qK.o1 hQ).2.1)
  unfold orQ at h
  split at h
  · have ka := k2.tr (qK.tk hK (k := 4) (by decide) k2.2.1)
    cases hm0 : mm E f 3 0 (tkQ E 4 (nmQ E (o1Q Q)).2) with
    | none => rw [hm0] at h; cases h
    | some y =>
      obtain ⟨i0, Q1⟩ := y
      rw [hm0] at h
      simp only at h
      have kb := ka.tr (mm_k hK _ _ _ _ ka.2.1 _ _ hm0)
      have kc := kb.tr (qK.tk hK (k := 54) (by decide) kb.2.1)
      cases hm1 : mm E f 3 0 (tkQ E 54 Q1) with
      | none => rw [hm1] at h; cases h
      | some y =>
        obtain ⟨i1, Q2⟩ := y
        rw [hm1] at h
        simp only at h
        have kd := kc.tr (mm_k hK _ _ _ _ kc.2.1 _ _ hm1)
        have ke := kd.tr (qK.tk hK (k := 5) (by decide) kd.2.1)
        cases hm2 : mm E f 3 0 (tkQ E 5 Q2) with
        | none => rw [hm2] at h; cases h
        | some y =>
          obtain ⟨i2, Q3⟩ := y
          rw [hm2] at h
          simp only at h
          have kf := ke.tr (mm_k hK _ _ _ _ ke.2.1 _ _ hm2)
          exact kf.l.tr (ot_l hK kf.2.1 h)
  · exact k2.l.tr (ot_l hK k2.2.1 h)
theorem ti_l {E : PE} {n : Nat} (hK : KOk E.1 n) {Q : QS} (hQ : qt Q ≤ n) : qL n Q (tiQ E Q) := by
  have := (qK.t3 hK hQ).tr (qK.ni hK (qK.t3 hK hQ).2.1 3)
  exact ⟨this.1, this.2.1, this.2.2.1, this.2.2.2.2.2.2⟩
theorem li_l {E : PE} {n : Nat} (hK : KOk E.1 n) {f : Nat} {Q Q' : QS} (hQ : qt Q ≤ n) (h : liQ E f Q = some Q') : qL n Q Q' := by
  unfold liQ at h
  split at h
  · rename_i q
    have hl := isQ_lt hK hQ (by decide) q
    cases h
    exact (qK.av hl).l.tr (ti_l hK hl)
  · split at h
    · rename_i q; exact or_l hK (isQ_lt hK hQ (by decide) q) h
    · split at h
      · rename_i q; exact or_l hK (isQ_lt hK hQ (by decide) q) h
      · split at h
        · rename_i q; exact or_l hK (isQ_lt hK hQ (by decide) q) h
        · cases h; exact (qK.wr hQ).l
theorem ls_l {t : TP} {f : Nat} : ∀ g Q Q', qt Q ≤ tl t → lsQ t f g Q = some Q' → qL (tl t) Q Q'
  | 0, _, _, _, h => by cases h
  | g + 1, Q, Q', hQ, h => by
    unfold lsQ at h
    split at h
    · cases h; exact (qK.rf hQ).l
    · cases hl : liQ (envQ t Q.2.2) f Q with
      | none => rw [hl] at h; cases h
      | some Q1 =>
        rw [hl] at h
        simp only at h
        have k1 := li_l (tK_ok t) hQ hl
        have k2 := qK.tk (E := envQ t Q1.2.2) (tK_ok t) (k := 53) (by decide) k1.2.1
        exact (k1.tr k2.l).tr (ls_l g _ _ k2.2.1 h)
end PB21
