/-! ===== the model's nodes: not more than tokens ===== -/
section PB28
set_option maxRecDepth 100000
def qV (Q : QS) : Nat := qt Q + (if qw Q then 1 else 0)
def qI (c : Nat) (Q Q' : QS) : Prop := qn Q' + qV Q + c ≤ qn Q + qV Q'
theorem qI.rf {Q : QS} : qI 0 Q Q := Nat.le_refl _
theorem qI.tr {a b : Nat} {Q Q1 Q2 : QS} (h : qI a Q Q1) (g : qI b Q1 Q2) : qI (a + b) Q Q2 := by
  unfold qI at *; omega
theorem qI.t {a : Nat} {Q Q1 Q2 : QS} (h : qI a Q Q1) (g : qI 0 Q1 Q2) : qI a Q Q2 := h.tr g
theorem qI.nd {Q Q1 : QS} {s l r : Nat} (h : qI 1 Q Q1) : qI 0 Q (ndQ s l r Q1).2 := by
  unfold qI at *
  show qn Q1 + 1 + qV Q + 0 ≤ qn Q + qV Q1
  omega
theorem qI.w {Q Q1 : QS} (h : qI 1 Q Q1) : qI 0 Q Q1 := by unfold qI at *; omega
theorem qI.av {Q : QS} : qI 1 Q (avQ Q) := by
  unfold qI
  show qn Q + (qt Q + _) + 1 ≤ qn Q + ((qt Q + 1) + _)
  show qn Q + (qt Q + (if qw Q then 1 else 0)) + 1 ≤ qn Q + ((qt Q + 1) + (if qw Q then 1 else 0))
  omega
theorem qI.wr1 {Q : QS} (h : qw Q = false) : qI 1 Q (wrQ Q) := by
  unfold wrQ
  rw [if_neg (by rw [h]; decide)]
  unfold qI qV
  rw [if_neg (by rw [h]; decide)]
  show qn Q + (qt Q + 0) + 1 ≤ qn Q + (qt Q + 1)
  omega
theorem qI.wr {Q : QS} : qI 0 Q (wrQ Q) := by
  cases h : qw Q with
  | false => exact (qI.wr1 h).w
  | true => unfold wrQ; rw [if_pos h]; exact qI.rf
theorem qI.tk {E : PE} {Q : QS} {k : Nat} : qI 0 Q (tkQ E k Q) := by
  unfold tkQ
  split
  · exact qI.av.w
  · exact qI.wr
theorem qI.eq {Q Q' : QS} (h1 : qn Q' = qn Q) (h2 : qt Q' = qt Q) (h3 : qw Q' = qw Q) : qI 0 Q Q' := by
  unfold qI qV; rw [h1, h2, h3]; exact Nat.le_refl _
theorem qI.mk {Q : QS} {c : Nat} : qI 0 Q (mkQ c Q) := qI.eq (by show (mkQ c Q).2.1.1.2 = Q.2.1.1.2; rw [q2_mk]) qt_mk qw_mk
theorem qI.nm {E : PE} {Q : QS} : qI 0 Q (nmQ E Q).2 := by
  unfold nmQ
  split
  · show qI 0 Q (tkQ E 30 _)
    split
    · exact qI.mk.t qI.tk
    · exact qI.tk
  · exact qI.tk
theorem qI.dp {Q : QS} (h : qw Q = false) : qI 1 Q (dpQ Q) := by
  unfold dpQ
  split
  · exact (qI.wr1 h).t (qI.eq rfl rfl rfl)
  · exact qI.av.t (qI.eq rfl rfl rfl)
theorem qI.up {a : Nat} {Q Q1 : QS} (h : qI a Q Q1) : qI a Q (upQ Q1) := h.t (qI.eq rfl rfl rfl)
theorem mm_i {E : PE} : ∀ f nt lf Q i Q', mm E f nt lf Q = some (i, Q') → qI 0 Q Q'
  | 0, _, _, _, _, _, h => by cases h
  | f + 1, nt, lf, Q, i, Q', h => by
    have ih := mm_i (E := E) f
    have tail : ∀ (k c g : Nat), mB (mm E f c 0 (avQ Q)) (fun v Q1 => mm E f g (ndQ k lf v Q1).1 (ndQ k lf v Q1).2) = some (i, Q') → qI 0 Q Q' := by
      intro k c g h
      obtain ⟨v, Q1, e1, h⟩ := mB_s h
      exact (qI.av.t (ih _ _ _ _ _ e1)).nd.t (ih _ _ _ _ _ h)
    have seq : ∀ (c g : Nat), mB (mm E f c 0 Q) (fun i Q1 => mm E f g i Q1) = some (i, Q') → qI 0 Q Q' := by
      intro c g h
      obtain ⟨v, Q1, e1, h⟩ := mB_s h
      exact (ih _ _ _ _ _ e1).t (ih _ _ _ _ _ h)
    unfold mm at h
    split at h
    · unfold mm0 at h
      split at h
      · cases h; exact qI.av.nd
      · split at h
        · cases h; exact qI.av.nd
        · split at h
          · cases h; exact ((qI.av.t qI.tk).t qI.nm).nd
          · split at h
            · split at h
              · rename_i q2
                obtain ⟨l, Q2, e1, h⟩ := mB_s h
                obtain ⟨r, Q3, e2, h⟩ := mB_s h
                cases h
                exact (((((qI.av.t (qI.dp (isQ_t q2).1).w).t (ih _ _ _ _ _ e1)).t qI.tk).t (ih _ _ _ _ _ e2)).t qI.tk).up.nd
              · cases h; exact (qI.av.t qI.wr).w
            · split at h
              · rename_i q
                obtain ⟨j, Q1, e1, h⟩ := mB_s h
                cases h
                exact (((qI.dp (isQ_t q).1).t (ih _ _ _ _ _ e1)).t qI.tk).up.w
              · split at h
                · rename_i q
                  obtain ⟨j, Q1, e1, h⟩ := mB_s h
                  cases h
                  exact ((qI.dp (isQ_t q).1).t (ih _ _ _ _ _ e1)).up.nd
                · cases h; exact qI.wr
    · unfold mm1 at h
      exact seq _ _ h
    · unfold mm2 at h
      split at h
      · exact tail _ _ _ h
      · cases h; exact qI.rf
    · unfold mm3 at h
      exact seq _ _ h
    · unfold mm4 at h
      split at h
      · exact tail _ _ _ h
      · cases h; exact qI.rf
    · unfold mm5 at h
      split at h
      · rename_i q
        obtain ⟨j, Q1, e1, h⟩ := mB_s h
        cases h
        exact ((qI.dp (isQ_t q).1).t (ih _ _ _ _ _ e1)).up.nd
      · split at h
        · rename_i q
          obtain ⟨j, Q1, e1, h⟩ := mB_s h
          cases h
          exact (((qI.dp (isQ_t q).1).t (ih _ _ _ _ _ e1)).t qI.tk).up.w
        · split at h
          · cases h; exact (qI.av.t qI.nm).nd
          · split at h
            · cases h; exact (qI.av.t qI.nm).nd
            · obtain ⟨l, Q1, e1, h⟩ := mB_s h
              split at h
              · cases h; exact (ih _ _ _ _ _ e1).t qI.wr
              · obtain ⟨r, Q2, e2, h⟩ := mB_s h
                cases h
                exact (((ih _ _ _ _ _ e1).tr qI.av).t (ih _ _ _ _ _ e2)).nd
    · unfold mm6 at h
      exact seq _ _ h
    · unfold mm7 at h
      split at h
      · exact tail _ _ _ h
      · cases h; exact qI.rf
    · unfold mm8 at h
      exact seq _ _ h
    · unfold mm9 at h
      split at h
      · exact tail _ _ _ h
      · cases h; exact qI.rf
theorem ot_i {E : PE} {f k dz tl fr : Nat} {s : Nat → Nat} {Q Q' : QS} (h : otQ E f k dz tl fr s Q = some Q') : qI 0 Q Q' := by
  unfold otQ at h
  split at h
  · cases hm : mm E f 8 0 (avQ Q) with
    | none => rw [hm] at h; cases h
    | some y => obtain ⟨i, Q1⟩ := y; rw [hm] at h; cases h; exact ((qI.av.t (mm_i _ _ _ _ _ _ hm)).w).t (qI.eq rfl rfl rfl)
  · cases h; exact qI.eq rfl rfl rfl
theorem qI.o1 {Q : QS} : qI 0 Q (o1Q Q) := by
  unfold o1Q
  split
  · exact qI.mk.t qI.av.w
  · exact qI.av.w
theorem or_i {E : PE} {f dz : Nat} {Q Q' : QS} (h : orQ E f dz Q = some Q') : qI 0 Q Q' := by
  have k2 : qI 0 Q (nmQ E (o1Q Q)).2 := qI.o1.t qI.nm
  unfold orQ at h
  split at h
  · cases hm0 : mm E f 3 0 (tkQ E 4 (nmQ E (o1Q Q)).2) with
    | none => rw [hm0] at h; cases h
    | some y =>
      obtain ⟨i0, Q1⟩ := y
      rw [hm0] at h
      simp only at h
      have kb := (k2.t qI.tk).t (mm_i _ _ _ _ _ _ hm0)
      cases hm1 : mm E f 3 0 (tkQ E 54 Q1) with
      | none => rw [hm1] at h; cases h
      | some y =>
        obtain ⟨i1, Q2⟩ := y
        rw [hm1] at h
        simp only at h
        have kd := (kb.t qI.tk).t (mm_i _ _ _ _ _ _ hm1)
        cases hm2 : mm E f 3 0 (tkQ E 5 Q2) with
        | none => rw [hm2] at h; cases h
        | some y =>
          obtain ⟨i2, Q3⟩ := y
          rw [hm2] at h
          simp only at h
          exact ((kd.t qI.tk).t (mm_i _ _ _ _ _ _ hm2)).t (ot_i h)
  · exact k2.t (ot_i h)
theorem qI.nu {E : PE} {Q : QS} {lo hi : Nat} : qI 0 Q (nuQ E lo hi Q) := by
  unfold nuQ
  split
  · exact qI.mk.t qI.tk
  · exact qI.tk
theorem qI.ni {E : PE} {Q : QS} : ∀ p, qI 0 Q (nmI E Q p)
  | 0 => qI.rf
  | p + 1 => (qI.ni p).t qI.nu
theorem qI.t1 {E : PE} {Q : QS} : qI 0 Q (t1Q E Q) := by
  unfold t1Q
  split
  · exact qI.mk
  · exact qI.rf
theorem qI.t2 {E : PE} {Q : QS} : qI 0 Q (t2Q E Q) := by
  unfold t2Q
  split
  · exact qI.t1.t qI.mk
  · exact qI.t1
theorem ti_i {E : PE} {Q : QS} : qI 0 Q (tiQ E Q) := by
  have h : qI 0 Q (nmI E (t3Q E Q) 3) := (qI.t2.t qI.tk).t (qI.ni 3)
  exact h.t (qI.eq rfl rfl rfl)
theorem li_i {E : PE} {f : Nat} {Q Q' : QS} (h : liQ E f Q = some Q') : qI 0 Q Q' := by
  unfold liQ at h
  split at h
  · cases h; exact qI.av.w.t ti_i
  · split at h
    · exact or_i h
    · split at h
      · exact or_i h
      · split at h
        · exact or_i h
        · cases h; exact qI.wr
theorem ls_i {t : TP} {f : Nat} : ∀ g Q Q', lsQ t f g Q = some Q' → qI 0 Q Q'
  | 0, _, _, h => by cases h
  | g + 1, Q, Q', h => by
    unfold lsQ at h
    split at h
    · cases h; exact qI.rf
    · cases hl : liQ (envQ t Q.2.2) f Q with
      | none => rw [hl] at h; cases h
      | some Q1 =>
        rw [hl] at h
        simp only at h
        exact ((li_i hl).t qI.tk).t (ls_i g _ _ h)
theorem bd_i {E : PE} {Q : QS} : qI 0 Q (bdQ E Q) := by
  unfold bdQ
  split
  · exact qI.rf
  · have h1 : qI 0 Q (b1Q E Q) := by
      unfold b1Q
      exact ((qI.av.w.t qI.nu).t (qI.eq rfl rfl rfl)).t qI.tk
    exact ((h1.t qI.nu).t (qI.eq rfl rfl rfl)).t qI.tk
theorem bd_l {E : PE} {n : Nat} (hK : KOk E.1 n) {Q : QS} (hQ : qt Q ≤ n) : qt (bdQ E Q) ≤ n := by
  unfold bdQ
  split
  · exact hQ
  · rename_i q
    have hl := isQ_lt hK hQ (by decide) q
    have k1 := qK.nu hK (lo := 3) (hi := 7) (Q := avQ Q) hl
    have k2 := qK.tk hK (k := 1) (by decide) (Q := scQ (E.2.1 (qt (avQ Q))) (nuQ E 3 7 (avQ Q))) k1.2.1
    have k3 := qK.nu hK (lo := 3) (hi := 7) (Q := b1Q E Q) k2.2.1
    exact (qK.tk hK (k := 53) (by decide) (Q := srQ (E.2.1 (qt (b1Q E Q))) (nuQ E 3 7 (b1Q E Q))) k3.2.1).2.1
/-- the room for nodes is enough -/
theorem ga_n {t : TP} {f g : Nat} {Q' : QS} (h : gaQ t f g q0Q = some Q') : qn Q' ≤ 401 := by
  unfold gaQ at h
  have h1 : qI 0 q0Q Q' := bd_i.t (ls_i _ _ _ h)
  have h2 := (ls_l _ _ _ (bd_l (tK_ok t) (Nat.zero_le _)) h).2.1
  have h3 := tl_le t
  unfold qI qV at h1
  have h4 : (if qw Q' then 1 else 0) ≤ 1 := by split <;> omega
  have h5 : qn q0Q = 0 := rfl
  have h6 : qt q0Q = 0 := rfl
  omega
end PB28
