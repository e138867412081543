section STA2
set_option maxRecDepth 100000
theorem sta_K {a0 : Array Value} {s : State} (hts : ∀ w ∈ lw_tbl, w.before a0 s = true) : ∃ Dg : va_G, va_K Dg clX [] s := by
  have hall : ∀ w ∈ lw_all, w.before a0 s = true := fun w h => hts w (lw_all_tbl h)
  have key : ∀ k : Nat, ∃ p : ClassId × (Nat → Nat), ∀ q : String × u_T × Nat, (clX[k]? : Option (String × u_T × Nat)) = some q → u_Kn s q.1 q.2.1 q.2.2 p.1 p.2 := fun k => by
    match k with
    | 0 => obtain ⟨c, i, h⟩ := u_known hall in_X1 (hall _ q167); exact ⟨(c, i), fun q hq => by cases hq; exact h⟩
    | 1 => obtain ⟨c, i, h⟩ := u_known hall in_X2 (hall _ q175); exact ⟨(c, i), fun q hq => by cases hq; exact h⟩
    | 2 => obtain ⟨c, i, h⟩ := u_known hall in_X3 (hall _ q191); exact ⟨(c, i), fun q hq => by cases hq; exact h⟩
    | 3 => obtain ⟨c, i, h⟩ := u_known hall in_X4 (hall _ q2719); exact ⟨(c, i), fun q hq => by cases hq; exact h⟩
    | 4 => obtain ⟨c, i, h⟩ := u_known hall in_X5 (hall _ q2725); exact ⟨(c, i), fun q hq => by cases hq; exact h⟩
    | 5 => obtain ⟨c, i, h⟩ := u_known hall in_X6 (hall _ q2792); exact ⟨(c, i), fun q hq => by cases hq; exact h⟩
    | 6 => obtain ⟨c, i, h⟩ := u_known hall in_X7 (hall _ q287); exact ⟨(c, i), fun q hq => by cases hq; exact h⟩
    | 7 => obtain ⟨c, i, h⟩ := u_known hall in_X8 (hall _ q289); exact ⟨(c, i), fun q hq => by cases hq; exact h⟩
    | 8 => obtain ⟨c, i, h⟩ := u_known hall in_X9 (hall _ q323); exact ⟨(c, i), fun q hq => by cases hq; exact h⟩
    | 9 => obtain ⟨c, i, h⟩ := u_known hall in_X10 (hall _ q966); exact ⟨(c, i), fun q hq => by cases hq; exact h⟩
    | 10 => obtain ⟨c, i, h⟩ := u_known hall in_X11 (hall _ q1547); exact ⟨(c, i), fun q hq => by cases hq; exact h⟩
    | 11 => obtain ⟨c, i, h⟩ := u_known hall in_X13 (hall _ q1747); exact ⟨(c, i), fun q hq => by cases hq; exact h⟩
    | 12 => obtain ⟨c, i, h⟩ := u_known hall in_X14 (hall _ q1777); exact ⟨(c, i), fun q hq => by cases hq; exact h⟩
    | 13 => obtain ⟨c, i, h⟩ := u_known hall in_X15 (hall _ q1802); exact ⟨(c, i), fun q hq => by cases hq; exact h⟩
    | 14 => obtain ⟨c, i, h⟩ := u_known hall in_X16 (hall _ q1818); exact ⟨(c, i), fun q hq => by cases hq; exact h⟩
    | 15 => obtain ⟨c, i, h⟩ := u_known hall in_X17 (hall _ q1851); exact ⟨(c, i), fun q hq => by cases hq; exact h⟩
    | 16 => obtain ⟨c, i, h⟩ := u_known hall in_X18 (hall _ q1858); exact ⟨(c, i), fun q hq => by cases hq; exact h⟩
    | 17 => obtain ⟨c, i, h⟩ := u_known hall in_X19 (hall _ q1883); exact ⟨(c, i), fun q hq => by cases hq; exact h⟩
    | 18 => obtain ⟨c, i, h⟩ := u_known hall in_X20 (hall _ q1896); exact ⟨(c, i), fun q hq => by cases hq; exact h⟩
    | 19 => obtain ⟨c, i, h⟩ := u_known hall in_X21 (hall _ q1907); exact ⟨(c, i), fun q hq => by cases hq; exact h⟩
    | 20 => obtain ⟨c, i, h⟩ := u_known hall in_X22 (hall _ q1921); exact ⟨(c, i), fun q hq => by cases hq; exact h⟩
    | 21 => obtain ⟨c, i, h⟩ := u_known hall in_X24 (hall _ q1943); exact ⟨(c, i), fun q hq => by cases hq; exact h⟩
    | 22 => obtain ⟨c, i, h⟩ := u_known hall in_X25 (hall _ q2336); exact ⟨(c, i), fun q hq => by cases hq; exact h⟩
    | 23 => obtain ⟨c, i, h⟩ := u_known hall in_J2 (hall _ q197); exact ⟨(c, i), fun q hq => by cases hq; exact h⟩
    | 24 => obtain ⟨c, i, h⟩ := u_known hall in_J10 (hall _ q357); exact ⟨(c, i), fun q hq => by cases hq; exact h⟩
    | 25 => obtain ⟨c, i, h⟩ := u_known hall in_J11 (hall _ q488); exact ⟨(c, i), fun q hq => by cases hq; exact h⟩
    | 26 => obtain ⟨c, i, h⟩ := u_known hall in_J19 (hall _ q1568); exact ⟨(c, i), fun q hq => by cases hq; exact h⟩
    | 27 => obtain ⟨c, i, h⟩ := u_known hall in_J22 (hall _ q859); exact ⟨(c, i), fun q hq => by cases hq; exact h⟩
    | 28 => obtain ⟨c, i, h⟩ := u_known hall in_J26 (hall _ q1615); exact ⟨(c, i), fun q hq => by cases hq; exact h⟩
    | 29 => obtain ⟨c, i, h⟩ := u_known hall in_J28 (hall _ q1675); exact ⟨(c, i), fun q hq => by cases hq; exact h⟩
    | 30 => obtain ⟨c, i, h⟩ := u_known hall in_J31 (hall _ q2356); exact ⟨(c, i), fun q hq => by cases hq; exact h⟩
    | 31 => obtain ⟨c, i, h⟩ := u_known hall in_J32 (hall _ q2120); exact ⟨(c, i), fun q hq => by cases hq; exact h⟩
    | k + 32 => exact ⟨(0, fun _ => 0), fun q hq => absurd (List.getElem?_eq_some_iff.mp hq).1 (by show ¬ (k + 32 < 32); omega)⟩
  obtain ⟨f, hf⟩ := Classical.axiomOfChoice key
  exact ⟨(fun k => (f k).1, fun k => (f k).2), fun c q hq => hf c q hq, fun k q h => by cases h⟩
theorem trm_s {k : Nat} {q : String × String × String} (h : cnL[k]? = some q) : trm k = .static q.1 q.2.1 q.2.2 := by
  have hk : k < 37 := (List.getElem?_eq_some_iff.mp h).1
  unfold trm
  rw [if_pos (by omega), h]
theorem trm_t {k : Nat} {q : String × Nat} (h : stL[k]? = some q) : trm (100 + k) = .string q.1 q.2 ∧ trm (2000 + k) = .field (.string q.1 q.2) "java/lang/String" "value" "[B" := by
  have hk : k < 91 := (List.getElem?_eq_some_iff.mp h).1
  refine ⟨?_, ?_⟩
  · unfold trm
    rw [if_neg (by omega), if_pos (by omega), show 100 + k - 100 = k by omega, h]
  · unfold trm
    rw [if_neg (by omega), if_neg (by omega), if_neg (by omega), if_pos (by omega), show 2000 + k - 2000 = k by omega, h]
theorem trm_c {k : Nat} (h : k < 256) : trm (1000 + k) = .elem caT (.int (nI k)) := by
  unfold trm
  rw [if_neg (by omega), if_neg (by omega), if_pos (by omega), show 1000 + k - 1000 = k by omega]
theorem trm_m {k : Nat} {q : String} (h : mrL[k]? = some q) : trm (3000 + k) = .mirror q := by
  unfold trm
  rw [if_neg (by omega), if_neg (by omega), if_neg (by omega), if_neg (by omega), show 3000 + k - 3000 = k by omega, List.getD_eq_getElem?_getD, h]
  rfl
/-- the start is as the contracts ask, with its constants -/
theorem sta_G {a0 : Array Value} {s : State} (hts : ∀ w ∈ lw_tbl, w.before a0 s = true) (hN : (Jvm.Cond.and given_1 narrow_1).before a0 s = true) : ∃ Γ : Gm, gS Γ = s ∧ GOK Γ ∧ RelH Γ (cst Γ) h0H s.heap := by
  obtain ⟨Dg, hK⟩ := sta_K hts
  obtain ⟨c0, a1, r1⟩ := sta_p hts (ty := .int) (lw_all_tbl q267) (fun C h => by cases h)
  obtain ⟨c1, a2, r2⟩ := sta_p hts (ty := .byte) (lw_all_tbl q189) (fun C h => by cases h)
  obtain ⟨c2, a3, r3⟩ := sta_p hts (ty := .long) (lw_all_tbl q3365) (fun C h => by cases h)
  obtain ⟨c3, a4, r4⟩ := sta_p hts (ty := .boolean) (lw_all_tbl q2082) (fun C h => by cases h)
  obtain ⟨c4, a5, r5⟩ := sta_o hts (C := "java/lang/Object") q846
  obtain ⟨c5, a6, r6⟩ := sta_o hts (C := "java/util/HashMap$Node") q1601
  obtain ⟨c6, a7, r7⟩ := sta_o hts (C := "java/lang/String") q3503
  have er : ∀ k, k < 36 → (trm k).eval a0 s none [] s = some (.ref (EgD a0 s k)) := fun k hk => adO_r (ex_r (flH hN (fl_ex k hk)))
  have e36 : (trm 36).eval a0 s none [] s = some (.ref (EgD a0 s 36)) := adO_r (Term.length_ref (eq_e (flH hN fl_n36) rfl))
  have es : ∀ k, k < 91 → (trm (100 + k)).eval a0 s none [] s = some (.ref (EgD a0 s (100 + k))) := fun k hk => adO_r (ex_r (flH hN (fl_sx k hk)))
  have ev : ∀ k, k < 91 → (trm (2000 + k)).eval a0 s none [] s = some (.ref (EgD a0 s (2000 + k))) := fun k hk => adO_r (ex_r (flH hN (fl_sv k hk)))
  have em : ∀ k, k < 59 → (trm (3000 + k)).eval a0 s none [] s = some (.ref (EgD a0 s (3000 + k))) := fun k hk => adO_r (by
    obtain ⟨v, h1, h2⟩ := Cond.isRef_spec (flH hN (fl_mi k hk))
    have hm : trm (3000 + k) = .mirror (mrL.getD (3000 + k - 3000) "") := by unfold trm; rw [if_neg (by omega), if_neg (by omega), if_neg (by omega), if_neg (by omega)]
    rw [hm] at h1 ⊢
    obtain ⟨c, kk, a, -, -, -, h4⟩ := Term.mirror_spec h1
    exact ⟨a, by rw [h1, h4]⟩)
  have hca : trm 36 = caT := rfl
  obtain ⟨ad, hB, hel⟩ := vb_Cof (A := fun a => s.heap.size ≤ a) (st := caT) (s := s) (args := a0) rfl (by have := eq_e (flH hN fl_n36) (v := .int (nI 256)) rfl; exact this) (flH hN fl_all) (fun a ha => Nat.not_le.mpr ha)
  have eb : ∀ k, k < 256 → EgD a0 s (1000 + k) = ad k := fun k hk => by
    unfold EgD
    rw [trm_c hk, show (Term.elem caT (.int (nI k))).eval a0 s none [] s = some (.ref (ad k)) from hel k hk]
    rfl
  have cc : ∀ k, k < 36 → ∃ cell, s.heap[EgD a0 s k]? = some cell ∧ s.vm.findClass (exC.getD k "") = some cell.cls := fun k hk => by
    obtain ⟨a, c, cell, kk, h1, h2, h3, h4, h5, h6, -⟩ := Cond.exactly_spec (flH hN (fl_ex k hk))
    cases Option.some.inj (h1.symm.trans (er k hk))
    exact ⟨cell, h3, by rw [h6]; exact h2⟩
  obtain ⟨l8, k8, f8⟩ := cc 9 (by decide)
  have a8 : ArrOfT s l8.cls (.object "RingDomino$Craft") := sta_s (flH hN fl_t9) (er 9 (by decide)) k8
  obtain ⟨l9, k9, f9⟩ := cc 11 (by decide)
  have a9 : ArrOfT s l9.cls (.object "RingDomino$What") := sta_s (flH hN fl_t11) (er 11 (by decide)) k9
  obtain ⟨a36, l7, h71, h72, -⟩ := Term.length_spec (eq_e (flH hN fl_n36) (v := .int (nI 256)) rfl)
  cases Option.some.inj (h71.symm.trans e36)
  obtain ⟨k7, -⟩ := State.arrayAt?_spec h72
  have a07 : ArrOfT s l7.cls (.object "java/lang/Integer") := sta_s (flH hN fl_t36) e36 k7
  obtain ⟨Ag, hAg⟩ : ∃ Ag : Nat → ClassId, Ag = fun i => if i = 0 then c0 else if i = 1 then c1 else if i = 2 then c2 else if i = 3 then c3 else if i = 4 then c4 else if i = 5 then c5 else if i = 6 then c6 else if i = 7 then l7.cls else if i = 8 then l8.cls else l9.cls := ⟨_, rfl⟩
  refine ⟨(s, Dg, Ag, EgD a0 s), rfl, ⟨a0, hts, hK, fun i hi => ?_, fun i hi => ?_, hN, ?_, ?_, ?_, ?_⟩, Nat.le_refl _, fun q _ => rfl, fun a e hz => ?_, fun a e h => by cases h⟩
  · rcases (show i = 0 ∨ i = 1 ∨ i = 2 ∨ i = 3 ∨ i = 4 ∨ i = 5 ∨ i = 6 ∨ i = 7 ∨ i = 8 ∨ i = 9 by omega) with rfl | rfl | rfl | rfl | rfl | rfl | rfl | rfl | rfl | rfl <;> (show ArrOfT s (Ag _) _; rw [hAg]; assumption)
  · rcases (show i = 0 ∨ i = 1 ∨ i = 2 ∨ i = 3 ∨ i = 4 ∨ i = 5 by omega) with rfl | rfl | rfl | rfl | rfl | rfl <;> (show va_RA s (Ag _) _; rw [hAg]; assumption)
  · intro k q hq
    have hk : k < 37 := (List.getElem?_eq_some_iff.mp hq).1
    rw [← trm_s hq]
    rcases Nat.lt_or_ge k 36 with h | h
    · exact er k h
    · have e : k = 36 := by omega
      subst e; exact e36
  · intro k q hq
    have hk : k < 91 := (List.getElem?_eq_some_iff.mp hq).1
    obtain ⟨t1, t2⟩ := trm_t hq
    exact ⟨by rw [← t1]; exact es k hk, by rw [← t2]; exact ev k hk⟩
  · intro k hk
    have := hel k hk
    rw [← eb k hk] at this
    exact this
  · intro k q hq
    have hk : k < 59 := (List.getElem?_eq_some_iff.mp hq).1
    rw [← trm_m hq]
    exact em k hk
  · rcases hz with ⟨k, hk, rfl, rfl⟩ | ⟨rfl, rfl⟩ | ⟨k, hk, rfl, rfl⟩ | ⟨k, hk, rfl, rfl⟩ | ⟨rfl, rfl⟩ | ⟨rfl, rfl⟩ | ⟨rfl, rfl⟩ | ⟨rfl, rfl⟩ | ⟨rfl, rfl⟩ | ⟨rfl, rfl⟩ | ⟨rfl, rfl⟩ | ⟨rfl, rfl⟩
    · -- the boxes
      show wat _ (EgD a0 s (1000 + k), _) _
      rw [eb k hk]
      obtain ⟨cell, o1, o2, o3, -⟩ := hB.1 k hk
      obtain ⟨cf, kf, fi, fd, c2, p1, p2, p3, p4, p5, -⟩ := hB.2 k hk
      cases Option.some.inj (p3.symm.trans o1)
      have hKn := hK.1 26 _ rfl
      refine ⟨_, cell, rfl, o1, o2, p4, Option.some.inj (o3.symm.trans hKn.2.1), fun j hj => ?_⟩
      have hj0 : j = 0 := by have hj : j < 1 := hj; omega
      subst hj0
      obtain ⟨cf2, kf2, fi2, fd2, w1, w2⟩ := hKn.1 0 (by decide)
      have w1 : s.fieldFound? "java/lang/Integer" "value" "I" = some (cf2, kf2, fi2, fd2) := w1
      cases Option.some.inj (p1.symm.trans w1)
      show cell.slots[Dg.2 26 0]? = some (.int (vb_c k))
      rw [← w2]; exact p5
    · -- their row
      exact watA (t := trm 36) e36 (fun cell hc => by show cell.cls = Ag 7; rw [hAg]; cases Option.some.inj (hc.symm.trans k7); rfl) (eq_e (flH hN fl_n36) rfl) (by decide) (fun j hj => (hel j hj).trans (by show _ = some (Value.ref (EgD a0 s (1000 + j))); rw [eb j hj]))
    · -- Strings
      refine watO (t := trm (100 + k)) rfl (hK.1 25 _ rfl) (flH hN (fl_sx k hk)) (es k hk) (by decide) (fun j hj => ?_)
      have hj : j < 4 := hj
      have htk : trm (2000 + k) = .field (trm (100 + k)) "java/lang/String" "value" "[B" := by
        obtain ⟨q, hq⟩ : ∃ q, stL[k]? = some q := ⟨_, List.getElem?_eq_getElem (show k < stL.length from hk)⟩
        rw [(trm_t hq).1, (trm_t hq).2]
      rcases (show j = 0 ∨ j = 1 ∨ j = 2 ∨ j = 3 by omega) with rfl | rfl | rfl | rfl
      · have := ev k hk; rw [htk] at this; exact this
      · exact eq_e (flH hN (fl_sc k hk)) rfl
      · exact eq_e (flH hN (fl_sh k hk)) rfl
      · exact eq_e (flH hN (fl_sz k hk)) rfl
    · -- their bytes
      exact watA (t := trm (2000 + k)) (ev k hk) (by show ∀ cell : Cell, _ → cell.cls = Ag 1; rw [hAg]; exact ex_c (flH hN (fl_sv k hk)) (ev k hk) (show s.vm.findClass "[B" = some c1 from r2)) (eq_e (flH hN (fl_sl k hk)) rfl) (by have := stT_ok k hk; omega) (fun j hj => eq_e (flH hN (fl_sb k hk j hj)) rfl)
    · exact watA (t := trm 0) (er 0 (by decide)) (by show ∀ cell : Cell, _ → cell.cls = Ag 4; rw [hAg]; exact ex_c (flH hN (fl_ex 0 (by decide))) (er 0 (by decide)) (va_nmO r5 (by decide +kernel))) (eq_e (flH hN fl_n0) rfl) (by decide) (fun j hj => absurd hj (Nat.not_lt_zero j))
    · refine watO (t := trm 19) rfl (hK.1 30 _ rfl) (flH hN (fl_ex 19 (by decide))) (er 19 (by decide)) (by decide) (fun j hj => ?_)
      have hj0 : j = 0 := by have hj : j < 1 := hj; omega
      subst hj0
      exact eq_e (flH hN fl_op) rfl
    · exact watA (t := trm 32) (er 32 (by decide)) (by show ∀ cell : Cell, _ → cell.cls = Ag 6; rw [hAg]; exact ex_c (flH hN (fl_ex 32 (by decide))) (er 32 (by decide)) (va_nmO r7 (by decide +kernel))) (eq_e (flH hN fl_n32) rfl) (by decide) (fun j hj => eq_e (flH hN (fl_r32 j hj)) (by
        have : ∀ j, j < 24 → ∃ k, k < 91 ∧ [100, 101, 102, 103, 104, 105, 106, 107, 108, 109, 110, 111, 112, 113, 114, 115, 116, 117, 118, 119, 120, 121, 122, 123].getD j 0 = 100 + k := fun j hj => ⟨[100, 101, 102, 103, 104, 105, 106, 107, 108, 109, 110, 111, 112, 113, 114, 115, 116, 117, 118, 119, 120, 121, 122, 123].getD j 0 - 100, by revert j; decide, by revert j; decide⟩
        obtain ⟨k, hk, e⟩ := this j hj
        show (trm (List.getD _ j 0)).eval a0 s none [] s = some (.ref (EgD a0 s (List.getD _ j 0)))
        rw [e]; exact es k hk))
    · exact watA (t := trm 33) (er 33 (by decide)) (by show ∀ cell : Cell, _ → cell.cls = Ag 6; rw [hAg]; exact ex_c (flH hN (fl_ex 33 (by decide))) (er 33 (by decide)) (va_nmO r7 (by decide +kernel))) (eq_e (flH hN fl_n33) rfl) (by decide) (fun j hj => eq_e (flH hN (fl_r33 j hj)) (by
        have : ∀ j, j < 24 → ∃ k, k < 91 ∧ [131, 132, 133, 134, 135, 136, 137, 138, 139, 140, 141, 142, 143, 144, 145, 146, 147, 148, 149, 150, 151, 152, 153, 154].getD j 0 = 100 + k := fun j hj => ⟨[131, 132, 133, 134, 135, 136, 137, 138, 139, 140, 141, 142, 143, 144, 145, 146, 147, 148, 149, 150, 151, 152, 153, 154].getD j 0 - 100, by revert j; decide, by revert j; decide⟩
        obtain ⟨k, hk, e⟩ := this j hj
        show (trm (List.getD _ j 0)).eval a0 s none [] s = some (.ref (EgD a0 s (List.getD _ j 0)))
        rw [e]; exact es k hk))
    · exact watA (t := trm 9) (er 9 (by decide)) (fun cell hc => by show cell.cls = Ag 8; rw [hAg]; cases Option.some.inj (hc.symm.trans k8); rfl) (eq_e (flH hN fl_n9) rfl) (by decide) (fun j hj => eq_e (flH hN (fl_r9 j hj)) (by
        have : ∀ j, j < 3 → [10, 20, 21].getD j 0 < 36 := by decide
        exact er _ (this j hj)))
    · exact watA (t := trm 11) (er 11 (by decide)) (fun cell hc => by show cell.cls = Ag 9; rw [hAg]; cases Option.some.inj (hc.symm.trans k9); rfl) (eq_e (flH hN fl_n11) rfl) (by decide) (fun j hj => eq_e (flH hN (fl_r11 j hj)) (by
        have : ∀ j, j < 7 → [22, 23, 24, 25, 26, 27, 28].getD j 0 < 36 := by decide
        exact er _ (this j hj)))
    · exact watA (t := trm 34) (er 34 (by decide)) (by show ∀ cell : Cell, _ → cell.cls = Ag 0; rw [hAg]; exact ex_c (flH hN (fl_ex 34 (by decide))) (er 34 (by decide)) (va_nm_int r1)) (eq_e (flH hN fl_n34) rfl) (by decide) (fun j hj => eq_e (flH hN (fl_r34 j hj)) rfl)
    · exact watA (t := trm 35) (er 35 (by decide)) (by show ∀ cell : Cell, _ → cell.cls = Ag 0; rw [hAg]; exact ex_c (flH hN (fl_ex 35 (by decide))) (er 35 (by decide)) (va_nm_int r1)) (eq_e (flH hN fl_n35) rfl) (by decide) (fun j hj => eq_e (flH hN (fl_r35 j hj)) rfl)
end STA2
