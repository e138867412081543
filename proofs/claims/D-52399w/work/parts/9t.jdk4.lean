section JDK4
set_option maxRecDepth 100000
theorem rcv_mono {Γ : Gm} {z z' : ZR} {h h' : AH} {b : Nat} {C1 : String} (hr : rcv Γ z h b C1) (hz : zle z z') (hh : hle h h') : rcv Γ z' h' b C1 := fun U H hW hR => hr U H hW ⟨hR.1, hR.2.1, fun a e q => hR.2.2.1 a e (hz a e q), fun a e q => ⟨(hR.2.2.2 a e (hh a e q)).1, (hR.2.2.2 a e (hh a e q)).2.1, fun e' q' => (hR.2.2.2 a e (hh a e q)).2.2 e' (hz a e' q')⟩⟩
/-- what a list of m things grows to -/
def nwC (cap m : Nat) : Nat := if cap = 0 then max 10 m else cap + max (m - cap) (cap / 2)
def adC (n cap : Nat) : Nat := if n = cap then 1 else 0
def adS (n cap : Nat) : Nat := if n = cap then nwC cap (n + 1) else 0
def adK (n cap : Nat) : Nat := if n = cap then nwC cap (n + 1) else cap
theorem nwC_r {cap m : Nat} (h1 : cap ≤ m) (h2 : m < 2 ^ 17) : m < nwC cap (m + 1) ∧ nwC cap (m + 1) < 2 ^ 20 := by
  unfold nwC
  split <;> omega
theorem shr1 {n : Nat} (h : n < 2 ^ 20) : nI n >>> (nI 1 &&& 31) = nI (n / 2) := by
  rw [show (nI 1 &&& 31 : Int32) = 1 by decide]
  apply Int32.toInt_inj.mp
  rw [nI_toInt (by omega)]
  have e : (nI n >>> (1 : Int32)).toBitVec = (nI n).toBitVec.sshiftRight 1 := by
    rw [Int32.toBitVec_shiftRight]
    first | done | rfl
  have h2 : (nI n >>> (1 : Int32)).toInt = (nI n).toInt >>> 1 := by
    show (nI n >>> (1 : Int32)).toBitVec.toInt = _
    rw [e, BitVec.toInt_sshiftRight]
    first | done | rfl
  rw [h2, nI_toInt (by omega), Int.shiftRight_eq_div_pow]
  omega
/-- an object of a known class that stays -/
def obZ (z : ZR) (v : Nat) : Prop := ∃ (ci : Nat) (fs : List Value) (C1 : String) (T : u_T) (N : Nat), z v (.inr (ci, fs)) ∧ clX[ci]? = some (C1, T, N) ∧ Cond.castable C1 "java/lang/Object" ∈ lw_tbl
theorem obZ.mono {z z' : ZR} {v : Nat} (h : obZ z v) (hz : zle z z') : obZ z' v := by
  obtain ⟨ci, fs, C1, T, N, h1, h2⟩ := h
  exact ⟨ci, fs, C1, T, N, hz _ _ h1, h2⟩
theorem obZ.rc0 {z : ZR} {v : Nat} (h : obZ z v) {Γ : Gm} (hΓ : GOK Γ) : ∃ C1, (∀ h : AH, rcv Γ z h v C1) ∧ Cond.castable C1 "java/lang/Object" ∈ lw_tbl := by
  obtain ⟨ci, fs, C1, T, N, h1, h2, h3⟩ := h
  exact ⟨C1, fun h => rcv.of hΓ h2 (Or.inr h1), h3⟩
theorem obZ.rc {z : ZR} {v : Nat} (hv : obZ z v) {Γ : Gm} (hΓ : GOK Γ) {h : AH} : ∃ C1, rcv Γ z h v C1 ∧ Cond.castable C1 "java/lang/Object" ∈ lw_tbl := by
  obtain ⟨C1, h1, h2⟩ := hv.rc0 hΓ
  exact ⟨C1, h1 h, h2⟩
theorem lf_el {z : ZR} {n i y : Nat} {xs : Nat → Nat} (hel : ∀ i, i < n → obZ z (xs i)) (hy : lf n xs i = some y) : obZ z y := by
  unfold lf at hy
  split at hy
  · rename_i hi; cases hy; exact hel i hi
  · cases hy
theorem ALm.ow2 {Γ : Gm} {h : AH} {a arr n : Nat} {md : Int32} {cap : Nat} {xs : Nat → Nat} (hL : ALm Γ h a arr n md cap xs) (hk : n < cap) : h arr = some (cAr Γ cap (lf n xs)) ∧ arr ≠ gE Γ 0 := by
  obtain ⟨h1, h2, h3, h4⟩ := hL
  rcases h2 with q | ⟨q1, q2⟩
  · exact q
  · omega
/-- a thing v was added to a list -/
def AlA (Γ : Gm) (z : ZR) (h h' : AH) (a arr n cap : Nat) (md : Int32) (xs : Nat → Nat) (v : Nat) : Prop := ∃ arr' cap', ALm Γ h' a arr' (n + 1) md cap' (va_up xs n v) ∧ (arr' = arr ∨ (h arr' = none ∧ ∀ e, ¬ z arr' e)) ∧ (cap' = 0 → arr' = gE Γ 0) ∧ cap' = adK n cap ∧ ∀ q e, h q = some e → q ≠ a → q ≠ arr → h' q = some e
theorem AlA1 {Γ : Gm} {h : AH} {a arr n v : Nat} {md : Int32} {cap : Nat} {xs : Nat → Nat} (hO : h arr = some (cAr Γ cap (lf n xs)) ∧ arr ≠ gE Γ 0) (hlt : n < cap) (hL : ALm Γ h a arr n md cap xs) : ALm Γ (up (up h arr (cAr Γ cap (lf (n + 1) (va_up xs n v)))) a (cAL md arr (n + 1))) a arr (n + 1) md cap (va_up xs n v) := by
  have hne : arr ≠ a := ne_ob hO.1 hL.1 (by simp [cAr, cAL])
  exact ⟨up_s, Or.inl ⟨by rw [up_n hne]; exact up_s, hO.2⟩, hlt, hL.2.2.2⟩
theorem AlA2 {Γ : Gm} {h : AH} {a b n v : Nat} {md : Int32} {cap : Nat} {xs : Nat → Nat} {e1 e2 : va_E} (hab : a ≠ b) (hb0 : b ≠ gE Γ 0) (h1 : n < cap) (h2 : cap < 2 ^ 20) : ALm Γ (up (up (up (up h b e1) a e2) b (cAr Γ cap (lf (n + 1) (va_up xs n v)))) a (cAL md b (n + 1))) a b (n + 1) md cap (va_up xs n v) :=
  ⟨up_s, Or.inl ⟨by rw [up_n hab.symm]; exact up_s, hb0⟩, h1, h2⟩
theorem nwC_q {cap n : Nat} (h1 : cap < n) (h2 : n < 2 ^ 17) : n ≤ nwC cap n ∧ nwC cap n < 2 ^ 20 := by
  unfold nwC
  split <;> omega
theorem AlA3 {Γ : Gm} {h : AH} {a arr n : Nat} {md : Int32} {cap : Nat} {xs ys : Nat → Nat} (hO : h arr = some (cAr Γ cap (lf 0 ys)) ∧ arr ≠ gE Γ 0) (hlt : n ≤ cap) (hL : ALm Γ h a arr 0 md cap ys) : ALm Γ (up (up h arr (cAr Γ cap (va_cpy (lf n xs) (lf 0 ys) 0 0 n))) a (cAL md arr (0 + n))) a arr n md cap xs := by
  have hne : arr ≠ a := ne_ob hO.1 hL.1 (by simp [cAr, cAL])
  rw [lf_0, cpy_lfm, Nat.zero_add]
  exact ⟨up_s, Or.inl ⟨by rw [up_n hne]; exact up_s, hO.2⟩, hlt, hL.2.2.2⟩
theorem AlA4 {Γ : Gm} {h : AH} {a b n : Nat} {md : Int32} {cap : Nat} {xs ys : Nat → Nat} (hab : a ≠ b) (hb0 : b ≠ gE Γ 0) (h1 : n ≤ cap) (h2 : cap < 2 ^ 20) : ALm Γ (up (up h b (cAr Γ cap (va_cpy (lf n xs) (lf 0 ys) 0 0 n))) a (cAL md b (0 + n))) a b n md cap xs := by
  rw [lf_0, cpy_lfm, Nat.zero_add]
  exact ⟨up_s, Or.inl ⟨by rw [up_n hab.symm]; exact up_s, hb0⟩, h1, h2⟩
theorem ALm.md {Γ : Gm} {h : AH} {a arr n : Nat} {md m2 : Int32} {cap : Nat} {xs : Nat → Nat} (hL : ALm Γ h a arr n md cap xs) : ALm Γ (up h a (cAL m2 arr n)) a arr n m2 cap xs := by
  obtain ⟨h1, h2, h3⟩ := hL
  refine ⟨up_s, ?_, h3⟩
  rcases h2 with ⟨q1, q2⟩ | q
  · exact Or.inl ⟨by rw [up_n (ne_ob q1 h1 (by simp [cAr, cAL]))]; exact q1, q2⟩
  · exact Or.inr q
theorem ALm.hm {Γ : Gm} {h h' : AH} {a arr n : Nat} {md : Int32} {cap : Nat} {xs : Nat → Nat} (hL : ALm Γ h a arr n md cap xs) (hh : hle h h') : ALm Γ h' a arr n md cap xs := ⟨hh _ _ hL.1, hL.2.1.imp (fun q => ⟨hh _ _ q.1, q.2⟩) id, hL.2.2⟩
theorem ALm.x0 {Γ : Gm} {h : AH} {a arr : Nat} {md : Int32} {cap : Nat} {xs ys : Nat → Nat} (hL : ALm Γ h a arr 0 md cap xs) : ALm Γ h a arr 0 md cap ys := by
  obtain ⟨h1, h2, h3⟩ := hL
  rw [lf_0] at h2
  exact ⟨h1, by rw [lf_0]; exact h2, h3⟩
theorem up_none {h : AH} {a b : Nat} {e : va_E} (hq : up h a e b = none) : h b = none := by
  by_cases hb : b = a
  · subst hb; rw [up_s] at hq; cases hq
  · rwa [up_n hb] at hq
/-- a list's row from k on -/
def lc (k n : Nat) (xs : Nat → Nat) : Nat → Option Nat := fun i => if k ≤ i ∧ i < n then some (xs i) else none
theorem lc_0 {n : Nat} {xs : Nat → Nat} : lc 0 n xs = lf n xs := by funext i; simp [lc, lf]
theorem lc_n {n : Nat} {xs ys : Nat → Nat} : lc n n xs = lf 0 ys := by
  funext i
  simp only [lc, lf]
  rw [if_neg (by omega), if_neg (by omega)]
theorem lc_s {k n : Nat} {xs : Nat → Nat} (hk : k < n) : va_up (lc k n xs) k none = lc (k + 1) n xs := by
  funext i
  simp only [va_up, lc]
  by_cases hi : i = k
  · rw [if_pos hi, if_neg (by omega)]
  · rw [if_neg hi]
    by_cases h2 : k ≤ i ∧ i < n
    · rw [if_pos h2, if_pos (by omega)]
    · rw [if_neg h2, if_neg (by omega)]
/-- a list that is being cleared -/
def ALc (Γ : Gm) (h : AH) (a arr k n : Nat) (md : Int32) (cap : Nat) (xs : Nat → Nat) : Prop := h a = some (cAL md arr 0) ∧ ((h arr = some (cAr Γ cap (lc k n xs)) ∧ arr ≠ gE Γ 0) ∨ (cap = 0 ∧ arr = gE Γ 0)) ∧ n ≤ cap ∧ cap < 2 ^ 20
theorem ALm.c {Γ : Gm} {h : AH} {a arr n : Nat} {md m2 : Int32} {cap : Nat} {xs : Nat → Nat} {e1 : va_E} (hL : ALm Γ h a arr n md cap xs) : ALc Γ (up (up h a e1) a (cAL m2 arr 0)) a arr 0 n m2 cap xs := by
  obtain ⟨h1, h2, h3⟩ := hL
  refine ⟨up_s, ?_, h3⟩
  rcases h2 with ⟨q1, q2⟩ | q
  · have hn := ne_ob q1 h1 (by simp [cAr, cAL])
    exact Or.inl ⟨by rw [up_n hn, up_n hn, lc_0]; exact q1, q2⟩
  · exact Or.inr q
theorem ALc.ow {Γ : Gm} {h : AH} {a arr k n : Nat} {md : Int32} {cap : Nat} {xs : Nat → Nat} (hL : ALc Γ h a arr k n md cap xs) (hk : 0 < n) : h arr = some (cAr Γ cap (lc k n xs)) ∧ arr ≠ gE Γ 0 := by
  obtain ⟨h1, h2, h3, h4⟩ := hL
  rcases h2 with q | ⟨q1, q2⟩
  · exact q
  · omega
theorem ALc.st {Γ : Gm} {h : AH} {a arr k n : Nat} {md : Int32} {cap : Nat} {xs : Nat → Nat} (hL : ALc Γ h a arr k n md cap xs) (hk : 0 < n) : ALc Γ (up h arr (cAr Γ cap (lc (k + 1) n xs))) a arr (k + 1) n md cap xs := by
  have hO := hL.ow hk
  have hne := ne_ob hL.1 hO.1 (by simp [cAr, cAL])
  exact ⟨by rw [up_n hne]; exact hL.1, Or.inl ⟨up_s, hO.2⟩, hL.2.2⟩
theorem ALc.e {Γ : Gm} {h : AH} {a arr n : Nat} {md : Int32} {cap : Nat} {xs : Nat → Nat} (hL : ALc Γ h a arr n n md cap xs) (hn : True) : ALm Γ h a arr 0 md cap xs := by
  obtain ⟨h1, h2, h3, h4⟩ := hL
  rw [lc_n (ys := xs)] at h2
  exact ⟨h1, h2, Nat.zero_le _, h4⟩
set_option maxHeartbeats 2000000 in
theorem ct_J15_copyOf_3 {l : Launch} {Γ : Gm} (hl : l.flags = flags0) (hΓ : GOK Γ) {z : ZR} {h : AH} {a n0 m : Nat} {f : Nat → Option Nat} (Ha : rd z h a (.inl (gA Γ 4, (n0, refs f)))) (hn : n0 < 2 ^ 20) (hm : m < 2 ^ 20) (hel : ∀ i, i < min n0 m → ∀ y, f i = some y → obZ z y) : Ct l Γ yJ15_copyOf_3 cJ15_copyOf_3 4 (some (.array (.object "java/lang/Object"))) 3 1 m [.ref a, .int (nI m), .ref (gE Γ 3000)] z h (Rv (fun v z' h' => ∃ b, v = .ref b ∧ h b = none ∧ (∀ e, ¬ z b e) ∧ z' = z ∧ h' = up h b (.inl (gA Γ 4, (m, refs (va_cpy f (fun _ => none) 0 0 (min n0 m))))))) := by
  refine Ct.of hl hΓ (by decide +kernel) (Nat.le_of_ble_eq_true rfl) (fun X e1 e2 C => ?_)
  subst e1; subst e2
  have C : Cx X cJ15_copyOf_3 4 "java/util/Arrays" "copyOf" (some (.array (.object "java/lang/Object"))) [] 3 := C
  show WW X (Rv (fun v z' h' => ∃ b, v = .ref b ∧ h b = none ∧ (∀ e, ¬ z b e) ∧ z' = z ∧ h' = up h b (.inl (gA (xG X) 4, (m, refs (va_cpy f (fun _ => none) 0 0 (min n0 m))))))) z h 1 m 0 [(0, .ref a), (1, .int (nI m)), (2, .ref (gE (xG X) 3000))] []
  refine ww_aload_n C dJ15_copyOf_3_0 rfl 2 rfl rfl ?_
  refine ww_ldcM (k := 0) C rfl q845 dJ15_copyOf_3_1 ?_
  refine ww_acmp_ne_f (rx := (some (gE (xG X) 3000))) (ry := (some (gE (xG X) 3000))) (tgt := 13) C dJ15_copyOf_3_3 (by decide) rfl ?_
  refine ww_iload_n C dJ15_copyOf_3_6 rfl 1 rfl ?_
  refine ww_anew (t := 4) (n := m) (E := "java/lang/Object") C dJ15_copyOf_3_7 (by decide) rfl q847 q846 (by omega) (by decide) (by omega) (fun b b_n b_z b_g => ?_)
  refine ww_gen (fun h1 hE1 => ?_)
  have N1_h1 : h1 b = some (.inl (gA (xG X) 4, (m, refs (fun _ => none)))) := by rw [hE1]; exact up_s
  have hab : rd z h1 a (.inl (gA (xG X) 4, (n0, refs f))) := Ha.imp (fun q => by rw [hE1, up_n (ne_nw q b_n)]; exact q) id
  refine ww_goto (tgt := 24) C dJ15_copyOf_3_10 (by decide) ?_
  refine ww_astore_n (lv' := [(3, .ref b), (0, .ref a), (1, .int (nI m)), (2, .ref (gE (xG X) 3000))]) C dJ15_copyOf_3_24 rfl (by decide) rfl rfl ?_
  refine ww_aload_n C dJ15_copyOf_3_25 rfl 1 rfl rfl ?_
  refine ww_iconst C dJ15_copyOf_3_26 cI_0 ?_
  refine ww_aload_n C dJ15_copyOf_3_27 rfl 0 rfl rfl ?_
  refine ww_iconst C dJ15_copyOf_3_28 cI_0 ?_
  refine ww_aload_n C dJ15_copyOf_3_29 rfl 1 rfl rfl ?_
  refine ww_alen (t := 4) C dJ15_copyOf_3_30 (by decide) hab ?_
  refine ww_iload_n C dJ15_copyOf_3_31 rfl 2 rfl ?_
  refine cs_J15_304_r (As := [.int (nI n0), .int (nI m)]) (rest := [.int (nI 0), .ref b, .int (nI 0), .ref a]) C dJ15_copyOf_3_32 (ct_J14_min (Cx.fl C) (Cx.ok C) (a := n0) (b := m) (by omega) (by omega)) rfl rfl (Nat.le_of_ble_eq_true rfl) (by decide) (Nat.zero_le _) (Nat.zero_le _) ?_
  refine ww_copyq (n := (min n0 m)) (sp := 0) (dp := 0) (n0 := n0) (f := f) C q427 q429 q428 q126 dJ15_copyOf_3_35 hab N1_h1 (by omega) (by omega) (by omega) (by omega) (fun i hi y hy => (hel i (by omega) y (by rw [Nat.zero_add] at hy; exact hy)).rc (Cx.ok C)) (by omega) (Nat.le_of_ble_eq_true rfl) ?_
  refine ww_gen (fun h2 hE2 => ?_)
  have N1_h2 : h2 b = some (.inl (gA (xG X) 4, (m, refs (va_cpy f (fun _ => none) 0 0 (min n0 m))))) := by rw [hE2]; exact up_s
  refine ww_aload_n C dJ15_copyOf_3_38 rfl 0 rfl rfl ?_
  exact ww_aret C (Or.inr ⟨_, rfl⟩) dJ15_copyOf_3_39 rfl ⟨b, rfl, b_n, b_z, rfl, by rw [hE2, hE1, up_up]⟩
set_option maxHeartbeats 2000000 in
theorem ct_J15_copyOf_2 {l : Launch} {Γ : Gm} (hl : l.flags = flags0) (hΓ : GOK Γ) {z : ZR} {h : AH} {a n0 m : Nat} {f : Nat → Option Nat} (Ha : rd z h a (.inl (gA Γ 4, (n0, refs f)))) (hn : n0 < 2 ^ 20) (hm : m < 2 ^ 20) (hel : ∀ i, i < min n0 m → ∀ y, f i = some y → obZ z y) : Ct l Γ yJ15_copyOf_2 cJ15_copyOf_2 2 (some (.array (.object "java/lang/Object"))) 4 1 m [.ref a, .int (nI m)] z h (Rv (fun v z' h' => ∃ b, v = .ref b ∧ h b = none ∧ (∀ e, ¬ z b e) ∧ z' = z ∧ h' = up h b (.inl (gA Γ 4, (m, refs (va_cpy f (fun _ => none) 0 0 (min n0 m))))))) := by
  refine Ct.of hl hΓ (by decide +kernel) (Nat.le_of_ble_eq_true rfl) (fun X e1 e2 C => ?_)
  subst e1; subst e2
  have C : Cx X cJ15_copyOf_2 2 "java/util/Arrays" "copyOf" (some (.array (.object "java/lang/Object"))) [] 4 := C
  show WW X (Rv (fun v z' h' => ∃ b, v = .ref b ∧ h b = none ∧ (∀ e, ¬ z b e) ∧ z' = z ∧ h' = up h b (.inl (gA (xG X) 4, (m, refs (va_cpy f (fun _ => none) 0 0 (min n0 m))))))) z h 1 m 0 [(0, .ref a), (1, .int (nI m))] []
  refine ww_aload_n C dJ15_copyOf_2_0 rfl 0 rfl rfl ?_
  refine ww_iload_n C dJ15_copyOf_2_1 rfl 1 rfl ?_
  refine ww_aload_n C dJ15_copyOf_2_2 rfl 0 rfl rfl ?_
  refine ww_getC (k := 0) C rfl q782 q3460 q3459 q783 q841 (rcv_arr (Cx.ok C) Ha) dJ15_copyOf_2_3 (Nat.le_of_ble_eq_true rfl) (by omega) ?_
  refine cs_J15_300_q (As := [.ref a, .int (nI m), .ref (gE (xG X) 3000)]) (rest := []) C dJ15_copyOf_2_6 (ct_J15_copyOf_3 (Cx.fl C) (Cx.ok C) Ha hn hm hel) rfl rfl (Nat.le_of_ble_eq_true rfl) (by decide) (Nat.le_refl _) (Nat.le_refl _) (fun v z1 k1 q => ?_)
  obtain ⟨b, rfl, hq⟩ := q
  exact ww_aret C (Or.inr ⟨_, rfl⟩) dJ15_copyOf_2_9 rfl ⟨b, rfl, hq⟩
set_option maxHeartbeats 2000000 in
theorem ct_J13_newLength {l : Launch} {Γ : Gm} (hl : l.flags = flags0) (hΓ : GOK Γ) {z : ZR} {h : AH} {a b c : Nat} (ha : a + max b c < 2 ^ 30) (h0 : 0 < a + max b c) : Ct l Γ yJ13_newLength cJ13_newLength 4 (some .int) 2 0 0 [.int (nI a), .int (nI b), .int (nI c)] z h (RdP z h (some (.int (nI (a + max b c))))) := by
  refine Ct.of hl hΓ (by decide +kernel) (Nat.le_of_ble_eq_true rfl) (fun X e1 e2 C => ?_)
  subst e1; subst e2
  have C : Cx X cJ13_newLength 4 "jdk/internal/util/ArraysSupport" "newLength" (some .int) [] 2 := C
  show WW X (RdP z h (some (.int (nI (a + max b c))))) z h 0 0 0 [(0, .int (nI a)), (1, .int (nI b)), (2, .int (nI c))] []
  refine ww_iload_n C dJ13_newLength_0 rfl 0 rfl ?_
  refine ww_iload_n C dJ13_newLength_1 rfl 1 rfl ?_
  refine ww_iload_n C dJ13_newLength_2 rfl 2 rfl ?_
  refine cs_J13_194_r (As := [.int (nI b), .int (nI c)]) (rest := [.int (nI a)]) C dJ13_newLength_3 (ct_J14_max (Cx.fl C) (Cx.ok C) (a := b) (b := c) (by omega) (by omega)) rfl rfl (Nat.le_of_ble_eq_true rfl) (by decide) (Nat.zero_le _) (Nat.zero_le _) ?_
  refine ww_iaddn C dJ13_newLength_6 ?_
  refine ww_istore_n (lv' := [(3, .int (nI (a + (max b c)))), (0, .int (nI a)), (1, .int (nI b)), (2, .int (nI c))]) C dJ13_newLength_7 rfl (by decide) rfl ?_
  refine ww_iconst C dJ13_newLength_8 cI_0 ?_
  refine ww_iload_n C dJ13_newLength_9 rfl 0 rfl ?_
  refine ww_icmp_ge_n (tgt := 21) C dJ13_newLength_10 (by decide) (by decide) (by omega) (fun c_10 => ?_) (fun c_10 => ?_)
  · skip
    omega
  · skip
    refine ww_iload_n C dJ13_newLength_13 rfl 0 rfl ?_
    refine ww_ldc C q409 dJ13_newLength_14 ?_
    refine ww_icmp_gt_n (tgt := 21) C dJ13_newLength_16 (by decide) (by omega) (by decide) (fun c_16 => ?_) (fun c_16 => ?_)
    · skip
      have c9 : 2147483639 < a + max b c := c_16
      omega
    · skip
      refine ww_iload_n C dJ13_newLength_19 rfl 0 rfl ?_
      exact ww_iret C dJ13_newLength_20 (RdP.i rfl)
set_option maxHeartbeats 2000000 in
theorem ct_J0_init {l : Launch} {Γ : Gm} (hl : l.flags = flags0) (hΓ : GOK Γ) {z : ZR} {h : AH} {a : Nat}  : Ct l Γ yJ0_init cJ0_init 1 none 2 0 0 [.ref a] z h (Rn (fun z' h' => z' = z ∧ h' = h)) := by
  refine Ct.of hl hΓ (by decide +kernel) (Nat.le_of_ble_eq_true rfl) (fun X e1 e2 C => ?_)
  subst e1; subst e2
  have C : Cx X cJ0_init 1 "java/util/AbstractCollection" "<init>" none [] 2 := C
  show WW X (Rn (fun z' h' => z' = z ∧ h' = h)) z h 0 0 0 [(0, .ref a)] []
  refine ww_aload_n C dJ0_init_0 rfl 0 rfl rfl ?_
  refine ww_objInit C q207 q172 q173 dJ0_init_1 (by decide) (Nat.le_of_ble_eq_true rfl) ?_
  exact ww_vret C dJ0_init_4 ⟨rfl, rfl⟩
set_option maxHeartbeats 2000000 in
theorem ct_J1_init {l : Launch} {Γ : Gm} (hl : l.flags = flags0) (hΓ : GOK Γ) {z : ZR} {h : AH} {a : Nat} {x : Int32} {e : Value} {y : Int32} (Ha : h a = some (.inr (23, [.int x, e, .int y]))) : Ct l Γ yJ1_init cJ1_init 1 none 3 0 0 [.ref a] z h (Rn (fun z' h' => z' = z ∧ h' = up h a (.inr (23, [.int (nI 0), e, .int y])))) := by
  refine Ct.of hl hΓ (by decide +kernel) (Nat.le_of_ble_eq_true rfl) (fun X e1 e2 C => ?_)
  subst e1; subst e2
  have C : Cx X cJ1_init 1 "java/util/AbstractList" "<init>" none [] 3 := C
  show WW X (Rn (fun z' h' => z' = z ∧ h' = up h a (.inr (23, [.int (nI 0), e, .int y])))) z h 0 0 0 [(0, .ref a)] []
  refine ww_aload_n C dJ1_init_0 rfl 0 rfl rfl ?_
  refine ci_J1_1_q (As := []) (rest := []) C dJ1_init_1 (ct_J0_init (Cx.fl C) (Cx.ok C)) rfl rfl (Nat.le_of_ble_eq_true rfl) (by decide) (Nat.zero_le _) (Nat.zero_le _) (fun z1 k1 q => ?_)
  obtain ⟨rfl, rfl⟩ := q
  refine ww_aload_n C dJ1_init_4 rfl 0 rfl rfl ?_
  refine ww_iconst C dJ1_init_5 cI_0 ?_
  refine pf_J1_7_J2 (fs' := [.int (nI 0), e, .int y]) C dJ1_init_6 Ha rfl rfl (Nat.le_of_ble_eq_true rfl) rfl ?_
  refine ww_gen (fun h1 hE1 => ?_)
  have Ha_h1 : h1 a = some (.inr (23, [.int (nI 0), e, .int y])) := by rw [hE1]; exact up_s
  exact ww_vret C dJ1_init_9 ⟨rfl, hE1⟩
set_option maxHeartbeats 2000000 in
theorem ct_J2_init {l : Launch} {Γ : Gm} (hl : l.flags = flags0) (hΓ : GOK Γ) {z : ZR} {h : AH} {a : Nat} {x : Int32} {e : Value} {y : Int32} (Ha : h a = some (.inr (23, [.int x, e, .int y]))) : Ct l Γ yJ2_init cJ2_init 1 none 4 0 0 [.ref a] z h (Rn (fun z' h' => z' = z ∧ h' = up h a (.inr (23, [.int (nI 0), .ref (gE Γ 0), .int y])))) := by
  refine Ct.of hl hΓ (by decide +kernel) (Nat.le_of_ble_eq_true rfl) (fun X e1 e2 C => ?_)
  subst e1; subst e2
  have C : Cx X cJ2_init 1 "java/util/ArrayList" "<init>" none [] 4 := C
  show WW X (Rn (fun z' h' => z' = z ∧ h' = up h a (.inr (23, [.int (nI 0), .ref (gE (xG X) 0), .int y])))) z h 0 0 0 [(0, .ref a)] []
  refine ww_aload_n C dJ2_init_0 rfl 0 rfl rfl ?_
  refine ci_J2_1_q (As := []) (rest := []) C dJ2_init_1 (ct_J1_init (Cx.fl C) (Cx.ok C) Ha) rfl rfl (Nat.le_of_ble_eq_true rfl) (by decide) (Nat.zero_le _) (Nat.zero_le _) (fun z1 h1 q1 => ?_)
  obtain ⟨hq, hE1⟩ := q1; replace hq := hq.symm; subst hq
  have Ha_h2 : h1 a = some (.inr (23, [.int (nI 0), e, .int y])) := by rw [hE1]; exact up_s
  refine ww_aload_n C dJ2_init_4 rfl 0 rfl rfl ?_
  refine ww_gsv C (sv_0 (Cx.ok C)) q208 (fun _ q => q) dJ2_init_5 ?_
  refine pf_J2_9_J2 (fs' := [.int (nI 0), .ref (gE (xG X) 0), .int y]) C dJ2_init_8 Ha_h2 rfl rfl (Nat.le_of_ble_eq_true rfl) rfl ?_
  refine ww_gen (fun h3 hE3 => ?_)
  have Ha_h3 : h3 a = some (.inr (23, [.int (nI 0), .ref (gE (xG X) 0), .int y])) := by rw [hE3]; exact up_s
  exact ww_vret C dJ2_init_11 ⟨rfl, by rw [hE3, hE1, up_up]⟩
set_option maxHeartbeats 2000000 in
theorem ct_J2_grow_2 {l : Launch} {Γ : Gm} (hl : l.flags = flags0) (hΓ : GOK Γ) {z : ZR} {h : AH} {a arr n cap m : Nat} {md : Int32} {xs : Nat → Nat} (hz : zle (cst Γ) z) (hL : ALm Γ h a arr n md cap xs) (hc0 : cap = 0 → arr = gE Γ 0) (hel : ∀ i, i < n → obZ z (xs i)) (hm : cap < m) (hm2 : m < 2 ^ 17) (hcap : cap < 2 ^ 17) : Ct l Γ yJ2_grow_2 cJ2_grow_2 4 (some (.array (.object "java/lang/Object"))) 6 1 (nwC cap m) [.ref a, .int (nI m)] z h (Rv (fun v z' h' => ∃ b, v = .ref b ∧ h b = none ∧ (∀ e, ¬ z b e) ∧ z' = z ∧ h' = up (up h b (cAr Γ (nwC cap m) (lf n xs))) a (cAL md b n))) := by
  refine Ct.of hl hΓ (by decide +kernel) (Nat.le_of_ble_eq_true rfl) (fun X e1 e2 C => ?_)
  subst e1; subst e2
  have C : Cx X cJ2_grow_2 4 "java/util/ArrayList" "grow" (some (.array (.object "java/lang/Object"))) [] 6 := C
  have Ha : h a = some (.inr (23, [.int md, .ref arr, .int (nI n)])) := hL.1
  have hR := hL.r hz
  have hR : rd z h arr (.inl (gA (xG X) 4, (cap, refs (lf n xs)))) := hR
  have hnc := hL.2.2.1
  have hcp := hL.2.2.2
  show WW X (Rv (fun v z' h' => ∃ b, v = .ref b ∧ h b = none ∧ (∀ e, ¬ z b e) ∧ z' = z ∧ h' = up (up h b (cAr (xG X) (nwC cap m) (lf n xs))) a (cAL md b n))) z h 1 (nwC cap m) 0 [(0, .ref a), (1, .int (nI m))] []
  refine ww_aload_n C dJ2_grow_2_0 rfl 0 rfl rfl ?_
  refine gf_J2_9_J2 C dJ2_grow_2_1 (Or.inl Ha) rfl ?_
  refine ww_alen (t := 4) C dJ2_grow_2_4 (by decide) hR ?_
  refine ww_istore_n (lv' := [(2, .int (nI cap)), (0, .ref a), (1, .int (nI m))]) C dJ2_grow_2_5 rfl (by decide) rfl ?_
  refine ww_iload_n C dJ2_grow_2_6 rfl 0 rfl ?_
  refine ww_if_gt_n (tgt := 20) C dJ2_grow_2_7 (by decide) (by omega) (fun c_7 => ?_) (fun c_7 => ?_)
  · skip
    have hnw : nwC cap m = cap + max (m - cap) (cap / 2) := by unfold nwC; rw [if_neg (by omega)]
    refine ww_iload_n C dJ2_grow_2_20 rfl 0 rfl ?_
    refine ww_iload_n C dJ2_grow_2_21 rfl 2 rfl ?_
    refine ww_iload_n C dJ2_grow_2_22 rfl 0 rfl ?_
    refine ww_isubn C dJ2_grow_2_23 (by omega) ?_
    refine ww_iload_n C dJ2_grow_2_24 rfl 0 rfl ?_
    refine ww_iconst C dJ2_grow_2_25 cI_1 ?_
    refine ww_ishr C dJ2_grow_2_26 ?_
    refine ww_st (st' := [.int (nI (cap / 2)), .int (nI (m - cap)), .int (nI cap)]) (by rw [shr1 (by omega)]) ?_
    refine cs_J2_73_r (As := [.int (nI cap), .int (nI (m - cap)), .int (nI (cap / 2))]) (rest := []) C dJ2_grow_2_27 (ct_J13_newLength (Cx.fl C) (Cx.ok C) (a := cap) (b := m - cap) (c := cap / 2) (by omega) (by omega)) rfl rfl (Nat.le_of_ble_eq_true rfl) (by decide) (Nat.zero_le _) (Nat.zero_le _) ?_
    refine ww_istore_n (lv' := [(3, .int (nI (cap + max (m - cap) (cap / 2)))), (2, .int (nI cap)), (0, .ref a), (1, .int (nI m))]) C dJ2_grow_2_30 rfl (by decide) rfl ?_
    refine ww_aload_n C dJ2_grow_2_31 rfl 2 rfl rfl ?_
    refine ww_aload_n C dJ2_grow_2_32 rfl 2 rfl rfl ?_
    refine gf_J2_9_J2 C dJ2_grow_2_33 (Or.inl Ha) rfl ?_
    refine ww_iload_n C dJ2_grow_2_36 rfl 0 rfl ?_
    refine cs_J2_66_q (As := [.ref arr, .int (nI (cap + max (m - cap) (cap / 2)))]) (rest := [.ref a]) C dJ2_grow_2_37 (ct_J15_copyOf_2 (Cx.fl C) (Cx.ok C) (n0 := cap) (m := cap + max (m - cap) (cap / 2)) hR (by omega) (by omega) (fun i hi y hy => lf_el hel hy)) rfl rfl (Nat.le_of_ble_eq_true rfl) (by decide) (by omega) (by omega) (fun v z1 k1 q => ?_)
    obtain ⟨b, rfl, b_n, b_z, hq, hK1⟩ := q; replace hq := hq.symm; subst hq
    rw [show min cap (cap + max (m - cap) (cap / 2)) = cap by omega, cpy_lf hnc] at hK1
    have hab : a ≠ b := ne_nw Ha b_n
    have Ha1 : k1 a = some (.inr (23, [.int md, .ref arr, .int (nI n)])) := by rw [hK1, up_n hab]; exact Ha
    refine ww_dup_x1 C dJ2_grow_2_40 rfl rfl ?_
    refine pf_J2_9_J2 (fs' := [.int md, .ref b, .int (nI n)]) C dJ2_grow_2_41 Ha1 rfl rfl (Nat.le_of_ble_eq_true rfl) rfl ?_
    refine ww_gen (fun h1 hE1 => ?_)
    have Ha1_h1 : h1 a = some (.inr (23, [.int md, .ref b, .int (nI n)])) := by rw [hE1]; exact up_s
    exact ww_aret C (Or.inr ⟨_, rfl⟩) dJ2_grow_2_44 rfl ⟨b, rfl, b_n, b_z, rfl, by rw [hE1, hK1, hnw]; rfl⟩
  · skip
    refine ww_aload_n C dJ2_grow_2_10 rfl 1 rfl rfl ?_
    refine gf_J2_9_J2 C dJ2_grow_2_11 (Or.inl Ha) rfl ?_
    refine ww_gsv C (sv_0 (Cx.ok C)) q208 (fun _ q => q) dJ2_grow_2_14 ?_
    have hce : cap = 0 := by omega
    have har := hc0 hce
    refine ww_acmp_eq_t (rx := (some arr)) (ry := (some (gE (xG X) 0))) (tgt := 45) C dJ2_grow_2_17 (by decide) (by rw [har]) ?_
    have hn0 : n = 0 := by omega
    have hnw : nwC cap m = max 10 m := by unfold nwC; rw [if_pos hce]
    refine ww_aload_n C dJ2_grow_2_45 rfl 1 rfl rfl ?_
    refine ww_bipush C dJ2_grow_2_46 cB_10 ?_
    refine ww_iload_n C dJ2_grow_2_48 rfl 2 rfl ?_
    refine cs_J2_79_r (As := [.int (nI 10), .int (nI m)]) (rest := [.ref a]) C dJ2_grow_2_49 (ct_J14_max (Cx.fl C) (Cx.ok C) (a := 10) (b := m) (by omega) (by omega)) rfl rfl (Nat.le_of_ble_eq_true rfl) (by decide) (Nat.zero_le _) (Nat.zero_le _) ?_
    refine ww_anew (t := 4) (n := (max 10 m)) (E := "java/lang/Object") C dJ2_grow_2_52 (by decide) rfl q849 q846 (by omega) (by decide) (by omega) (fun b b_n b_z b_g => ?_)
    refine ww_gen (fun h2 hE2 => ?_)
    have Ha_h2 : h2 a = some (.inr (23, [.int md, .ref arr, .int (nI n)])) := by rw [hE2, up_n (ne_nw Ha b_n)]; exact Ha
    have N2_h2 : h2 b = some (.inl (gA (xG X) 4, (max 10 m, refs (fun _ => none)))) := by rw [hE2]; exact up_s
    refine ww_dup_x1 C dJ2_grow_2_55 rfl rfl ?_
    refine pf_J2_9_J2 (fs' := [.int md, .ref b, .int (nI n)]) C dJ2_grow_2_56 Ha_h2 rfl rfl (Nat.le_of_ble_eq_true rfl) rfl ?_
    refine ww_gen (fun h3 hE3 => ?_)
    have N2_h3 : h3 b = some (.inl (gA (xG X) 4, (max 10 m, refs (fun _ => none)))) := by rw [hE3, up_n (ne_ob N2_h2 Ha_h2 (by simp))]; exact N2_h2
    have Ha_h3 : h3 a = some (.inr (23, [.int md, .ref b, .int (nI n)])) := by rw [hE3]; exact up_s
    have hlf : lf n xs = fun _ => none := by rw [hn0, lf_0]
    exact ww_aret C (Or.inr ⟨_, rfl⟩) dJ2_grow_2_59 rfl ⟨b, rfl, b_n, b_z, rfl, by rw [hE3, hE2, hnw, hlf]; rfl⟩
set_option maxHeartbeats 2000000 in
theorem ct_J2_grow {l : Launch} {Γ : Gm} (hl : l.flags = flags0) (hΓ : GOK Γ) {z : ZR} {h : AH} {a arr n cap : Nat} {md : Int32} {xs : Nat → Nat} (hz : zle (cst Γ) z) (hL : ALm Γ h a arr n md cap xs) (hc0 : cap = 0 → arr = gE Γ 0) (hel : ∀ i, i < n → obZ z (xs i)) (hm : cap = n) (hcap : cap < 2 ^ 16) : Ct l Γ yJ2_grow cJ2_grow 1 (some (.array (.object "java/lang/Object"))) 7 1 (nwC cap (n + 1)) [.ref a] z h (Rv (fun v z' h' => ∃ b, v = .ref b ∧ h b = none ∧ (∀ e, ¬ z b e) ∧ z' = z ∧ h' = up (up h b (cAr Γ (nwC cap (n + 1)) (lf n xs))) a (cAL md b n))) := by
  refine Ct.of hl hΓ (by decide +kernel) (Nat.le_of_ble_eq_true rfl) (fun X e1 e2 C => ?_)
  subst e1; subst e2
  have C : Cx X cJ2_grow 1 "java/util/ArrayList" "grow" (some (.array (.object "java/lang/Object"))) [] 7 := C
  have Ha : h a = some (.inr (23, [.int md, .ref arr, .int (nI n)])) := hL.1
  have hR := hL.r hz
  have hR : rd z h arr (.inl (gA (xG X) 4, (cap, refs (lf n xs)))) := hR
  have hnc := hL.2.2.1
  have hcp := hL.2.2.2
  show WW X (Rv (fun v z' h' => ∃ b, v = .ref b ∧ h b = none ∧ (∀ e, ¬ z b e) ∧ z' = z ∧ h' = up (up h b (cAr (xG X) (nwC cap (n + 1)) (lf n xs))) a (cAL md b n))) z h 1 (nwC cap (n + 1)) 0 [(0, .ref a)] []
  refine ww_aload_n C dJ2_grow_0 rfl 0 rfl rfl ?_
  refine ww_aload_n C dJ2_grow_1 rfl 0 rfl rfl ?_
  refine gf_J2_48_J2 C dJ2_grow_2 (Or.inl Ha) rfl ?_
  refine ww_iconst C dJ2_grow_5 cI_1 ?_
  refine ww_iaddn C dJ2_grow_6 ?_
  refine cv_J2_69_q (As := [.int (nI (n + 1))]) (rest := []) C dJ2_grow_7 (ct_J2_grow_2 (Cx.fl C) (Cx.ok C) (m := n + 1) hz hL hc0 hel (by omega) (by omega) (by omega)) (rc_J2 (Cx.ok C) (Or.inl Ha)) rfl rfl (Nat.le_of_ble_eq_true rfl) (by decide) (Nat.le_refl _) (Nat.le_refl _) (fun v z1 k1 q => ?_)
  obtain ⟨b, rfl, hq⟩ := q
  exact ww_aret C (Or.inr ⟨_, rfl⟩) dJ2_grow_10 rfl ⟨b, rfl, hq⟩
set_option maxHeartbeats 2000000 in
theorem ct_J2_add_2 {l : Launch} {Γ : Gm} (hl : l.flags = flags0) (hΓ : GOK Γ) {z : ZR} {h : AH} {a arr n cap : Nat} {md : Int32} {xs : Nat → Nat} {v : Nat} (hz : zle (cst Γ) z) (hL : ALm Γ h a arr n md cap xs) (hc0 : cap = 0 → arr = gE Γ 0) (hel : ∀ i, i < n → obZ z (xs i)) (hv : obZ z v) (hcap : cap < 2 ^ 16) : Ct l Γ yJ2_add_2 cJ2_add_2 4 none 8 (adC n cap) (adS n cap) [.ref a, .ref v, .ref arr, .int (nI n)] z h (Rn (fun z' h' => z' = z ∧ AlA Γ z h h' a arr n cap md xs v)) := by
  refine Ct.of hl hΓ (by decide +kernel) (Nat.le_of_ble_eq_true rfl) (fun X e1 e2 C => ?_)
  subst e1; subst e2
  have C : Cx X cJ2_add_2 4 "java/util/ArrayList" "add" none [] 8 := C
  have Ha : h a = some (.inr (23, [.int md, .ref arr, .int (nI n)])) := hL.1
  have hR := hL.r hz
  have hR : rd z h arr (.inl (gA (xG X) 4, (cap, refs (lf n xs)))) := hR
  have hnc := hL.2.2.1
  have hcp := hL.2.2.2
  obtain ⟨C1, hvr, hvo⟩ := hv.rc0 (Cx.ok C)
  show WW X (Rn (fun z' h' => z' = z ∧ AlA (xG X) z h h' a arr n cap md xs v)) z h (adC n cap) (adS n cap) 0 [(0, .ref a), (1, .ref v), (2, .ref arr), (3, .int (nI n))] []
  refine ww_iload_n C dJ2_add_2_0 rfl 3 rfl ?_
  refine ww_aload_n C dJ2_add_2_1 rfl 2 rfl rfl ?_
  refine ww_alen (t := 4) C dJ2_add_2_2 (by decide) hR ?_
  refine ww_icmp_ne_n (tgt := 11) C dJ2_add_2_3 (by decide) (by omega) (by omega) (fun c_3 => ?_) (fun c_3 => ?_)
  · skip
    have hlt : n < cap := by omega
    have hO := hL.ow2 hlt
    have Hr : h arr = some (.inl (gA (xG X) 4, (cap, refs (lf n xs)))) := hO.1
    refine ww_aload_n C dJ2_add_2_11 rfl 2 rfl rfl ?_
    refine ww_iload_n C dJ2_add_2_12 rfl 3 rfl ?_
    refine ww_aload_n C dJ2_add_2_13 rfl 1 rfl rfl ?_
    refine ww_aast (t := 4) (E := "java/lang/Object") C dJ2_add_2_14 (by decide) rfl hvo Hr (hvr _) (by omega) (by omega) ?_
    refine ww_gen (fun h1 hE1 => ?_)
    have Ha_h1 : h1 a = some (.inr (23, [.int md, .ref arr, .int (nI n)])) := by rw [hE1, up_n (ne_ob Ha Hr (by simp))]; exact Ha
    have Hr_h1 : h1 arr = some (.inl (gA (xG X) 4, (cap, refs (va_up (lf n xs) n (some v))))) := by rw [hE1]; exact up_s
    refine ww_aload_n C dJ2_add_2_15 rfl 0 rfl rfl ?_
    refine ww_iload_n C dJ2_add_2_16 rfl 3 rfl ?_
    refine ww_iconst C dJ2_add_2_17 cI_1 ?_
    refine ww_iaddn C dJ2_add_2_18 ?_
    refine pf_J2_48_J2 (fs' := [.int md, .ref arr, .int (nI (n + 1))]) C dJ2_add_2_19 Ha_h1 rfl rfl (Nat.le_of_ble_eq_true rfl) rfl ?_
    refine ww_gen (fun h2 hE2 => ?_)
    have Hr_h2 : h2 arr = some (.inl (gA (xG X) 4, (cap, refs (va_up (lf n xs) n (some v))))) := by rw [hE2, up_n (ne_ob Hr_h1 Ha_h1 (by simp))]; exact Hr_h1
    have Ha_h2 : h2 a = some (.inr (23, [.int md, .ref arr, .int (nI (n + 1))])) := by rw [hE2]; exact up_s
    exact ww_vret C dJ2_add_2_22 ⟨rfl, arr, cap, by rw [hE2, hE1, lf_add]; exact AlA1 hO hlt hL, Or.inl rfl, fun q => by omega, by unfold adK; rw [if_neg c_3], fun q e hq n1 n2 => by rw [hE2, up_n n1, hE1, up_n n2]; exact hq⟩
  · skip
    have hk1 : adC n cap = 1 := by unfold adC; rw [if_pos c_3]
    have hk2 : adS n cap = nwC cap (n + 1) := by unfold adS; rw [if_pos c_3]
    refine ww_aload_n C dJ2_add_2_6 rfl 0 rfl rfl ?_
    refine cv_J2_129_q (As := []) (rest := []) C dJ2_add_2_7 (ct_J2_grow (Cx.fl C) (Cx.ok C) hz hL hc0 hel c_3.symm (by omega)) (rc_J2 (Cx.ok C) (Or.inl Ha)) rfl rfl (Nat.le_of_ble_eq_true rfl) (by decide) (by omega) (by omega) (fun v9 z1 k1 q => ?_)
    obtain ⟨b, rfl, b_n, b_z, hq, hK1⟩ := q; replace hq := hq.symm; subst hq
    have hab : a ≠ b := ne_nw Ha b_n
    have hgt : n < nwC cap (n + 1) ∧ nwC cap (n + 1) < 2 ^ 20 := nwC_r (by omega) (by omega)
    have Ha1 : k1 a = some (.inr (23, [.int md, .ref b, .int (nI n)])) := by rw [hK1]; exact up_s
    have Hb1 : k1 b = some (.inl (gA (xG X) 4, (nwC cap (n + 1), refs (lf n xs)))) := by rw [hK1, up_n hab.symm]; exact up_s
    have hb0 : b ≠ gE (xG X) 0 := fun e => b_z _ (e ▸ cst_e0 hz)
    refine ww_astore_n (lv' := [(2, .ref b), (0, .ref a), (1, .ref v), (3, .int (nI n))]) C dJ2_add_2_10 rfl (by decide) rfl rfl ?_
    refine ww_aload_n C dJ2_add_2_11 rfl 0 rfl rfl ?_
    refine ww_iload_n C dJ2_add_2_12 rfl 3 rfl ?_
    refine ww_aload_n C dJ2_add_2_13 rfl 2 rfl rfl ?_
    refine ww_aast (t := 4) (E := "java/lang/Object") C dJ2_add_2_14 (by decide) rfl hvo Hb1 (hvr _) (by omega) (by omega) ?_
    refine ww_gen (fun h3 hE3 => ?_)
    have Ha1_h3 : h3 a = some (.inr (23, [.int md, .ref b, .int (nI n)])) := by rw [hE3, up_n (ne_ob Ha1 Hb1 (by simp))]; exact Ha1
    have Hb1_h3 : h3 b = some (.inl (gA (xG X) 4, (nwC cap (n + 1), refs (va_up (lf n xs) n (some v))))) := by rw [hE3]; exact up_s
    refine ww_aload_n C dJ2_add_2_15 rfl 1 rfl rfl ?_
    refine ww_iload_n C dJ2_add_2_16 rfl 3 rfl ?_
    refine ww_iconst C dJ2_add_2_17 cI_1 ?_
    refine ww_iaddn C dJ2_add_2_18 ?_
    refine pf_J2_48_J2 (fs' := [.int md, .ref b, .int (nI (n + 1))]) C dJ2_add_2_19 Ha1_h3 rfl rfl (Nat.le_of_ble_eq_true rfl) rfl ?_
    refine ww_gen (fun h4 hE4 => ?_)
    have Hb1_h4 : h4 b = some (.inl (gA (xG X) 4, (nwC cap (n + 1), refs (va_up (lf n xs) n (some v))))) := by rw [hE4, up_n (ne_ob Hb1_h3 Ha1_h3 (by simp))]; exact Hb1_h3
    have Ha1_h4 : h4 a = some (.inr (23, [.int md, .ref b, .int (nI (n + 1))])) := by rw [hE4]; exact up_s
    exact ww_vret C dJ2_add_2_22 ⟨rfl, b, nwC cap (n + 1), by rw [hE4, hE3, lf_add, hK1]; exact AlA2 hab hb0 hgt.1 hgt.2, Or.inr ⟨b_n, b_z⟩, fun q => by omega, by unfold adK; rw [if_pos c_3], fun q e hq n1 n2 => by rw [hE4, up_n n1, hE3, up_n (ne_nw hq b_n), hK1, up_n n1, up_n (ne_nw hq b_n)]; exact hq⟩
set_option maxHeartbeats 2000000 in
theorem ct_J2_add {l : Launch} {Γ : Gm} (hl : l.flags = flags0) (hΓ : GOK Γ) {z : ZR} {h : AH} {a arr n cap : Nat} {md : Int32} {xs : Nat → Nat} {v : Nat} (hz : zle (cst Γ) z) (hL : ALm Γ h a arr n md cap xs) (hc0 : cap = 0 → arr = gE Γ 0) (hel : ∀ i, i < n → obZ z (xs i)) (hv : obZ z v) (hcap : cap < 2 ^ 16) : Ct l Γ yJ2_add cJ2_add 2 (some .boolean) 9 (adC n cap) (adS n cap) [.ref a, .ref v] z h (Rv (fun v9 z' h' => v9 = .int (nI 1) ∧ z' = z ∧ AlA Γ z h h' a arr n cap (md + nI 1) xs v)) := by
  refine Ct.of hl hΓ (by decide +kernel) (Nat.le_of_ble_eq_true rfl) (fun X e1 e2 C => ?_)
  subst e1; subst e2
  have C : Cx X cJ2_add 2 "java/util/ArrayList" "add" (some .boolean) [] 9 := C
  have Ha : h a = some (.inr (23, [.int md, .ref arr, .int (nI n)])) := hL.1
  have hR := hL.r hz
  have hR : rd z h arr (.inl (gA (xG X) 4, (cap, refs (lf n xs)))) := hR
  have hnc := hL.2.2.1
  have hcp := hL.2.2.2
  show WW X (Rv (fun v9 z' h' => v9 = .int (nI 1) ∧ z' = z ∧ AlA (xG X) z h h' a arr n cap (md + nI 1) xs v)) z h (adC n cap) (adS n cap) 0 [(0, .ref a), (1, .ref v)] []
  refine ww_aload_n C dJ2_add_0 rfl 0 rfl rfl ?_
  refine ww_dup C dJ2_add_1 rfl ?_
  refine gf_J2_63_J2 C dJ2_add_2 (Or.inl Ha) rfl ?_
  refine ww_iconst C dJ2_add_5 cI_1 ?_
  refine ww_iadd C dJ2_add_6 ?_
  refine pf_J2_63_J2 (fs' := [.int (md + (nI 1)), .ref arr, .int (nI n)]) C dJ2_add_7 Ha rfl rfl (Nat.le_of_ble_eq_true rfl) rfl ?_
  refine ww_gen (fun h1 hE1 => ?_)
  have Ha_h1 : h1 a = some (.inr (23, [.int (md + (nI 1)), .ref arr, .int (nI n)])) := by rw [hE1]; exact up_s
  refine ww_aload_n C dJ2_add_10 rfl 0 rfl rfl ?_
  refine ww_aload_n C dJ2_add_11 rfl 1 rfl rfl ?_
  refine ww_aload_n C dJ2_add_12 rfl 0 rfl rfl ?_
  refine gf_J2_9_J2 C dJ2_add_13 (Or.inl Ha_h1) rfl ?_
  refine ww_aload_n C dJ2_add_16 rfl 0 rfl rfl ?_
  refine gf_J2_48_J2 C dJ2_add_17 (Or.inl Ha_h1) rfl ?_
  have hL1 : ALm (xG X) h1 a arr n (md + nI 1) cap xs := by rw [hE1]; exact hL.md
  refine cv_J2_131_q (As := [.ref v, .ref arr, .int (nI n)]) (rest := []) C dJ2_add_20 (ct_J2_add_2 (Cx.fl C) (Cx.ok C) hz hL1 hc0 hel hv hcap) (rc_J2 (Cx.ok C) (Or.inl Ha_h1)) rfl rfl (Nat.le_of_ble_eq_true rfl) (by decide) (Nat.le_refl _) (Nat.le_refl _) (fun z1 k9 q => ?_)
  obtain ⟨hq, ar9, cp9, q1, q2, q3, q4, q5⟩ := q; replace hq := hq.symm; subst hq
  refine ww_le (kc' := 0) (ns' := 0) (Nat.zero_le _) (Nat.zero_le _) ?_
  refine ww_iconst C dJ2_add_23 cI_1 ?_
  exact ww_zret C dJ2_add_24 nar_z1 ⟨rfl, rfl, ar9, cp9, q1, q2.imp id (fun q => ⟨up_none (hE1 ▸ q.1), q.2⟩), q3, q4, fun q e hq n1 n2 => q5 q e (by rw [hE1, up_n n1]; exact hq) n1 n2⟩
set_option maxHeartbeats 2000000 in
theorem ct_J2_toArray {l : Launch} {Γ : Gm} (hl : l.flags = flags0) (hΓ : GOK Γ) {z : ZR} {h : AH} {a arr n cap : Nat} {md : Int32} {xs : Nat → Nat} (hz : zle (cst Γ) z) (hL : ALm Γ h a arr n md cap xs) (hel : ∀ i, i < n → obZ z (xs i)) : Ct l Γ yJ2_toArray cJ2_toArray 1 (some (.array (.object "java/lang/Object"))) 5 1 n [.ref a] z h (Rv (fun v z' h' => ∃ b, v = .ref b ∧ h b = none ∧ (∀ e, ¬ z b e) ∧ z' = z ∧ h' = up h b (cAr Γ n (lf n xs)))) := by
  refine Ct.of hl hΓ (by decide +kernel) (Nat.le_of_ble_eq_true rfl) (fun X e1 e2 C => ?_)
  subst e1; subst e2
  have C : Cx X cJ2_toArray 1 "java/util/ArrayList" "toArray" (some (.array (.object "java/lang/Object"))) [] 5 := C
  have Ha : h a = some (.inr (23, [.int md, .ref arr, .int (nI n)])) := hL.1
  have hR := hL.r hz
  have hR : rd z h arr (.inl (gA (xG X) 4, (cap, refs (lf n xs)))) := hR
  have hnc := hL.2.2.1
  have hcp := hL.2.2.2
  show WW X (Rv (fun v z' h' => ∃ b, v = .ref b ∧ h b = none ∧ (∀ e, ¬ z b e) ∧ z' = z ∧ h' = up h b (cAr (xG X) n (lf n xs)))) z h 1 n 0 [(0, .ref a)] []
  refine ww_aload_n C dJ2_toArray_0 rfl 0 rfl rfl ?_
  refine gf_J2_9_J2 C dJ2_toArray_1 (Or.inl Ha) rfl ?_
  refine ww_aload_n C dJ2_toArray_4 rfl 0 rfl rfl ?_
  refine gf_J2_48_J2 C dJ2_toArray_5 (Or.inl Ha) rfl ?_
  refine cs_J2_66_q (As := [.ref arr, .int (nI n)]) (rest := []) C dJ2_toArray_8 (ct_J15_copyOf_2 (Cx.fl C) (Cx.ok C) (n0 := cap) (m := n) hR (by omega) (by omega) (fun i hi y hy => lf_el hel hy)) rfl rfl (Nat.le_of_ble_eq_true rfl) (by decide) (Nat.le_refl _) (Nat.le_refl _) (fun v z1 k1 q => ?_)
  obtain ⟨b, rfl, b_n, b_z, hq, hK1⟩ := q; replace hq := hq.symm; subst hq
  rw [show min cap n = n by omega, cpy_lfm] at hK1
  exact ww_aret C (Or.inr ⟨_, rfl⟩) dJ2_toArray_11 rfl ⟨b, rfl, b_n, b_z, rfl, hK1⟩
set_option maxHeartbeats 2000000 in
theorem ct_J2_clear {l : Launch} {Γ : Gm} (hl : l.flags = flags0) (hΓ : GOK Γ) {z : ZR} {h : AH} {a arr n cap : Nat} {md : Int32} {xs : Nat → Nat} (hz : zle (cst Γ) z) (hL : ALm Γ h a arr n md cap xs) : Ct l Γ yJ2_clear cJ2_clear 4 none 2 0 0 [.ref a] z h (Rn (fun z' h' => z' = z ∧ ALm Γ h' a arr 0 (md + nI 1) cap xs ∧ ∀ q e, h q = some e → q ≠ a → q ≠ arr → h' q = some e)) := by
  refine Ct.of hl hΓ (by decide +kernel) (Nat.le_of_ble_eq_true rfl) (fun X e1 e2 C => ?_)
  subst e1; subst e2
  have C : Cx X cJ2_clear 4 "java/util/ArrayList" "clear" none [] 2 := C
  have Ha : h a = some (.inr (23, [.int md, .ref arr, .int (nI n)])) := hL.1
  have hR := hL.r hz
  have hR : rd z h arr (.inl (gA (xG X) 4, (cap, refs (lf n xs)))) := hR
  have hnc := hL.2.2.1
  have hcp := hL.2.2.2
  show WW X (Rn (fun z' h' => z' = z ∧ ALm (xG X) h' a arr 0 (md + nI 1) cap xs ∧ ∀ q e, h q = some e → q ≠ a → q ≠ arr → h' q = some e)) z h 0 0 0 [(0, .ref a)] []
  refine ww_aload_n C dJ2_clear_0 rfl 0 rfl rfl ?_
  refine ww_dup C dJ2_clear_1 rfl ?_
  refine gf_J2_63_J2 C dJ2_clear_2 (Or.inl Ha) rfl ?_
  refine ww_iconst C dJ2_clear_5 cI_1 ?_
  refine ww_iadd C dJ2_clear_6 ?_
  refine pf_J2_63_J2 (fs' := [.int (md + (nI 1)), .ref arr, .int (nI n)]) C dJ2_clear_7 Ha rfl rfl (Nat.le_of_ble_eq_true rfl) rfl ?_
  refine ww_gen (fun h1 hE1 => ?_)
  have Ha_h1 : h1 a = some (.inr (23, [.int (md + (nI 1)), .ref arr, .int (nI n)])) := by rw [hE1]; exact up_s
  refine ww_aload_n C dJ2_clear_10 rfl 0 rfl rfl ?_
  refine gf_J2_9_J2 C dJ2_clear_11 (Or.inl Ha_h1) rfl ?_
  refine ww_astore_n (lv' := [(1, .ref arr), (0, .ref a)]) C dJ2_clear_14 rfl (by decide) rfl rfl ?_
  refine ww_aload_n C dJ2_clear_15 rfl 1 rfl rfl ?_
  refine gf_J2_48_J2 C dJ2_clear_16 (Or.inl Ha_h1) rfl ?_
  refine ww_istore_n (lv' := [(2, .int (nI n)), (1, .ref arr), (0, .ref a)]) C dJ2_clear_19 rfl (by decide) rfl ?_
  refine ww_aload_n C dJ2_clear_20 rfl 2 rfl rfl ?_
  refine ww_iconst C dJ2_clear_21 cI_0 ?_
  refine ww_dup_x1 C dJ2_clear_22 rfl rfl ?_
  refine pf_J2_48_J2 (fs' := [.int (md + (nI 1)), .ref arr, .int (nI 0)]) C dJ2_clear_23 Ha_h1 rfl rfl (Nat.le_of_ble_eq_true rfl) rfl ?_
  refine ww_gen (fun h2 hE2 => ?_)
  have Ha_h2 : h2 a = some (.inr (23, [.int (md + (nI 1)), .ref arr, .int (nI 0)])) := by rw [hE2]; exact up_s
  refine ww_istore_n (lv' := [(3, .int (nI 0)), (2, .int (nI n)), (1, .ref arr), (0, .ref a)]) C dJ2_clear_26 rfl (by decide) rfl ?_
  have hL1 : ALc (xG X) h2 a arr 0 n (md + nI 1) cap xs := by rw [hE2, hE1]; exact hL.c
  have hF1 : ∀ q e, h q = some e → q ≠ a → q ≠ arr → h2 q = some e := fun q e hq n1 n2 => by rw [hE2, up_n n1, hE1, up_n n1]; exact hq
  refine ww_sub [3, 2, 1, 0] rfl ?_
  refine loop_up (N := n) (M := fun i => ∀ (h3 : AH), (ALc (xG X) h3 a arr i n (md + nI 1) cap xs) → (∀ q e, h q = some e → q ≠ a → q ≠ arr → h3 q = some e) → WW X (Rn (fun z' h' => z' = z ∧ ALm (xG X) h' a arr 0 (md + nI 1) cap xs ∧ ∀ q e, h q = some e → q ≠ a → q ≠ arr → h' q = some e)) z h3 0 0 27 [(0, .ref a), (1, .ref arr), (2, .int (nI n)), (3, .int (nI i))] []) ?_ ?_ 0 (Nat.zero_le _) h2 hL1 hF1
  · intro h3 hw1 hw2
    show WW X (Rn (fun z' h' => z' = z ∧ ALm (xG X) h' a arr 0 (md + nI 1) cap xs ∧ ∀ q e, h q = some e → q ≠ a → q ≠ arr → h' q = some e)) z h3 0 0 27 [(0, .ref a), (1, .ref arr), (2, .int (nI n)), (3, .int (nI n))] []
    refine ww_iload_n C dJ2_clear_27 rfl 3 rfl ?_
    refine ww_iload_n C dJ2_clear_28 rfl 2 rfl ?_
    refine ww_icmp_ge_t (tgt := 42) C dJ2_clear_29 (by decide) (nI_le (Nat.le_refl _) (by omega)) ?_
    exact ww_vret C dJ2_clear_42 ⟨rfl, hw1.e trivial, hw2⟩
  · intro i hi ih h3 hw1 hw2
    show WW X (Rn (fun z' h' => z' = z ∧ ALm (xG X) h' a arr 0 (md + nI 1) cap xs ∧ ∀ q e, h q = some e → q ≠ a → q ≠ arr → h' q = some e)) z h3 0 0 27 [(0, .ref a), (1, .ref arr), (2, .int (nI n)), (3, .int (nI i))] []
    refine ww_iload_n C dJ2_clear_27 rfl 3 rfl ?_
    refine ww_iload_n C dJ2_clear_28 rfl 2 rfl ?_
    refine ww_icmp_ge_f (tgt := 42) C dJ2_clear_29 (by decide) (nI_ge hi (by omega)) ?_
    have Hr : h3 arr = some (.inl (gA (xG X) 4, (cap, refs (lc i n xs)))) := (hw1.ow (by omega)).1
    refine ww_aload_n C dJ2_clear_32 rfl 1 rfl rfl ?_
    refine ww_iload_n C dJ2_clear_33 rfl 3 rfl ?_
    refine ww_null C dJ2_clear_34 ?_
    refine ww_aastN (t := 4) (E := "java/lang/Object") C dJ2_clear_35 (by decide) rfl Hr (by omega) (by omega) ?_
    refine ww_gen (fun h3 hE3 => ?_)
    have Hr_h3 : h3 arr = some (.inl (gA (xG X) 4, (cap, refs (va_up (lc i n xs) i none)))) := by rw [hE3]; exact up_s
    refine ww_iinc (lv' := [(3, .int (nI (i + 1))), (0, .ref a), (1, .ref arr), (2, .int (nI n))]) C dJ2_clear_36 3 rfl (inc_n _) (by decide) rfl ?_
    refine ww_goto (tgt := 27) C dJ2_clear_39 (by decide) ?_
    refine ww_sub [1, 2, 3, 0] rfl ?_
    refine ih h3 ?_ ?_
    · rw [hE3, lc_s hi]; exact hw1.st (by omega)
    · exact fun q e hq n1 n2 => by rw [hE3, up_n n2]; exact hw2 q e hq n1 n2
set_option maxHeartbeats 2000000 in
theorem ct_J2_addAll {l : Launch} {Γ : Gm} (hl : l.flags = flags0) (hΓ : GOK Γ) {z : ZR} {h : AH} {a arr n cap b brr bcap : Nat} {md bmd : Int32} {xs ys : Nat → Nat} (hz : zle (cst Γ) z) (hL : ALm Γ h a arr 0 md cap ys) (hc0 : cap = 0 → arr = gE Γ 0) (hcap : cap < 2 ^ 16) (hS : ALm Γ h b brr n bmd bcap xs) (hn : n < 2 ^ 16) (hel : ∀ i, i < n → obZ z (xs i)) : Ct l Γ yJ2_addAll cJ2_addAll 6 (some .boolean) 8 2 (n + nwC cap n) [.ref a, .ref b] z h (Rv (fun v z' h' => (∃ v0, v = .int v0) ∧ z' = z ∧ ∃ arr' cap', ALm Γ h' a arr' n (md + nI 1) cap' xs ∧ (arr' = arr ∨ (h arr' = none ∧ ∀ e, ¬ z arr' e)) ∧ (cap' = 0 → arr' = gE Γ 0) ∧ cap' = (if cap < n then nwC cap n else cap) ∧ ∀ q e, h q = some e → q ≠ a → q ≠ arr → h' q = some e)) := by
  refine Ct.of hl hΓ (by decide +kernel) (Nat.le_of_ble_eq_true rfl) (fun X e1 e2 C => ?_)
  subst e1; subst e2
  have C : Cx X cJ2_addAll 6 "java/util/ArrayList" "addAll" (some .boolean) [] 8 := C
  have Ha : h a = some (.inr (23, [.int md, .ref arr, .int (nI 0)])) := hL.1
  show WW X (Rv (fun v z' h' => (∃ v0, v = .int v0) ∧ z' = z ∧ ∃ arr' cap', ALm (xG X) h' a arr' n (md + nI 1) cap' xs ∧ (arr' = arr ∨ (h arr' = none ∧ ∀ e, ¬ z arr' e)) ∧ (cap' = 0 → arr' = gE (xG X) 0) ∧ cap' = (if cap < n then nwC cap n else cap) ∧ ∀ q e, h q = some e → q ≠ a → q ≠ arr → h' q = some e)) z h 2 (n + nwC cap n) 0 [(0, .ref a), (1, .ref b)] []
  refine ww_aload_n C dJ2_addAll_0 rfl 1 rfl rfl ?_
  refine cf_J2_42_J2_q (As := []) (rest := []) C dJ2_addAll_1 (ct_J2_toArray (Cx.fl C) (Cx.ok C) hz hS hel) (rc_J2 (Cx.ok C) (Or.inl hS.1)) rfl rfl (Nat.le_of_ble_eq_true rfl) (by decide) (by omega) (by omega) (fun v z1 k1 q => ?_)
  obtain ⟨t, rfl, t_n, t_z, hq, hK1⟩ := q; replace hq := hq.symm; subst hq
  have hle1 : hle h k1 := by rw [hK1]; exact up_hle t_n
  have Ha1 : k1 a = some (.inr (23, [.int md, .ref arr, .int (nI 0)])) := hle1 _ _ Ha
  have Ht1 : k1 t = some (.inl (gA (xG X) 4, (n, refs (lf n xs)))) := by rw [hK1]; exact up_s
  have hta : t ≠ a := (ne_nw Ha t_n).symm
  refine ww_le (kc' := 1) (ns' := nwC cap n) (by omega) (by omega) ?_
  refine ww_astore_n (lv' := [(2, .ref t), (0, .ref a), (1, .ref b)]) C dJ2_addAll_6 rfl (by decide) rfl rfl ?_
  refine ww_aload_n C dJ2_addAll_7 rfl 1 rfl rfl ?_
  refine ww_dup C dJ2_addAll_8 rfl ?_
  refine gf_J2_63_J2 C dJ2_addAll_9 (Or.inl Ha1) rfl ?_
  refine ww_iconst C dJ2_addAll_12 cI_1 ?_
  refine ww_iadd C dJ2_addAll_13 ?_
  refine pf_J2_63_J2 (fs' := [.int (md + (nI 1)), .ref arr, .int (nI 0)]) C dJ2_addAll_14 Ha1 rfl rfl (Nat.le_of_ble_eq_true rfl) rfl ?_
  refine ww_gen (fun h1 hE1 => ?_)
  have Ht1_h1 : h1 t = some (.inl (gA (xG X) 4, (n, refs (lf n xs)))) := by rw [hE1, up_n hta]; exact Ht1
  have Ha1_h1 : h1 a = some (.inr (23, [.int (md + (nI 1)), .ref arr, .int (nI 0)])) := by rw [hE1]; exact up_s
  refine ww_aload_n C dJ2_addAll_17 rfl 0 rfl rfl ?_
  refine ww_alen (t := 4) C dJ2_addAll_18 (by decide) (Or.inl Ht1_h1) ?_
  refine ww_istore_n (lv' := [(3, .int (nI n)), (2, .ref t), (0, .ref a), (1, .ref b)]) C dJ2_addAll_19 rfl (by decide) rfl ?_
  refine ww_iload_n C dJ2_addAll_20 rfl 0 rfl ?_
  have hL2 : ALm (xG X) h1 a arr 0 (md + nI 1) cap ys := by rw [hE1]; exact (hL.hm hle1).md
  have hF2 : ∀ q e, h q = some e → q ≠ a → h1 q = some e := fun q e hq n1 => by rw [hE1, up_n n1]; exact hle1 q e hq
  have hR : rd z h1 arr (.inl (gA (xG X) 4, (cap, refs (lf 0 ys)))) := hL2.r hz
  refine ww_if_ne_n (tgt := 26) C dJ2_addAll_21 (by decide) (by omega) (fun c_21 => ?_) (fun c_21 => ?_)
  · skip
    have hn0 : 0 < n := by omega
    refine ww_iload_n C dJ2_addAll_26 rfl 0 rfl ?_
    refine ww_aload_n C dJ2_addAll_27 rfl 2 rfl rfl ?_
    refine gf_J2_9_J2 C dJ2_addAll_28 (Or.inl Ha1_h1) rfl ?_
    refine ww_dup C dJ2_addAll_31 rfl ?_
    refine ww_astore (lv' := [(4, .ref arr), (3, .int (nI n)), (2, .ref t), (0, .ref a), (1, .ref b)]) C dJ2_addAll_32 (by decide) rfl rfl ?_
    refine ww_alen (t := 4) C dJ2_addAll_34 (by decide) hR ?_
    refine ww_aload_n C dJ2_addAll_35 rfl 3 rfl rfl ?_
    refine gf_J2_48_J2 C dJ2_addAll_36 (Or.inl Ha1_h1) rfl ?_
    refine ww_dup C dJ2_addAll_39 rfl ?_
    refine ww_istore (lv' := [(5, .int (nI 0)), (4, .ref arr), (3, .int (nI n)), (2, .ref t), (0, .ref a), (1, .ref b)]) C dJ2_addAll_40 (by decide) rfl ?_
    refine ww_isubn C dJ2_addAll_42 (by omega) ?_
    refine ww_icmp_le_n (tgt := 56) C dJ2_addAll_43 (by decide) (by omega) (by omega) (fun c_43 => ?_) (fun c_43 => ?_)
    · skip
      have hlt : n ≤ cap := by omega
      have hO := hL2.ow2 (by omega)
      have Hr : h1 arr = some (.inl (gA (xG X) 4, (cap, refs (lf 0 ys)))) := hO.1
      have htr : t ≠ arr := (ne_nw (hL.ow2 (by omega)).1 t_n).symm
      refine ww_aload_n C dJ2_addAll_56 rfl 3 rfl rfl ?_
      refine ww_iconst C dJ2_addAll_57 cI_0 ?_
      refine ww_aload C dJ2_addAll_58 1 rfl rfl ?_
      refine ww_iload C dJ2_addAll_60 0 rfl ?_
      refine ww_iload_n C dJ2_addAll_62 rfl 2 rfl ?_
      refine ww_copyq (n := n) (sp := 0) (dp := 0) (n0 := n) (f := (lf n xs)) C q2109 q429 q428 q126 dJ2_addAll_63 (Or.inl Ht1_h1) Hr (by omega) (by omega) (by omega) (by omega) (fun i hi y hy => (lf_el hel (by rw [Nat.zero_add] at hy; exact hy)).rc (Cx.ok C)) (by omega) (Nat.le_of_ble_eq_true rfl) ?_
      refine ww_gen (fun h2 hE2 => ?_)
      have Ha1_h2 : h2 a = some (.inr (23, [.int (md + (nI 1)), .ref arr, .int (nI 0)])) := by rw [hE2, up_n (ne_ob Ha1_h1 Hr (by simp))]; exact Ha1_h1
      have Ht1_h2 : h2 t = some (.inl (gA (xG X) 4, (n, refs (lf n xs)))) := by rw [hE2, up_n htr]; exact Ht1_h1
      have Hr_h2 : h2 arr = some (.inl (gA (xG X) 4, (cap, refs (va_cpy (lf n xs) (lf 0 ys) 0 0 n)))) := by rw [hE2]; exact up_s
      refine ww_aload_n C dJ2_addAll_66 rfl 4 rfl rfl ?_
      refine ww_iload C dJ2_addAll_67 0 rfl ?_
      refine ww_iload_n C dJ2_addAll_69 rfl 2 rfl ?_
      refine ww_iaddn C dJ2_addAll_70 ?_
      refine pf_J2_48_J2 (fs' := [.int (md + (nI 1)), .ref arr, .int (nI (0 + n))]) C dJ2_addAll_71 Ha1_h2 rfl rfl (Nat.le_of_ble_eq_true rfl) rfl ?_
      refine ww_gen (fun h3 hE3 => ?_)
      have Ht1_h3 : h3 t = some (.inl (gA (xG X) 4, (n, refs (lf n xs)))) := by rw [hE3, up_n hta]; exact Ht1_h2
      have Hr_h3 : h3 arr = some (.inl (gA (xG X) 4, (cap, refs (va_cpy (lf n xs) (lf 0 ys) 0 0 n)))) := by rw [hE3, up_n (ne_ob Hr_h2 Ha1_h2 (by simp))]; exact Hr_h2
      have Ha1_h3 : h3 a = some (.inr (23, [.int (md + (nI 1)), .ref arr, .int (nI (0 + n))])) := by rw [hE3]; exact up_s
      refine ww_iconst C dJ2_addAll_74 cI_1 ?_
      exact ww_zret C dJ2_addAll_75 nar_z1 ⟨⟨_, rfl⟩, rfl, arr, cap, by rw [hE3, hE2]; exact AlA3 hO hlt hL2, Or.inl rfl, fun q => by omega, (if_neg (by omega)).symm, fun q e hq n1 n2 => by rw [hE3, up_n n1, hE2, up_n n2]; exact hF2 q e hq n1⟩
    · skip
      have hlt : cap < n := by omega
      refine ww_aload_n C dJ2_addAll_46 rfl 4 rfl rfl ?_
      refine ww_iload C dJ2_addAll_47 0 rfl ?_
      refine ww_iload_n C dJ2_addAll_49 rfl 2 rfl ?_
      refine ww_iaddn C dJ2_addAll_50 ?_
      refine ww_st (st' := [.int (nI n), .ref a]) (by rw [Nat.zero_add]) ?_
      refine cv_J2_69_q (As := [.int (nI n)]) (rest := []) C dJ2_addAll_51 (ct_J2_grow_2 (Cx.fl C) (Cx.ok C) (m := n) hz hL2 hc0 (fun i hi => absurd hi (Nat.not_lt_zero i)) (by omega) (by omega) (by omega)) (rc_J2 (Cx.ok C) (Or.inl Ha1_h1)) rfl rfl (Nat.le_of_ble_eq_true rfl) (by decide) (Nat.le_refl _) (Nat.le_refl _) (fun v9 z2 k5 q => ?_)
      obtain ⟨c9, rfl, c_n, c_z, hq, hK5⟩ := q; replace hq := hq.symm; subst hq
      have hac : a ≠ c9 := ne_nw hL2.1 c_n
      have hgt : n ≤ nwC cap n ∧ nwC cap n < 2 ^ 20 := nwC_q hlt (by omega)
      have Ha5 : k5 a = some (.inr (23, [.int (md + nI 1), .ref c9, .int (nI 0)])) := by rw [hK5]; exact up_s
      have Hc5 : k5 c9 = some (.inl (gA (xG X) 4, (nwC cap n, refs (lf 0 ys)))) := by rw [hK5, up_n hac.symm]; exact up_s
      have htc : t ≠ c9 := ne_nw (show h1 t = _ by rw [hE1, up_n hta]; exact Ht1) c_n
      have Ht5 : k5 t = some (.inl (gA (xG X) 4, (n, refs (lf n xs)))) := by rw [hK5, up_n hta, up_n htc, hE1, up_n hta]; exact Ht1
      have hF5 : ∀ q e, h q = some e → q ≠ a → q ≠ c9 ∧ k5 q = some e := fun q e hq n1 => ⟨ne_nw (hF2 q e hq n1) c_n, by rw [hK5, up_n n1, up_n (ne_nw (hF2 q e hq n1) c_n)]; exact hF2 q e hq n1⟩
      have hcn : h c9 = none := Option.eq_none_iff_forall_ne_some.mpr (fun e he => (hF5 c9 e he hac.symm).1 rfl)
      have hc0 : c9 ≠ gE (xG X) 0 := fun e => c_z _ (e ▸ cst_e0 hz)
      refine ww_astore (lv' := [(4, .ref c9), (5, .int (nI 0)), (3, .int (nI n)), (2, .ref t), (0, .ref a), (1, .ref b)]) C dJ2_addAll_54 (by decide) rfl rfl ?_
      refine ww_aload_n C dJ2_addAll_56 rfl 3 rfl rfl ?_
      refine ww_iconst C dJ2_addAll_57 cI_0 ?_
      refine ww_aload C dJ2_addAll_58 0 rfl rfl ?_
      refine ww_iload C dJ2_addAll_60 1 rfl ?_
      refine ww_iload_n C dJ2_addAll_62 rfl 2 rfl ?_
      refine ww_copyq (n := n) (sp := 0) (dp := 0) (n0 := n) (f := (lf n xs)) C q2109 q429 q428 q126 dJ2_addAll_63 (Or.inl Ht5) Hc5 (by omega) (by omega) (by omega) (by omega) (fun i hi y hy => (lf_el hel (by rw [Nat.zero_add] at hy; exact hy)).rc (Cx.ok C)) (by omega) (Nat.le_of_ble_eq_true rfl) ?_
      refine ww_gen (fun h4 hE4 => ?_)
      have Ha5_h4 : h4 a = some (.inr (23, [.int (md + nI 1), .ref c9, .int (nI 0)])) := by rw [hE4, up_n (ne_ob Ha5 Hc5 (by simp))]; exact Ha5
      have Ht5_h4 : h4 t = some (.inl (gA (xG X) 4, (n, refs (lf n xs)))) := by rw [hE4, up_n htc]; exact Ht5
      have Hc5_h4 : h4 c9 = some (.inl (gA (xG X) 4, (nwC cap n, refs (va_cpy (lf n xs) (lf 0 ys) 0 0 n)))) := by rw [hE4]; exact up_s
      refine ww_aload_n C dJ2_addAll_66 rfl 4 rfl rfl ?_
      refine ww_iload C dJ2_addAll_67 1 rfl ?_
      refine ww_iload_n C dJ2_addAll_69 rfl 2 rfl ?_
      refine ww_iaddn C dJ2_addAll_70 ?_
      refine pf_J2_48_J2 (fs' := [.int (md + nI 1), .ref c9, .int (nI (0 + n))]) C dJ2_addAll_71 Ha5_h4 rfl rfl (Nat.le_of_ble_eq_true rfl) rfl ?_
      refine ww_gen (fun h5 hE5 => ?_)
      have Hc5_h5 : h5 c9 = some (.inl (gA (xG X) 4, (nwC cap n, refs (va_cpy (lf n xs) (lf 0 ys) 0 0 n)))) := by rw [hE5, up_n (ne_ob Hc5_h4 Ha5_h4 (by simp))]; exact Hc5_h4
      have Ht5_h5 : h5 t = some (.inl (gA (xG X) 4, (n, refs (lf n xs)))) := by rw [hE5, up_n hta]; exact Ht5_h4
      have Ha5_h5 : h5 a = some (.inr (23, [.int (md + nI 1), .ref c9, .int (nI (0 + n))])) := by rw [hE5]; exact up_s
      refine ww_iconst C dJ2_addAll_74 cI_1 ?_
      exact ww_zret C dJ2_addAll_75 nar_z1 ⟨⟨_, rfl⟩, rfl, c9, nwC cap n, by rw [hE5, hE4]; exact AlA4 hac hc0 hgt.1 hgt.2, Or.inr ⟨hcn, c_z⟩, fun q => by omega, (if_pos hlt).symm, fun q e hq n1 n2 => by rw [hE5, up_n n1, hE4, up_n (hF5 q e hq n1).1]; exact (hF5 q e hq n1).2⟩
  · skip
    have hn0 : n = 0 := by omega
    refine ww_iconst C dJ2_addAll_24 cI_0 ?_
    exact ww_zret C dJ2_addAll_25 nar_z0 ⟨⟨_, rfl⟩, rfl, arr, cap, by rw [hn0]; exact hL2.x0, Or.inl rfl, hc0, (if_neg (by omega)).symm, fun q e hq n1 _ => hF2 q e hq n1⟩
end JDK4
