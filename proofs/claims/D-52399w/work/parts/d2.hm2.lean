/-! ===== bins that are split ===== -/
section HM2
set_option maxRecDepth 100000
/-- next runs along the list; what the last one's next is, is not said -/
def NxO (p : PT) : List Nat → Prop
  | [] => True
  | [_] => True
  | a :: b :: r => p 0 a = some b ∧ NxO p (b :: r)
theorem NxO.cg {p p' : PT} : ∀ {l : List Nat}, NxO p l → (∀ i, i ∈ l.dropLast → p' 0 i = p 0 i) → NxO p' l
  | [], _, _ => trivial
  | [_], _, _ => trivial
  | a :: b :: r, h, he => ⟨(he a (by simp [List.dropLast])).trans h.1, NxO.cg h.2 (fun j hj => he j (by simp only [List.dropLast]; exact List.mem_cons_of_mem _ hj))⟩
theorem NxO.sn {p : PT} {x t : Nat} : ∀ {l : List Nat}, NxO p l → l.getLast? = some t → l.Nodup → NxO (pst p 0 t (some x)) (l ++ [x])
  | [], _, h, _ => by cases h
  | [a], _, h, _ => by
    have e : a = t := by simpa using h
    rw [e]
    exact ⟨pst_e, trivial⟩
  | a :: b :: r, h, ht, hn => by
    have ht2 : (b :: r).getLast? = some t := by rw [← ht]; simp [List.getLast?_cons_cons]
    have hn2 : a ∉ b :: r ∧ (b :: r).Nodup := List.nodup_cons.mp hn
    have hat : a ≠ t := fun e => hn2.1 (by rw [e]; exact List.mem_of_getLast? ht2)
    exact ⟨by rw [pst_i hat]; exact h.1, NxO.sn h.2 ht2 hn2.2⟩
theorem NxO.fi {p : PT} {t : Nat} : ∀ {l : List Nat}, NxO p l → l.getLast? = some t → l.Nodup → NxL (pst p 0 t none) l
  | [], _, h, _ => by cases h
  | [a], _, h, _ => by
    have e : a = t := by simpa using h
    rw [e]
    exact ⟨pst_e, trivial⟩
  | a :: b :: r, h, ht, hn => by
    have ht2 : (b :: r).getLast? = some t := by rw [← ht]; simp [List.getLast?_cons_cons]
    have hn2 : a ∉ b :: r ∧ (b :: r).Nodup := List.nodup_cons.mp hn
    have hat : a ≠ t := fun e => hn2.1 (by rw [e]; exact List.mem_of_getLast? ht2)
    exact ⟨by rw [pst_i hat]; exact h.1, NxO.fi h.2 ht2 hn2.2⟩
theorem NxL.o {p : PT} : ∀ {l : List Nat}, NxL p l → NxO p l
  | [], _ => trivial
  | [_], _ => trivial
  | _ :: _ :: _, h => ⟨h.1, NxL.o h.2⟩
/-- all nodes of the map lie in lists -/
def NdA (h : AH) (n : Nat) (E : ND) (p : PT) : Prop := (∀ i, i < n → h (nA E i) = some (cNd E p i)) ∧ ∀ i j, i < n → j < n → nA E i = nA E j → i = j
theorem cNd_o {E : ND} {p : PT} {i j f : Nat} {o : Option Nat} (h : j ≠ i) : cNd E (pst p f i o) j = cNd E p j := by unfold cNd; rw [pst_i h]
theorem NdA.put {h : AH} {n : Nat} {E : ND} {p : PT} {i : Nat} {o : Option Nat} (H : NdA h n E p) (hi : i < n) : NdA (up h (nA E i) (.inr (28, [.int (nH E i), .ref (nK E i), .ref (nV E i), va_rf (o.map (nA E))]))) n E (pst p 0 i o) := by
  refine ⟨fun j hj => ?_, H.2⟩
  by_cases e : j = i
  · rw [e, up_s]; unfold cNd; rw [pst_e]
  · rw [up_n (fun q => e (H.2 j i hj hi q)), cNd_o e]; exact H.1 j hj
theorem NdA.ot {h : AH} {n : Nat} {E : ND} {p : PT} {a : Nat} {e : va_E} (H : NdA h n E p) (ha : ∀ i, i < n → a ≠ nA E i) : NdA (up h a e) n E p := ⟨fun i hi => by rw [up_n (Ne.symm (ha i hi))]; exact H.1 i hi, H.2⟩
/-- the bin of a node in the table of double size -/
theorem bx_2 {nt : Nat} (h : nt = 16 ∨ nt = 32) (x : Int32) : bx (2 * nt) x = bx nt x + (if x &&& nI nt = 0 then 0 else nt) := by
  have hm : ∀ (m : Nat), m < 2 ^ 32 → (nI m &&& x).toBitVec.toNat = m &&& x.toBitVec.toNat := fun m hm => by
    rw [Int32.toBitVec_and, BitVec.toNat_and]
    have : (nI m).toBitVec.toNat = m % 2 ^ 32 := rfl
    rw [this, Nat.mod_eq_of_lt hm]
  have hz : (x &&& nI nt = 0) ↔ (nt &&& x.toBitVec.toNat = 0) := by
    rw [← Int32.toBitVec_inj, ← BitVec.toNat_inj, Int32.toBitVec_and, BitVec.toNat_and]
    have : (nI nt).toBitVec.toNat = nt := by rcases h with rfl | rfl <;> rfl
    rw [this, Nat.and_comm]
    exact Iff.rfl
  unfold bx
  rw [hm _ (by omega), hm _ (by omega)]
  generalize x.toBitVec.toNat = y at hz ⊢
  have k1 : 2 * nt - 1 &&& y = y % (2 * nt) := by
    rcases h with rfl | rfl
    · rw [Nat.and_comm]; exact Nat.and_two_pow_sub_one_eq_mod y 5
    · rw [Nat.and_comm]; exact Nat.and_two_pow_sub_one_eq_mod y 6
  have k2 : nt - 1 &&& y = y % nt := by
    rcases h with rfl | rfl
    · rw [Nat.and_comm]; exact Nat.and_two_pow_sub_one_eq_mod y 4
    · rw [Nat.and_comm]; exact Nat.and_two_pow_sub_one_eq_mod y 5
  have tb : ∀ k, (2 ^ k &&& y = 0) ↔ y / 2 ^ k % 2 = 0 := fun k => by
    have e : y.testBit k = decide (y / 2 ^ k % 2 = 1) := Nat.testBit_eq_decide_div_mod_eq
    constructor
    · intro h0
      have h1 : (2 ^ k &&& y).testBit k = (0 : Nat).testBit k := by rw [h0]
      rw [Nat.testBit_and, Nat.testBit_two_pow_self, Nat.zero_testBit, Bool.true_and, e] at h1
      have := of_decide_eq_false h1
      omega
    · intro h0
      apply Nat.eq_of_testBit_eq
      intro j
      rw [Nat.testBit_and, Nat.zero_testBit, Nat.testBit_two_pow]
      by_cases g : k = j
      · have e2 : y.testBit k = false := by rw [e]; exact decide_eq_false (by omega)
        rw [← g, e2, Bool.and_false]
      · rw [decide_eq_false g, Bool.false_and]
  have k3 : (nt &&& y = 0) ↔ y / nt % 2 = 0 := by
    rcases h with rfl | rfl
    · exact tb 4
    · exact tb 5
  rw [k1, k2]
  by_cases g : x &&& nI nt = 0
  · rw [if_pos g]
    have := k3.mp (hz.mp g)
    rcases h with rfl | rfl <;> omega
  · rw [if_neg g]
    have : ¬ y / nt % 2 = 0 := fun q => g (hz.mpr (k3.mpr q))
    rcases h with rfl | rfl <;> omega
/-- all is kept but the map, its old row and its nodes -/
def FrM (h h' : AH) (mp tb n : Nat) (E : ND) : Prop := ∀ q e, h q = some e → q ≠ mp → q ≠ tb → (∀ i, i < n → q ≠ nA E i) → h' q = some e
theorem FrM.rf {h : AH} {mp tb n : Nat} {E : ND} : FrM h h mp tb n E := fun _ _ q _ _ _ => q
theorem FrM.w {h h1 : AH} {mp tb n a : Nat} {E : ND} {e : va_E} (H : FrM h h1 mp tb n E) (ha : a = mp ∨ a = tb ∨ (∃ i, i < n ∧ a = nA E i) ∨ h a = none) : FrM h (up h1 a e) mp tb n E := fun q e' hq n1 n2 n3 => by
  have : q ≠ a := fun x => by
    rcases ha with g | g | ⟨i, g1, g2⟩ | g
    · exact n1 (x.trans g)
    · exact n2 (x.trans g)
    · exact n3 i g1 (x.trans g2)
    · rw [x, g] at hq; cases hq
  rw [up_n this]; exact H q e' hq n1 n2 n3
/-- the bins of the table of double size -/
def spB (E : ND) (nt : Nat) (B : Nat → List Nat) (b : Nat) : List Nat := (B (b % nt)).filter (fun i => decide (bx (2 * nt) (nH E i) = b))
/-- a table that is being doubled: the bins below j are done -/
def RzI (Γ : Gm) (h h1 : AH) (mp tb tb2 n nt j : Nat) (E : ND) (p1 : PT) (B : Nat → List Nat) (T1 T2 : Nat → Option Nat) (cm : va_E) : Prop :=
  h1 mp = some cm ∧ h1 tb = some (.inl (gA Γ 5, (nt, refs T1))) ∧ h1 tb2 = some (.inl (gA Γ 5, (2 * nt, refs T2))) ∧ NdA h1 n E p1 ∧ (∀ b, j ≤ b → b < nt → T1 b = (B b).head?.map (nA E) ∧ NxL p1 (B b)) ∧
  (∀ b, b < 2 * nt → (b % nt < j → T2 b = (spB E nt B b).head?.map (nA E) ∧ NxL p1 (spB E nt B b)) ∧ (j ≤ b % nt → T2 b = none)) ∧ FrM h h1 mp tb n E
theorem RzI.st {Γ : Gm} {h h1 h2 : AH} {mp tb tb2 n nt j : Nat} {E : ND} {p1 p2 : PT} {B : Nat → List Nat} {T1 T2 T3 T4 : Nat → Option Nat} {cm : va_E} (H : RzI Γ h h1 mp tb tb2 n nt j E p1 B T1 T2 cm) (hj : j < nt) (hmem : ∀ b, b < nt → ∀ i, i ∈ B b ↔ i < n ∧ bx nt (nH E i) = b)
    (c1 : h2 mp = some cm) (c2 : h2 tb = some (.inl (gA Γ 5, (nt, refs T3)))) (c3 : h2 tb2 = some (.inl (gA Γ 5, (2 * nt, refs T4)))) (c4 : NdA h2 n E p2) (c5 : FrM h h2 mp tb n E) (e1 : ∀ i, i ∉ B j → p2 0 i = p1 0 i) (e2 : ∀ b, b ≠ j → T3 b = T1 b) (e3 : ∀ b, b ≠ j → b ≠ j + nt → T4 b = T2 b)
    (f1 : T4 j = (spB E nt B j).head?.map (nA E) ∧ NxL p2 (spB E nt B j)) (f2 : T4 (j + nt) = (spB E nt B (j + nt)).head?.map (nA E) ∧ NxL p2 (spB E nt B (j + nt))) : RzI Γ h h2 mp tb tb2 n nt (j + 1) E p2 B T3 T4 cm := by
  obtain ⟨a1, a2, a3, a4, a5, a6, a7⟩ := H
  have dis : ∀ b, b < nt → b ≠ j → ∀ i, i ∈ B b → i ∉ B j := fun b hb hn i hi hi2 => hn (by rw [← ((hmem b hb i).mp hi).2, ((hmem j hj i).mp hi2).2])
  refine ⟨c1, c2, c3, c4, fun b h1 h2 => ?_, fun b hb => ?_, c5⟩
  · rw [e2 b (by omega)]
    exact ⟨(a5 b (by omega) h2).1, (a5 b (by omega) h2).2.cg (fun i hi => e1 i (dis b h2 (by omega) i hi))⟩
  · have hnt : 0 < nt := by omega
    have hm : b % nt < nt := Nat.mod_lt _ hnt
    have hb2 : b = b % nt ∨ b = b % nt + nt := by
      rcases Nat.lt_or_ge b nt with q | q
      · left; rw [Nat.mod_eq_of_lt q]
      · right
        have : b % nt = b - nt := by rw [Nat.mod_eq_sub_mod q, Nat.mod_eq_of_lt (by omega)]
        omega
    by_cases ej : b % nt = j
    · refine ⟨fun _ => ?_, fun q => by omega⟩
      rcases hb2 with g | g
      · rw [g, ej]; exact f1
      · rw [g, ej]; exact f2
    · have n1 : b ≠ j := fun e => ej (by rw [e, Nat.mod_eq_of_lt hj])
      have n2 : b ≠ j + nt := fun e => ej (by rw [e, Nat.add_mod_right, Nat.mod_eq_of_lt hj])
      rw [e3 b n1 n2]
      refine ⟨fun q => ?_, fun q => (a6 b hb).2 (by omega)⟩
      have g := (a6 b hb).1 (by omega)
      refine ⟨g.1, g.2.cg (fun i hi => e1 i ?_)⟩
      exact dis (b % nt) hm ej i (List.mem_filter.mp hi).1
/-- the halves of a bin -/
theorem spB_lo {E : ND} {n nt j : Nat} {B : Nat → List Nat} (hnt : nt = 16 ∨ nt = 32) (hj : j < nt) (hmem : ∀ b, b < nt → ∀ i, i ∈ B b ↔ i < n ∧ bx nt (nH E i) = b) : spB E nt B j = (B j).filter (fun i => decide (nH E i &&& nI nt = 0)) ∧ spB E nt B (j + nt) = (B j).filter (fun i => !decide (nH E i &&& nI nt = 0)) := by
  have e1 : j % nt = j := Nat.mod_eq_of_lt hj
  have e2 : (j + nt) % nt = j := by rw [Nat.add_mod_right, e1]
  unfold spB
  rw [e1, e2]
  constructor
  · apply List.filter_congr
    intro i hi
    have h2 := ((hmem j hj i).mp hi).2
    rw [bx_2 hnt, h2]
    by_cases g : nH E i &&& nI nt = 0
    · rw [if_pos g, decide_eq_true g, decide_eq_true (by omega)]
    · rw [if_neg g, decide_eq_false g, decide_eq_false (by omega)]
  · apply List.filter_congr
    intro i hi
    have h2 := ((hmem j hj i).mp hi).2
    rw [bx_2 hnt, h2]
    by_cases g : nH E i &&& nI nt = 0
    · rw [if_pos g, decide_eq_true g, decide_eq_false (by omega)]; rfl
    · rw [if_neg g, decide_eq_false g, decide_eq_true (by omega)]; rfl
end HM2
section HM2W
set_option maxRecDepth 100000
variable {X : XT} {P : Oc → ZR → AH → Prop} {z : ZR} {h : AH} {kc ns pc nL d : Nat} {lv : List (Nat × Value)} {st : List Value} {cc : ByteArray} {own mn : String} {ret : Option FieldType} {hh : List (Nat × Nat × Nat × Nat)}
/-- a reference is stored into a row of its own class -/
theorem ww_aastS (C : Cx X cc nL own mn ret hh d) {t a n j v : Nat} {f : Nat → Option Nat} {E : String} (hd : decode cc pc = .ok (.aastore, 1)) (ht : t < 6) (hE : aty t = .object E) (ha : h a = some (.inl (gA (xG X) t, (n, refs f)))) (hv : rcv (xG X) z h v E) (hj : j < n) (hn : n < 2 ^ 31) (k : WW X P z (up h a (.inl (gA (xG X) t, (n, refs (va_up f j (some v)))))) kc ns (pc + 1) lv st) : WW X P z h kc ns pc lv (.ref v :: .int (nI j) :: .ref a :: st) := by
  intro a1 a2 H ls locs hI hl
  have hc := (hI.1.2.2.2 a _ ha).1
  obtain ⟨cv, g1, g2, g3⟩ := hv _ H C.2.2.2.2.2.2.2.1 hI.1
  obtain ⟨a0, -, -, -, hRA, -⟩ := C.2.2.2.2.2.2.2.2.1
  have hRA := va_RA.moved C.2.2.2.2.2.2.2.1.alike (hRA t ht)
  rw [hE] at hRA
  obtain ⟨kA, comp, k1, k2, k3, -⟩ := hRA
  have hasg := vb_asgS comp cv.cls k3 g3
  obtain ⟨kc9, hkc9, -⟩ := Vm.findClass_spec k3
  obtain ⟨kv9, hkv9, -⟩ := Vm.findClass_spec g3
  refine W.aast C.1 C.2.1 hc (fun q h => by cases h) (fun h => by cases h) k1 k2 rfl hkc9 ⟨nI_pos (by omega), by rw [nI_clamp (by omega)]; show _ < (arrV _ _ _).slots.size; rw [arrV_size]; exact hj⟩ g1 (fun q h => by rw [h] at g2; cases g2) hkv9 hasg rfl rfl hd fun H1 e z1 oq => ?_
  refine k a1 a2 H1 ls _ (hI.sto ha ?_ z1 oq) hl
  show H1[a]? = some (vp_cell _ _)
  rw [e, nI_clamp (by omega), vp_cell_q, vp_cell_q, arrV_store]
  congr 2
  funext q
  by_cases hq : q = j
  · subst hq
    simp [updV, va_up, va_rf]
  · simp [updV, va_up, hq]
end HM2W
