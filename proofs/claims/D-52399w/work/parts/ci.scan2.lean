section SCAN2
set_option maxRecDepth 100000
/-- how a list grows: capacity, cells, slots behind m adds -/
def alP : Nat → Nat × Nat × Nat
  | 0 => (0, 0, 0)
  | m + 1 => (adK m (alP m).1, (alP m).2.1 + adC m (alP m).1, (alP m).2.2 + adS m (alP m).1)
theorem alP_mono {m : Nat} : ∀ k, (alP m).2.1 ≤ (alP (m + k)).2.1 ∧ (alP m).2.2 ≤ (alP (m + k)).2.2
  | 0 => ⟨Nat.le_refl _, Nat.le_refl _⟩
  | k + 1 => by
    have ih := alP_mono (m := m) k
    exact ⟨Nat.le_trans ih.1 (Nat.le_add_right _ _), Nat.le_trans ih.2 (Nat.le_add_right _ _)⟩
theorem alP_cap : ∀ k, (alP k).1 ≤ 2 * k + 10
  | 0 => by decide
  | k + 1 => by
    have ih := alP_cap k
    show adK k (alP k).1 ≤ _
    unfold adK nwC
    split
    · split <;> omega
    · omega
theorem alP_401 : (alP 401).2.1 ≤ 20 ∧ (alP 401).2.2 ≤ 2000 := by decide +kernel
theorem sbP_2000 : (sbP 2000).2.1 ≤ 8 := by decide +kernel
theorem sbP_8 {m : Nat} (h : m ≤ 2000) : (sbP m).2.1 ≤ 8 := by
  have := (sbP_mono (m := m) (2000 - m)).1
  rw [show m + (2000 - m) = 2000 by omega] at this
  exact Nat.le_trans this sbP_2000
/-- a text's hash -/
def hsU (u : Nat → Nat) : Nat → Int32
  | 0 => nI 0
  | m + 1 => nI 31 * hsU u m + nI (u m)
def hOK (m : Nat) (u : Nat → Nat) (x y : Int32) : Prop := (x = nI 0 ∨ x = hsU u m) ∧ (y = nI 0 ∨ (y = nI 1 ∧ hsU u m = nI 0))
/-- a name's String: its hash may be written -/
def NmS (Γ : Gm) (z : ZR) (h : AH) (s m : Nat) (u : Nat → Nat) : Prop := ∃ (w : Nat) (x y : Int32) (f : Nat → Int32), h s = some (.inr (25, [.ref w, .int (nI 0), .int x, .int y])) ∧ h w = some (.inl (gA Γ 1, (m, .inl f))) ∧ m ≤ 10 ∧ (∀ i, i < m → f i = bs (u i) ∧ u i < 256) ∧ hOK m u x y
theorem NmS.su {Γ : Gm} {z : ZR} {h : AH} {s m : Nat} {u : Nat → Nat} (H : NmS Γ z h s m u) : StU Γ z h s m u := by
  obtain ⟨w, x, y, f, h1, h2, h3, h4, -⟩ := H
  exact ⟨w, x, y, f, Or.inl h1, Or.inl h2, by omega, h4⟩
/-- Strings and rows of bytes are kept -/
def StK (Γ : Gm) (h h' : AH) : Prop := (∀ s fs, h s = some (.inr (25, fs)) → h' s = some (.inr (25, fs))) ∧ ∀ w m f, h w = some (.inl (gA Γ 1, (m, .inl f))) → h' w = some (.inl (gA Γ 1, (m, .inl f)))
theorem StK.le {Γ : Gm} {h h' : AH} (hh : hle h h') : StK Γ h h' := ⟨fun _ _ q => hh _ _ q, fun _ _ _ q => hh _ _ q⟩
theorem StK.tr {Γ : Gm} {h h1 h2 : AH} (a : StK Γ h h1) (b : StK Γ h1 h2) : StK Γ h h2 := ⟨fun _ _ q => b.1 _ _ (a.1 _ _ q), fun _ _ _ q => b.2 _ _ _ (a.2 _ _ _ q)⟩
theorem NmS.sk {Γ : Gm} {z z' : ZR} {h h' : AH} {s m : Nat} {u : Nat → Nat} (H : NmS Γ z h s m u) (hk : StK Γ h h') : NmS Γ z' h' s m u := by
  obtain ⟨w, x, y, f, h1, h2, h3⟩ := H
  exact ⟨w, x, y, f, hk.1 _ _ h1, hk.2 _ _ _ h2, h3⟩
/-- a token with all that is known of it -/
def TkG (Γ : Gm) (z : ZR) (h : AH) (t : TP) (κ pl a s : Nat) : Prop := TkO Γ z a κ pl s ∧ (κ = 31 → StU Γ z nh s (tkE t pl - pl) (fun i => byA t (pl + i))) ∧ (κ = 30 → NmS Γ z h s (tkE t pl - pl) (fun i => byA t (pl + i))) ∧ kdV κ
theorem TkG.plain {Γ : Gm} {z : ZR} {h : AH} {t : TP} {κ pl a s : Nat} (hto : z a (.inr (8, [.ref (gE Γ (srt κ)), .ref s, .int (nI pl)]))) (h1 : κ = 32 ∨ κ = 33) : TkG Γ z h t κ pl a s := by
  refine ⟨⟨hto, fun q => ?_⟩, fun q => by omega, fun q => by omega, Or.inr (by omega)⟩
  rcases h1 with rfl | rfl
  · cases q
  · cases q
theorem tkd_K {t : TP} {k : Nat} (hk : k ≠ 400) : tkd t k = tkK t (tps t k) := by unfold tkd; rw [if_neg hk]
theorem symK_T : ∀ c, c < 256 → symK c ≠ 32 → kdT (symK c) = [c] := by decide +kernel
/-- the text of a key or symbol -/
theorem tk_text {t : TP} {a : Nat} (ht : TPo t) (ha : a < t.2) (hk : isKS (tkK t a) = true) : (kdT (tkK t a)).length = tkE t a - a ∧ ∀ i, i < tkE t a - a → byA t (a + i) = (kdT (tkK t a)).getD i 0 := by
  have hE2 := tkE_le ha
  cases h1 : isLt (byA t a) with
  | true =>
    cases h2 : kwN t a (tkE t a - a) with
    | none =>
      have e : tkK t a = 32 ∨ tkK t a = 30 := by
        unfold tkK; rw [h1, h2]; simp only [if_true]; split <;> omega
      rcases e with e | e <;> rw [e] at hk <;> cases hk
    | some k =>
      have e : tkK t a = k := by unfold tkK; rw [h1, h2]; rfl
      have h3 := ff_lt _ _ _ h2
      have h4 := wdE_iff.mp h3.2
      have h5 := (txK k (by omega)).1
      have e2 : kdT k = tx k := by unfold kdT; rw [if_pos (by omega)]
      rw [e, e2, ← h5]
      refine ⟨h4.1, fun i hi => ?_⟩
      rw [h4.2 i hi]
      unfold byA
      rw [if_pos (by omega)]
  | false =>
    cases h2 : isDg (byA t a) with
    | true =>
      have e : tkK t a = 32 ∨ tkK t a = 31 := by
        unfold tkK; rw [h1, h2]; simp only [if_true, Bool.false_eq_true, if_false]; split <;> omega
      rcases e with e | e <;> rw [e] at hk <;> cases hk
    | false =>
      by_cases h3 : two t a = true
      · have e : tkK t a = (if byA t a = 60 then 47 else 48) ∧ tkE t a = a + 2 := by unfold tkK tkE; rw [h1, h2, h3]; exact ⟨rfl, rfl⟩
        unfold two at h3
        rw [Bool.and_eq_true, Bool.or_eq_true, decide_eq_true_eq, decide_eq_true_eq, decide_eq_true_eq] at h3
        rw [e.1, e.2]
        rcases h3.1 with q | q
        · rw [if_pos q]
          refine ⟨by rw [show a + 2 - a = 2 by omega]; decide, fun i hi => ?_⟩
          have : i = 0 ∨ i = 1 := by omega
          rcases this with rfl | rfl
          · rw [Nat.add_zero, q]; decide
          · rw [h3.2]; decide
        · rw [if_neg (by omega)]
          refine ⟨by rw [show a + 2 - a = 2 by omega]; decide, fun i hi => ?_⟩
          have : i = 0 ∨ i = 1 := by omega
          rcases this with rfl | rfl
          · rw [Nat.add_zero, q]; decide
          · rw [h3.2]; decide
      · have h3 : two t a = false := by simpa using h3
        have e : tkK t a = symK (byA t a) ∧ tkE t a = a + 1 := by unfold tkK tkE; rw [h1, h2, h3]; exact ⟨rfl, rfl⟩
        rw [e.1] at hk ⊢
        rw [e.2, symK_T _ (byA_lt ht a) (fun q => by rw [q] at hk; cases hk)]
        refine ⟨by rw [show a + 1 - a = 1 by omega]; rfl, fun i hi => ?_⟩
        rw [show i = 0 by omega]
        rfl
theorem tk_len {t : TP} {a : Nat} (h : tkK t a = 30) : tkE t a - a ≤ 10 := by
  unfold tkK at h
  split at h
  · cases h2 : kwN t a (tkE t a - a) with
    | some k => rw [h2] at h; have := (ff_lt _ _ _ h2).1; simp only at h; omega
    | none => rw [h2] at h; simp only at h; split at h <;> omega
  · split at h
    · split at h <;> omega
    · split at h
      · split at h <;> omega
      · have := symK_r (byA t a); omega
theorem tk_short {t : TP} {a : Nat} (h : tkK t a ≠ 32) : tkE t a - a ≤ 16 := by
  cases h1 : isLt (byA t a) with
  | true =>
    cases h2 : kwN t a (tkE t a - a) with
    | none =>
      rcases Nat.lt_or_ge 10 (tkE t a - a) with q | q
      · exact absurd (kw_long h1 q) h
      · omega
    | some k =>
      have h3 := ff_lt _ _ _ h2
      have h4 := (wdE_iff.mp h3.2).1
      have h5 := txK k (by omega)
      rw [h5.1] at h4
      omega
  | false =>
    cases h2 : isDg (byA t a) with
    | true =>
      rcases Nat.lt_or_ge 6 (tkE t a - a) with q | q
      · refine absurd ?_ h
        unfold tkK; rw [h1, h2]; simp only [if_true, Bool.false_eq_true, if_false]; rw [if_pos q]
      · omega
    | false =>
      have : tkE t a = if two t a then a + 2 else a + 1 := by unfold tkE; rw [h1, h2]; rfl
      rw [this]
      split <;> omega
theorem kdV_tkd (t : TP) (k : Nat) : kdV (tkd t k) := by
  rcases tkd_r t k with q | q | q | q | q
  · exact Or.inl (isKS_K q)
  · exact Or.inr (Or.inl q)
  · exact Or.inr (Or.inr (Or.inl q))
  · exact Or.inr (Or.inr (Or.inr (Or.inl q)))
  · exact Or.inl (isKS_S q)
theorem TkG.other {Γ : Gm} {z : ZR} {h : AH} {t : TP} {k a s : Nat} (ht : TPo t) (h30 : tkd t k ≠ 30) (hk4 : k ≠ 400) (hp : tps t k < t.2) (hto : z a (.inr (8, [.ref (gE Γ (srt (tkd t k))), .ref s, .int (nI (tps t k))]))) (hsu : StU Γ z nh s (tkE t (tps t k) - tps t k) (fun i => byA t (tps t k + i))) (hsc : ∀ k, k < 91 → s ≠ gE Γ (100 + k)) : TkG Γ z h t (tkd t k) (tps t k) a s := by
  refine ⟨⟨hto, fun q => ⟨?_, hsc⟩⟩, fun _ => hsu, fun q => absurd q h30, kdV_tkd t k⟩
  rw [tkd_K hk4] at q ⊢
  obtain ⟨e1, e2⟩ := tk_text ht hp q
  obtain ⟨v, x, y, f, g1, g2, g3, g4⟩ := hsu
  refine ⟨v, x, y, f, g1, by rw [e1]; exact g2, by rw [e1]; exact g3, fun i hi => ?_⟩
  rw [e1] at hi
  show f i = bs ((kdT (tkK t (tps t k))).getD i 0) ∧ (kdT (tkK t (tps t k))).getD i 0 < 256
  rw [← e2 i hi]
  exact g4 i hi
theorem TkG.name {Γ : Gm} {z : ZR} {h : AH} {t : TP} {k a s w : Nat} {g : Nat → Int32} (h30 : tkd t k = 30) (hk4 : k ≠ 400) (hto : z a (.inr (8, [.ref (gE Γ (srt (tkd t k))), .ref s, .int (nI (tps t k))]))) (hro : h w = some (.inl (gA Γ 1, (tkE t (tps t k) - tps t k, .inl g)))) (hs : h s = some (.inr (25, [.ref w, .int (nI 0), .int (nI 0), .int (nI 0)]))) (hg : ∀ i, i < tkE t (tps t k) - tps t k → g i = bs (byA t (tps t k + i)) ∧ byA t (tps t k + i) < 256) : TkG Γ z h t (tkd t k) (tps t k) a s := by
  refine ⟨⟨hto, fun q => by rw [h30] at q; cases q⟩, fun q => by omega, fun q => ⟨w, nI 0, nI 0, g, hs, hro, ?_, hg, Or.inl rfl, Or.inl rfl⟩, kdV_tkd t k⟩
  exact tk_len (by rw [← tkd_K hk4]; exact h30)
theorem srt_1 {Γ : Gm} (hΓ : GOK Γ) {t : TP} {k : Nat} (h32 : tkd t k ≠ 32) : gE Γ (srt (tkd t k)) ≠ gE Γ 1 := by
  rcases tkd_r t k with q | q | q | q | q
  · rw [srt_K q]; exact ne_2_1 hΓ
  · rw [q]; exact ne_3_1 hΓ
  · rw [q]; exact ne_4_1 hΓ
  · exact absurd q h32
  · rw [srt_S q]; exact ne_5_1 hΓ
theorem tsP_no {t : TP} {k j : Nat} (hok : ∀ j, j < k → tps t j < t.2 ∧ tkd t j ≠ 32) (hj : j < k) : tsP t j = false := by
  unfold tsP
  rw [decide_eq_false (by have := hok j hj; omega), Bool.false_or, Bool.and_eq_false_iff]
  rcases Nat.eq_zero_or_pos j with q | q
  · exact Or.inl (decide_eq_false (by omega))
  · exact Or.inr (decide_eq_false (hok (j - 1) (by omega)).2)
theorem tcn_at {t : TP} {k : Nat} (h1 : ∀ j, j < k → tsP t j = false) (h2 : tsP t k = true) : tcn t = k := by
  have e := tcn_p t
  rcases Nat.lt_trichotomy (tcn t) k with q | q | q
  · rw [h1 _ q] at e; cases e
  · exact q
  · have := ff_min _ _ _ (tcn_e t) k (Nat.zero_le _) q
    rw [h2] at this; cases this
theorem tcn_is {t : TP} {k : Nat} (hok : ∀ j, j < k → tps t j < t.2 ∧ tkd t j ≠ 32) (h : t.2 ≤ tps t k) : tcn t = k :=
  tcn_at (fun j hj => tsP_no hok hj) (by unfold tsP; rw [decide_eq_true h]; rfl)
theorem tcn_is2 {t : TP} {k : Nat} (hok : ∀ j, j < k → tps t j < t.2 ∧ tkd t j ≠ 32) (hp : tps t k < t.2) (hkd : tkd t k = 32) : tcn t = k + 1 := by
  refine tcn_at (fun j hj => ?_) (by unfold tsP; rw [Nat.add_sub_cancel, decide_eq_true hkd, decide_eq_true (Nat.succ_pos k), Bool.and_self, Bool.or_true])
  rcases Nat.lt_or_ge j k with q | q
  · exact tsP_no hok q
  · rw [show j = k by omega]
    unfold tsP
    rw [decide_eq_false (by omega), Bool.false_or, Bool.and_eq_false_iff]
    rcases Nat.eq_zero_or_pos k with q | q
    · exact Or.inl (decide_eq_false (by omega))
    · exact Or.inr (decide_eq_false (hok (k - 1) (by omega)).2)
theorem tl_end {t : TP} {k : Nat} (htc : tcn t = k) (hok : ∀ j, j < k → tps t j < t.2 ∧ tkd t j ≠ 32) : tl t = k := by
  unfold tl
  rw [htc]
  split
  · rename_i h
    rw [Bool.and_eq_true, decide_eq_true_eq, decide_eq_true_eq] at h
    exact absurd h.2 (hok (k - 1) (by omega)).2
  · rfl
theorem tl_bad {t : TP} {k : Nat} (htc : tcn t = k + 1) (hkd : tkd t k = 32) : tl t = k := by
  unfold tl
  rw [htc, Nat.add_sub_cancel, decide_eq_true hkd, decide_eq_true (Nat.succ_pos k)]
  rfl
abbrev KD (t : TP) : Nat → Nat × Nat := fun j => (tkd t j, tps t j)
abbrev KT (t : TP) : Nat → Nat × Nat := fun j => (tK t j, tP t j)
theorem KD_T {t : TP} {j : Nat} (h : j ≠ tcn t) : KD t j = KT t j := by
  show (tkd t j, tps t j) = (tK t j, tP t j)
  unfold tK tP
  rw [if_neg h, if_neg h]
theorem AlA.sk {Γ : Gm} {z : ZR} {h2 h3 : AH} {al arr k cap v : Nat} {md m2 : Int32} {A : Nat → Nat} (hA : AlA Γ z h2 h3 al arr k cap md A v) (hL : ALm Γ h2 al arr k m2 cap A) (ow : owE Γ h2) : StK Γ h2 h3 := by
  obtain ⟨arr', cap', -, -, -, -, h5⟩ := hA
  refine ⟨fun q fs hq => h5 q _ hq (fun e => ?_) (fun e => ?_), fun q m f hq => h5 q _ hq (fun e => ?_) (fun e => ?_)⟩
  · rw [e, hL.1] at hq; simp [cAL] at hq
  · rcases hL.2.1 with g | g
    · rw [e, g.1] at hq; simp [cAr] at hq
    · exact ow q _ hq (e.trans g.2)
  · rw [e, hL.1] at hq; simp [cAL] at hq
  · rcases hL.2.1 with g | g
    · rw [e, g.1] at hq; simp [cAr] at hq
    · exact ow q _ hq (e.trans g.2)
/-- the scanner has cut k tokens of the kinds and places KK -/
def ScI (Γ : Gm) (z : ZR) (h : AH) (t : TP) (al k : Nat) (KK : Nat → Nat × Nat) (z1 : ZR) (h1 : AH) (arr cap : Nat) (md : Int32) (A S : Nat → Nat) : Prop := zle z z1 ∧ ALm Γ h1 al arr k md cap A ∧ (cap = 0 → arr = gE Γ 0) ∧ cap = (alP k).1 ∧ (∀ q e, h q = some e → q ≠ al → h1 q = some e) ∧ (arr = gE Γ 0 ∨ h arr = none) ∧ (∀ j, j < k → TkG Γ z1 h1 t (KK j).1 (KK j).2 (A j) (S j) ∧ ((KK j).1 = 30 → h (S j) = none) ∧ obZ z1 (A j)) ∧ ∀ i j, i < k → j < k → (KK i).1 = 30 → (KK j).1 = 30 → i ≠ j → S i ≠ S j
theorem ScI.nn {Γ : Gm} {z : ZR} {h : AH} {t : TP} {al k : Nat} {KK : Nat → Nat × Nat} {z1 : ZR} {h1 : AH} {arr cap : Nat} {md : Int32} {A S : Nat → Nat} (hI : ScI Γ z h t al k KK z1 h1 arr cap md A S) {s : Nat} (hs : h1 s = none) : h s = none := by
  cases hq : h s with
  | none => rfl
  | some e =>
    have : h1 s = some e := hI.2.2.2.2.1 s e hq (fun e2 => by rw [e2, hI.2.1.1] at hs; cases hs)
    rw [hs] at this; cases this
theorem ScI.st {Γ : Gm} {z : ZR} {h : AH} {t : TP} {al : Nat} {md : Int32} {A S : Nat → Nat} (hL : ALm Γ h al (gE Γ 0) 0 md 0 A) : ScI Γ z h t al 0 (KD t) z h (gE Γ 0) 0 md A S :=
  ⟨fun _ _ q => q, hL, fun _ => rfl, rfl, fun q e hq _ => hq, Or.inl rfl, fun j hj => absurd hj (Nat.not_lt_zero j), fun i j hi => absurd hi (Nat.not_lt_zero i)⟩
theorem StU.z {Γ : Gm} {z z' : ZR} {s m : Nat} {u : Nat → Nat} (hs : StU Γ z nh s m u) (hz : zle z z') : StU Γ z' nh s m u := hs.mono hz (fun _ _ q => q)
theorem TkO.z {Γ : Gm} {z z' : ZR} {a κ p s : Nat} (hT : TkO Γ z a κ p s) (hz : zle z z') : TkO Γ z' a κ p s := ⟨hz _ _ hT.1, fun q => ⟨(hT.2 q).1.z hz, (hT.2 q).2⟩⟩
theorem TkG.mono {Γ : Gm} {z z' : ZR} {h h' : AH} {t : TP} {κ pl a s : Nat} (hT : TkG Γ z h t κ pl a s) (hz : zle z z') (hh : StK Γ h h') : TkG Γ z' h' t κ pl a s := by
  obtain ⟨h1, h2, h3, h4⟩ := hT
  exact ⟨h1.z hz, fun q => (h2 q).z hz, fun q => (h3 q).sk hh, h4⟩
theorem ScI.ad {Γ : Gm} {z : ZR} {h : AH} {t : TP} {al k : Nat} {KK : Nat → Nat × Nat} {z1 : ZR} {h1 : AH} {arr cap : Nat} {md : Int32} {A S : Nat → Nat} (hI : ScI Γ z h t al k KK z1 h1 arr cap md A S) {z2 : ZR} {h2 h3 : AH} {ta s : Nat} {m2 : Int32} (hz12 : zle z1 z2) (hh2 : hle h1 h2) (ow2 : owE Γ h2) (hA : AlA Γ z2 h2 h3 al arr k cap m2 A ta) (hob : obZ z2 ta)
    (KK' : Nat → Nat × Nat) (hKK : ∀ j, j < k → KK' j = KK j) (hT : TkG Γ z2 h3 t (KK' k).1 (KK' k).2 ta s) (hnew : h1 s = none ∨ (KK' k).1 ≠ 30) : ∃ arr' cap', ScI Γ z h t al (k + 1) KK' z2 h3 arr' cap' m2 (va_up A k ta) (va_up S k s) := by
  have hn := @ScI.nn Γ z h t al k KK z1 h1 arr cap md A S hI
  obtain ⟨i1, i2, i3, i4, i5, i6, i7, i8⟩ := hI
  have hL2 := i2.hm hh2
  have hsk : StK Γ h1 h3 := (StK.le hh2).tr (hA.sk hL2 ow2)
  obtain ⟨arr', cap', a1, a2, a3, a4, a5⟩ := hA
  refine ⟨arr', cap', fun a e q => hz12 a e (i1 a e q), a1, a3, by rw [a4, i4]; rfl, fun q e hq hne => ?_, ?_, fun j hj => ?_, fun i j hi hj ki kj hij => ?_⟩
  · refine a5 q e (hh2 q e (i5 q e hq hne)) hne (fun e2 => ?_)
    rcases i6 with g | g
    · exact ow2 q e (hh2 q e (i5 q e hq hne)) (e2.trans g)
    · rw [e2, g] at hq; cases hq
  · rcases a2 with g | g
    · rw [g]; exact i6
    · right
      cases hq : h arr' with
      | none => rfl
      | some e =>
        have := hh2 _ _ (i5 arr' e hq (fun e2 => by rw [e2, hL2.1] at g; cases g.1))
        rw [g.1] at this; cases this
  · rcases Nat.lt_or_ge j k with q | q
    · rw [va_ne (by omega), va_ne (by omega), hKK j q]
      obtain ⟨g1, g2, g3⟩ := i7 j q
      exact ⟨g1.mono hz12 hsk, g2, g3.mono hz12⟩
    · rw [show j = k by omega, va_eq, va_eq]
      refine ⟨hT, fun q9 => ?_, hob⟩
      rcases hnew with g | g
      · exact hn g
      · exact absurd q9 g
  · have nm : ∀ j, j < k → (KK' j).1 = 30 → (KK' k).1 = 30 → S j ≠ s := fun j hj kj kk e => by
      rcases hnew with g | g
      · rw [hKK j hj] at kj
        obtain ⟨w, x, y, f, g1, -⟩ := (i7 j hj).1.2.2.1 kj
        rw [e, g] at g1; cases g1
      · exact g kk
    rcases Nat.lt_or_ge i k with q | q
    · rcases Nat.lt_or_ge j k with q2 | q2
      · rw [va_ne (by omega), va_ne (by omega)]
        rw [hKK i q] at ki; rw [hKK j q2] at kj
        exact i8 i j q q2 ki kj hij
      · have ej : j = k := by omega
        rw [va_ne (show i ≠ k by omega), ej, va_eq]
        rw [ej] at kj
        exact nm i q ki kj
    · have ei : i = k := by omega
      rw [va_ne (show j ≠ k by omega), ei, va_eq]
      rw [ei] at ki
      exact Ne.symm (nm j (by omega) kj ki)
/-- all tokens are cut -/
def AllP (Γ : Gm) (z : ZR) (h : AH) (t : TP) (al : Nat) : Oc → ZR → AH → Prop := Rv (fun v z' h' => v = .ref al ∧ ∃ arr cap md A S, ScI Γ z h t al (tl t + 1) (KT t) z' h' arr cap md A S)
theorem ScI.fin {Γ : Gm} {z : ZR} {h : AH} {t : TP} {al k : Nat} {KK : Nat → Nat × Nat} {z1 : ZR} {h1 : AH} {arr cap : Nat} {md : Int32} {A S : Nat → Nat} (hI : ScI Γ z h t al (k + 1) KK z1 h1 arr cap md A S) (htl : tl t = k) (hK : ∀ j, j < k + 1 → KK j = KT t j) : AllP Γ z h t al (.inl (some (.ref al))) z1 h1 := by
  obtain ⟨i1, i2, i3, i4, i5, i6, i7, i8⟩ := hI
  refine ⟨rfl, arr, cap, md, A, S, i1, by rw [htl]; exact i2, i3, by rw [htl]; exact i4, i5, i6, fun j hj => ?_, fun i j hi hj ki kj => ?_⟩
  · rw [htl] at hj; rw [← hK j hj]; exact i7 j hj
  · rw [htl] at hi hj; rw [← hK i hi] at ki; rw [← hK j hj] at kj; exact i8 i j hi hj ki kj
theorem hle_nw {h : AH} {s : Nat} {e : va_E} (hs : h s = none) : hle h (up h s e) := fun q e' hq => by
  rw [up_n (fun x => by rw [x, hs] at hq; cases hq)]; exact hq
theorem hle_nw2 {h : AH} {s w : Nat} {e e' : va_E} (hw : h w = none) (hs : h s = none) : hle h (up (up h w e) s e') := fun q e9 hq => by
  rw [up_n (fun x => by rw [x, hs] at hq; cases hq), up_n (fun x => by rw [x, hw] at hq; cases hq)]; exact hq
set_option maxHeartbeats 2000000 in
theorem ct_X8_init {l : Launch} {Γ : Gm} (hl : l.flags = flags0) (hΓ : GOK Γ) {z : ZR} {h : AH} {sc tp : Nat} {e1 e2 : Value} (Hsc : h sc = some (.inr (7, [e1, e2]))) : Ct l Γ yX8_init cX8_init 2 none 6 1 3 [.ref sc, .ref tp] z h (Rn (fun z' h' => z' = z ∧ ∃ al, h al = none ∧ (∀ e, ¬ z al e) ∧ h' = up (up h al (.inr (23, [.int (nI 0), .ref (gE Γ 0), .int (nI 0)]))) sc (.inr (7, [.ref tp, .ref al])))) := by
  refine Ct.of hl hΓ (by decide +kernel) (Nat.le_of_ble_eq_true rfl) (fun X e1 e2 C => ?_)
  subst e1; subst e2
  have C : Cx X cX8_init 2 "RingDomino$Scanner" "<init>" none [] 6 := C
  show WW X (Rn (fun z' h' => z' = z ∧ ∃ al, h al = none ∧ (∀ e, ¬ z al e) ∧ h' = up (up h al (.inr (23, [.int (nI 0), .ref (gE (xG X) 0), .int (nI 0)]))) sc (.inr (7, [.ref tp, .ref al])))) z h 1 3 0 [(0, .ref sc), (1, .ref tp)] []
  refine ww_aload_n C dX8_init_0 rfl 0 rfl rfl ?_
  refine ww_objInit C q293 q172 q173 dX8_init_1 (by decide) (Nat.le_of_ble_eq_true rfl) ?_
  refine ww_aload_n C dX8_init_4 rfl 0 rfl rfl ?_
  refine nw_X8_9 C dX8_init_5 (by decide) (by decide) (fun al al_n al_z al_g => ?_)
  refine ww_gen (fun h1 hE1 => ?_)
  have Hsc_h1 : h1 sc = some (.inr (7, [e1, e2])) := by rw [hE1, up_n (ne_nw Hsc al_n)]; exact Hsc
  have N1_h1 : h1 al = some (.inr (23, [.int (nI 0), .null, .int (nI 0)])) := by rw [hE1]; exact up_s
  refine ww_dup C dX8_init_8 rfl ?_
  refine ci_X8_11_q (As := []) (rest := [.ref al, .ref sc]) C dX8_init_9 (ct_J2_init (Cx.fl C) (Cx.ok C) N1_h1) rfl rfl (Nat.le_of_ble_eq_true rfl) (by decide) (Nat.zero_le _) (Nat.zero_le _) (fun z1 k1 q => ?_)
  obtain ⟨hq1, hK1⟩ := q; replace hq1 := hq1.symm; subst hq1
  have hne : sc ≠ al := ne_nw Hsc al_n
  have Hsc1 : k1 sc = some (.inr (7, [e1, e2])) := by rw [hK1, up_n hne, hE1, up_n hne]; exact Hsc
  refine pf_X8_12_X8 (fs' := [e1, .ref al]) C dX8_init_12 Hsc1 rfl rfl (Nat.le_of_ble_eq_true rfl) rfl ?_
  refine ww_gen (fun h2 hE2 => ?_)
  have Hsc1_h2 : h2 sc = some (.inr (7, [e1, .ref al])) := by rw [hE2]; exact up_s
  refine ww_aload_n C dX8_init_15 rfl 0 rfl rfl ?_
  refine ww_aload_n C dX8_init_16 rfl 1 rfl rfl ?_
  refine pf_X8_18_X8 (fs' := [.ref tp, .ref al]) C dX8_init_17 Hsc1_h2 rfl rfl (Nat.le_of_ble_eq_true rfl) rfl ?_
  refine ww_gen (fun h3 hE3 => ?_)
  have Hsc1_h3 : h3 sc = some (.inr (7, [.ref tp, .ref al])) := by rw [hE3]; exact up_s
  exact ww_vret C dX8_init_20 ⟨rfl, al, al_n, al_z, by rw [hE3, hE2, up_up, hK1, hE1, up_up]⟩
set_option maxHeartbeats 2000000 in
theorem ct_X8_all {l : Launch} {Γ : Gm} (hl : l.flags = flags0) (hΓ : GOK Γ) {z : ZR} {h : AH} {sc tp ba al : Nat} {md0 : Int32} {A0 : Nat → Nat} {f : Nat → Int32} {t : TP} (hz : zle (cst Γ) z) (Hsc : h sc = some (.inr (7, [.ref tp, .ref al]))) (hT : TpC Γ h tp ba f t) (ht : TPo t) (hL0 : ALm Γ h al (gE Γ 0) 0 md0 0 A0) : Ct l Γ yX8_all cX8_all 3 (some (.object "java/util/List")) 11 (5 * 401 + 10 + (alP 401).2.1) (44 * 401 + 12000 + (alP 401).2.2) [.ref sc] z h (AllP Γ z h t al) := by
  refine Ct.of hl hΓ (by decide +kernel) (Nat.le_of_ble_eq_true rfl) (fun X e1 e2 C => ?_)
  subst e1; subst e2
  have C : Cx X cX8_all 3 "RingDomino$Scanner" "all" (some (.object "java/util/List")) [] 11 := C
  have h2000 := ht.1
  have nsa : sc ≠ al := ne_ob Hsc hL0.1 (by simp [cAL])
  have nta : tp ≠ al := ne_ob hT.1 hL0.1 (by simp [cAL])
  have nba : ba ≠ al := ne_ob hT.2.1 hL0.1 (by simp [cAL])
  show WW X (AllP (xG X) z h t al) z h (5 * 401 + 10 + (alP 401).2.1) (44 * 401 + 12000 + (alP 401).2.2) 0 [(0, .ref sc)] []
  refine ww_iconst C dX8_all_0 cI_0 ?_
  refine ww_istore_n (lv' := [(1, .int (nI 0)), (0, .ref sc)]) C dX8_all_1 rfl (by decide) rfl ?_
  have key : ∀ (fu p k : Nat) (z1 : ZR) (h1 : AH) (arr cap : Nat) (md : Int32) (A S : Nat → Nat), t.2 - p < fu → p ≤ t.2 → run (blP t) t.2 p = tps t k → k ≤ 400 → (∀ j, j < k → tps t j < t.2 ∧ tkd t j ≠ 32) → ScI (xG X) z h t al k (KD t) z1 h1 arr cap md A S → WW X (AllP (xG X) z h t al) z1 h1 (5 * (401 - k) + 10 + ((alP 401).2.1 - (alP k).2.1)) (44 * (401 - k) + 12000 + ((alP 401).2.2 - (alP k).2.2)) 2 [(1, .int (nI p)), (0, .ref sc)] [] := by
    intro fu
    induction fu with
    | zero => intro p k z1 h1 arr cap md A S q; omega
    | succ fu ih =>
      intro p k z1 h1 arr cap md A S hfu hp hrun hk hok hI
      obtain ⟨i1, i2, i3, i4, i5, i6, i7, i8⟩ := id hI
      have hz1 : zle (cst (xG X)) z1 := fun a e q => i1 a e (hz a e q)
      have Hsc1 := i5 _ _ Hsc nsa
      have hT1 : TpC (xG X) h1 tp ba f t := ⟨i5 _ _ hT.1 nta, i5 _ _ hT.2.1 nba, hT.2.2⟩
      have hm9 := alP_mono (m := k + 1) (400 - k)
      rw [show k + 1 + (400 - k) = 401 by omega] at hm9
      have hp9 : alP (k + 1) = (adK k (alP k).1, (alP k).2.1 + adC k (alP k).1, (alP k).2.2 + adS k (alP k).1) := rfl
      rw [hp9] at hm9; dsimp only at hm9
      refine ww_iload_n C dX8_all_2 rfl 0 rfl ?_
      refine ww_aload_n C dX8_all_3 rfl 1 rfl rfl ?_
      refine gf_X8_18_X8 C dX8_all_4 (Or.inl Hsc1) rfl ?_
      refine gf_X8_32_X2 C dX8_all_7 (Or.inl hT1.1) rfl ?_
      refine ww_icmp_ge_n (tgt := 76) C dX8_all_10 (by decide) (by omega) (by omega) (fun c_10 => ?_) (fun c_10 => ?_)
      · skip
        have hpe : p = t.2 := by omega
        have htc : tcn t = k := tcn_is hok (by rw [← hrun, hpe]; exact run_ge)
        have htl : tl t = k := tl_end htc hok
        have hkt : KT t k = (33, t.2) := by show (tK t k, tP t k) = _; unfold tK tP; rw [if_pos htc.symm, if_pos htc.symm]
        have Htp1 := hT1.1
        refine ww_aload_n C dX8_all_76 rfl 1 rfl rfl ?_
        refine gf_X8_12_X8 C dX8_all_77 (Or.inl Hsc1) rfl ?_
        refine nw_X8_54 C dX8_all_80 (by omega) (by omega) (fun ta ta_n ta_z ta_g => ?_)
        refine ww_gen (fun h21 hE21 => ?_)
        have Hsc1_h21 : h21 sc = some (.inr (7, [.ref tp, .ref al])) := by rw [hE21, up_n (ne_nw Hsc1 ta_n)]; exact Hsc1
        have Htp1_h21 : h21 tp = some (.inr (1, [.ref ba, .int (nI t.2)])) := by rw [hE21, up_n (ne_nw Htp1 ta_n)]; exact Htp1
        have N21_h21 : h21 ta = some (.inr (8, [.null, .null, .int (nI 0)])) := by rw [hE21]; exact up_s
        refine ww_dup C dX8_all_83 rfl ?_
        refine ww_gsv C (sv_6 (Cx.ok C)) q850 (fun _ q => q) dX8_all_84 ?_
        refine ww_ldcS (k := 64) C rfl q326 dX8_all_87 ?_
        refine ww_aload_n C dX8_all_89 rfl 1 rfl rfl ?_
        refine gf_X8_18_X8 C dX8_all_90 (Or.inl Hsc1_h21) rfl ?_
        refine gf_X8_32_X2 C dX8_all_93 (Or.inl Htp1_h21) rfl ?_
        refine ci_X8_77_q (As := [.ref (gE (xG X) 6), .ref (gE (xG X) 164), .int (nI t.2)]) (rest := [.ref ta, .ref al]) C dX8_all_96 (ct_X9_init (Cx.fl C) (Cx.ok C) N21_h21) rfl rfl (Nat.le_of_ble_eq_true rfl) (by decide) (Nat.zero_le _) (Nat.zero_le _) (fun z9 k1 q => ?_)
        obtain ⟨hq9, hK1⟩ := q; replace hq9 := hq9.symm; subst hq9
        rw [hE21, up_up] at hK1
        refine ww_frzN ta_n hK1 ?_
        generalize hz9 : zad z1 ta (.inr (8, [.ref (gE (xG X) 6), .ref (gE (xG X) 164), .int (nI t.2)])) = z2
        have hz12 : zle z1 z2 := by rw [← hz9]; exact fun a e q => Or.inl q
        have hz2 : zle (cst (xG X)) z2 := fun a e q => hz12 a e (hz1 a e q)
        have hh2 : hle h1 h1 := hle.rf
        have hto : z2 ta (.inr (8, [.ref (gE (xG X) 6), .ref (gE (xG X) 164), .int (nI t.2)])) := by rw [← hz9]; exact Or.inr ⟨rfl, rfl⟩
        have hob : obZ z2 ta := ⟨8, _, _, _, _, hto, rfl, q3413⟩
        have hL2 : ALm (xG X) h1 al arr k md cap A := i2.hm hh2
        have hel : ∀ i, i < k → obZ z2 (A i) := fun i hi => (i7 i hi).2.2.mono hz12
        refine ww_ow0 hz2 (fun ow2 => ?_)
        refine cv_X8_50_q (As := [.ref ta]) (rest := []) C dX8_all_99 (ct_J2_add (Cx.fl C) (Cx.ok C) hz2 hL2 i3 hel hob (by have := alP_cap k; omega)) (rc_J2 (Cx.ok C) (Or.inl hL2.1)) rfl rfl (Nat.le_of_ble_eq_true rfl) (by decide) (by rw [i4]; omega) (by rw [i4]; omega) (fun v9 z9 h3 q => ?_)
        obtain ⟨rfl, hq9, hA⟩ := q; replace hq9 := hq9.symm; subst hq9
        obtain ⟨arr2, cap2, hI2⟩ := hI.ad hz12 hh2 ow2 hA hob (s := gE (xG X) 164) (KT t) (fun j hj => (KD_T (by omega)).symm) (by rw [hkt]; exact TkG.plain hto (Or.inr rfl)) (Or.inr (by rw [hkt]; exact (by decide : (33 : Nat) ≠ 30)))
        have hsc3 : h3 sc = some (.inr (7, [.ref tp, .ref al])) := hI2.2.2.2.2.1 _ _ Hsc nsa
        refine ww_pop C dX8_all_102 rfl ?_
        refine ww_aload_n C dX8_all_103 rfl 1 rfl rfl ?_
        refine gf_X8_12_X8 C dX8_all_104 (Or.inl hsc3) rfl ?_
        exact ww_aret C (Or.inl ⟨_, rfl⟩) dX8_all_107 rfl (ScI.fin hI2 htl (fun j hj => rfl))
      · skip
        have hplt : p < t.2 := by omega
        refine ww_aload_n C dX8_all_13 rfl 1 rfl rfl ?_
        refine gf_X8_18_X8 C dX8_all_14 (Or.inl Hsc1) rfl ?_
        refine ww_iload_n C dX8_all_17 rfl 0 rfl ?_
        refine cv_X8_38_r (As := [.int (nI p)]) (rest := []) C dX8_all_18 (ct_X2_at (Cx.fl C) (Cx.ok C) hT1 ht (by omega)) (rc_X2 (Cx.ok C) (Or.inl hT1.1)) rfl rfl (Nat.le_of_ble_eq_true rfl) (by decide) (Nat.zero_le _) (Nat.zero_le _) ?_
        have hbp := byA_lt ht p
        refine cs_X8_42_r (As := [.int (nI (byA t p))]) (rest := []) C dX8_all_21 (ct_X8_isBlank (Cx.fl C) (Cx.ok C) (c := byA t p) (by omega)) rfl rfl (Nat.le_of_ble_eq_true rfl) (by decide) (Nat.zero_le _) (Nat.zero_le _) ?_
        refine ww_if_eq_b (tgt := 33) C dX8_all_24 (by decide) (fun c_24 => ?_) (fun c_24 => ?_)
        · skip
          have hbl : blP t p = false := by unfold blP; first | exact c_24 | simpa using c_24
          have hpk : tps t k = p := by rw [← hrun]; exact run_f hbl
          subst hpk
          refine ww_aload_n C dX8_all_33 rfl 1 rfl rfl ?_
          refine ww_iload_n C dX8_all_34 rfl 0 rfl ?_
          by_cases hk4 : k = 400
          · skip
            have hkd : tkd t k = 32 := by unfold tkd; rw [if_pos hk4]
            refine cv_X8_46_q (As := [.int (nI (tps t k))]) (rest := []) C dX8_all_35 (ct_X8_next4 (Cx.fl C) (Cx.ok C) hz1 Hsc1 hT1 ht i2 hk4 (by omega)) (rc_X8 (Cx.ok C) (Or.inl Hsc1)) rfl rfl (Nat.le_of_ble_eq_true rfl) (by decide) (by omega) (by omega) (fun vv z9 k1 q => ?_)
            obtain ⟨hq9, ta, hv, ta_n, ta_z, hK1⟩ := q; subst hv; replace hq9 := hq9.symm; subst hq9
            refine ww_frzN ta_n hK1 ?_
            generalize hz9 : zad z1 ta (.inr (8, [.ref (gE (xG X) 1), .ref (gE (xG X) 164), .int (nI (tps t k))])) = z2
            have hz12 : zle z1 z2 := by rw [← hz9]; exact fun a e q => Or.inl q
            have hz2 : zle (cst (xG X)) z2 := fun a e q => hz12 a e (hz1 a e q)
            have hh2 : hle h1 h1 := hle.rf
            have hto : z2 ta (.inr (8, [.ref (gE (xG X) 1), .ref (gE (xG X) 164), .int (nI (tps t k))])) := by rw [← hz9]; exact Or.inr ⟨rfl, rfl⟩
            refine ww_astore_n (lv' := [(2, .ref ta), (1, .int (nI (tps t k))), (0, .ref sc)]) C dX8_all_38 rfl (by decide) rfl rfl ?_
            refine ww_aload_n C dX8_all_39 rfl 2 rfl rfl ?_
            refine gf_X8_12_X8 C dX8_all_40 (Or.inl Hsc1) rfl ?_
            refine ww_aload_n C dX8_all_43 rfl 0 rfl rfl ?_
            have hob : obZ z2 ta := ⟨8, _, _, _, _, hto, rfl, q3413⟩
            have hL2 : ALm (xG X) h1 al arr k md cap A := i2.hm hh2
            have hel : ∀ i, i < k → obZ z2 (A i) := fun i hi => (i7 i hi).2.2.mono hz12
            refine ww_ow0 hz2 (fun ow2 => ?_)
            refine cv_X8_50_q (As := [.ref ta]) (rest := []) C dX8_all_44 (ct_J2_add (Cx.fl C) (Cx.ok C) hz2 hL2 i3 hel hob (by have := alP_cap k; omega)) (rc_J2 (Cx.ok C) (Or.inl hL2.1)) rfl rfl (Nat.le_of_ble_eq_true rfl) (by decide) (by rw [i4]; omega) (by rw [i4]; omega) (fun v9 z9 h3 q => ?_)
            obtain ⟨rfl, hq9, hA⟩ := q; replace hq9 := hq9.symm; subst hq9
            obtain ⟨arr2, cap2, hI2⟩ := hI.ad hz12 hh2 ow2 hA hob (s := gE (xG X) 164) (KD t) (fun _ _ => rfl) (by show TkG _ _ _ _ (tkd t k) (tps t k) _ _; rw [hkd]; exact TkG.plain hto (Or.inl rfl)) (Or.inr (by show tkd t k ≠ 30; rw [hkd]; decide))
            refine ww_pop C dX8_all_47 rfl ?_
            refine ww_aload_n C dX8_all_48 rfl 0 rfl rfl ?_
            refine gf_X8_53_X9 C dX8_all_49 (Or.inr hto) rfl ?_
            refine ww_gsv C (sv_1 (Cx.ok C)) q324 (fun _ q => q) dX8_all_52 ?_
            refine ww_acmp_ne_f (rx := (some (gE (xG X) 1))) (ry := (some (gE (xG X) 1))) (tgt := 63) C dX8_all_55 (by decide) rfl ?_
            have htc : tcn t = k + 1 := tcn_is2 hok hplt hkd
            have htl : tl t = k := tl_bad htc hkd
            have hsc3 : h3 sc = some (.inr (7, [.ref tp, .ref al])) := hI2.2.2.2.2.1 _ _ Hsc nsa
            refine ww_aload_n C dX8_all_58 rfl 2 rfl rfl ?_
            refine gf_X8_12_X8 C dX8_all_59 (Or.inl hsc3) rfl ?_
            exact ww_aret C (Or.inl ⟨_, rfl⟩) dX8_all_62 rfl (ScI.fin hI2 htl (fun j hj => KD_T (by omega)))
          · skip
            have hkd : tkd t k = tkK t (tps t k) := by unfold tkd; rw [if_neg hk4]
            have hE1 := tkE_ge (t := t) (a := tps t k)
            have hE2 := tkE_le hplt
            have hsb := sbP_b (tkE t (tps t k) - tps t k)
            have hsc8 := sbP_8 (m := tkE t (tps t k) - tps t k) (by omega)
            refine cv_X8_46_q (As := [.int (nI (tps t k))]) (rest := []) C dX8_all_35 (ct_X8_next (Cx.fl C) (Cx.ok C) hz1 Hsc1 hT1 ht i2 (by omega) hplt) (rc_X8 (Cx.ok C) (Or.inl Hsc1)) rfl rfl (Nat.le_of_ble_eq_true rfl) (by decide) (by omega) (by omega) (fun vv z9 k1 q => ?_)
            obtain ⟨hq9, ta, s, w, g, hv, hts, htw, hsw, ⟨ta_n, s_n, w_n⟩, ⟨ta_z, s_z, w_z⟩, hg, hK1⟩ := q; subst hv; replace hq9 := hq9.symm; subst hq9
            rw [← hkd] at hK1
            have hs0 : h s = none := hI.nn s_n
            have hsc0 := cst_ne hz1 s_z
            refine ww_frzN (h0 := up (up h1 w (.inl (gA (xG X) 1, (tkE t (tps t k) - tps t k, .inl g)))) s (.inr (25, [.ref w, .int (nI 0), .int (nI 0), .int (nI 0)]))) (by rw [up_n hts, up_n htw]; exact ta_n) hK1 ?_
            generalize hz9 : zad z1 ta (.inr (8, [.ref (gE (xG X) (srt (tkd t k))), .ref s, .int (nI (tps t k))])) = z2
            have hz12 : zle z1 z2 := by rw [← hz9]; exact fun a e q => Or.inl q
            have hto : z2 ta (.inr (8, [.ref (gE (xG X) (srt (tkd t k))), .ref s, .int (nI (tps t k))])) := by rw [← hz9]; exact Or.inr ⟨rfl, rfl⟩
            have Hsc2 : (up (up h1 w (.inl (gA (xG X) 1, (tkE t (tps t k) - tps t k, .inl g)))) s (.inr (25, [.ref w, .int (nI 0), .int (nI 0), .int (nI 0)]))) sc = some (.inr (7, [.ref tp, .ref al])) := by rw [up_n (ne_nw Hsc1 s_n), up_n (ne_nw Hsc1 w_n)]; exact Hsc1
            refine ww_astore_n (lv' := [(2, .ref ta), (1, .int (nI (tps t k))), (0, .ref sc)]) C dX8_all_38 rfl (by decide) rfl rfl ?_
            refine ww_aload_n C dX8_all_39 rfl 2 rfl rfl ?_
            refine gf_X8_12_X8 C dX8_all_40 (Or.inl Hsc2) rfl ?_
            refine ww_aload_n C dX8_all_43 rfl 0 rfl rfl ?_
            by_cases h30 : tkd t k = 30
            · skip
              generalize hh9 : up (up h1 w (.inl (gA (xG X) 1, (tkE t (tps t k) - tps t k, .inl g)))) s (.inr (25, [.ref w, .int (nI 0), .int (nI 0), .int (nI 0)])) = h2
              have hh2 : hle h1 h2 := by rw [← hh9]; exact hle_nw2 w_n s_n
              have hz2 : zle (cst (xG X)) z2 := fun a e q => hz12 a e (hz1 a e q)
              have hs2 : h2 s = some (.inr (25, [.ref w, .int (nI 0), .int (nI 0), .int (nI 0)])) := by rw [← hh9, up_s]
              have hw2 : h2 w = some (.inl (gA (xG X) 1, (tkE t (tps t k) - tps t k, .inl g))) := by rw [← hh9, up_n (Ne.symm hsw), up_s]
              have hob : obZ z2 ta := ⟨8, _, _, _, _, hto, rfl, q3413⟩
              have hL2 : ALm (xG X) h2 al arr k md cap A := i2.hm hh2
              have hel : ∀ i, i < k → obZ z2 (A i) := fun i hi => (i7 i hi).2.2.mono hz12
              refine ww_ow0 hz2 (fun ow2 => ?_)
              refine cv_X8_50_q (As := [.ref ta]) (rest := []) C dX8_all_44 (ct_J2_add (Cx.fl C) (Cx.ok C) hz2 hL2 i3 hel hob (by have := alP_cap k; omega)) (rc_J2 (Cx.ok C) (Or.inl hL2.1)) rfl rfl (Nat.le_of_ble_eq_true rfl) (by decide) (by rw [i4]; omega) (by rw [i4]; omega) (fun v9 z9 h3 q => ?_)
              obtain ⟨rfl, hq9, hA⟩ := q; replace hq9 := hq9.symm; subst hq9
              obtain ⟨arr2, cap2, hI2⟩ := hI.ad hz12 hh2 ow2 hA hob (s := s) (KD t) (fun _ _ => rfl) (TkG.name h30 hk4 hto ((hA.sk hL2 ow2).2 _ _ _ hw2) ((hA.sk hL2 ow2).1 _ _ hs2) hg) (Or.inl s_n)
              refine ww_pop C dX8_all_47 rfl ?_
              refine ww_aload_n C dX8_all_48 rfl 0 rfl rfl ?_
              refine gf_X8_53_X9 C dX8_all_49 (Or.inr hto) rfl ?_
              refine ww_gsv C (sv_1 (Cx.ok C)) q324 (fun _ q => q) dX8_all_52 ?_
              by_cases h32 : tkd t k = 32
              · skip
                refine ww_acmp_ne_f (rx := (some (gE (xG X) (srt (tkd t k))))) (ry := (some (gE (xG X) 1))) (tgt := 63) C dX8_all_55 (by decide) (by rw [h32]; rfl) ?_
                have htc : tcn t = k + 1 := tcn_is2 hok hplt h32
                have htl : tl t = k := tl_bad htc h32
                have hsc3 : h3 sc = some (.inr (7, [.ref tp, .ref al])) := hI2.2.2.2.2.1 _ _ Hsc nsa
                refine ww_aload_n C dX8_all_58 rfl 2 rfl rfl ?_
                refine gf_X8_12_X8 C dX8_all_59 (Or.inl hsc3) rfl ?_
                exact ww_aret C (Or.inl ⟨_, rfl⟩) dX8_all_62 rfl (ScI.fin hI2 htl (fun j hj => KD_T (by omega)))
              · skip
                refine ww_acmp_ne_t (rx := (some (gE (xG X) (srt (tkd t k))))) (ry := (some (gE (xG X) 1))) (tgt := 63) C dX8_all_55 (by decide) (fun q => srt_1 (Cx.ok C) h32 (Option.some.inj q)) ?_
                refine ww_iload_n C dX8_all_63 rfl 1 rfl ?_
                refine ww_aload_n C dX8_all_64 rfl 0 rfl rfl ?_
                refine gf_X8_64_X9 C dX8_all_65 (Or.inr hto) rfl ?_
                refine cv_X8_68_r (As := []) (rest := [.int (nI (tps t k))]) C dX8_all_68 (ct_J11_length (Cx.fl C) (Cx.ok C) (show StU (xG X) z2 h3 s (tkE t (tps t k) - tps t k) (fun i => byA t (tps t k + i)) from ⟨w, _, _, g, Or.inl ((hA.sk hL2 ow2).1 _ _ hs2), Or.inl ((hA.sk hL2 ow2).2 _ _ _ hw2), by omega, hg⟩)) (StU.rc (Cx.ok C) (show StU (xG X) z2 h3 s (tkE t (tps t k) - tps t k) (fun i => byA t (tps t k + i)) from ⟨w, _, _, g, Or.inl ((hA.sk hL2 ow2).1 _ _ hs2), Or.inl ((hA.sk hL2 ow2).2 _ _ _ hw2), by omega, hg⟩)) rfl rfl (Nat.le_of_ble_eq_true rfl) (by decide) (Nat.zero_le _) (Nat.zero_le _) ?_
                refine ww_iaddn C dX8_all_71 ?_
                refine ww_st (st' := [.int (nI (tkE t (tps t k)))]) (by rw [show tps t k + (tkE t (tps t k) - tps t k) = tkE t (tps t k) by omega]) ?_
                refine ww_istore_n (lv' := [(1, .int (nI (tkE t (tps t k)))), (2, .ref ta), (0, .ref sc)]) C dX8_all_72 rfl (by decide) rfl ?_
                refine ww_goto (tgt := 2) C dX8_all_73 (by decide) ?_
                refine ww_sub [0, 2] rfl ?_
                have hl10 : tkE t (tps t k) - tps t k ≤ 16 := tk_short (by rw [← hkd]; exact h32)
                have hs16 := sbP_s _ hl10
                refine ww_le (kc' := 5 * (401 - (k + 1)) + 10 + ((alP 401).2.1 - (alP (k + 1)).2.1)) (ns' := 44 * (401 - (k + 1)) + 12000 + ((alP 401).2.2 - (alP (k + 1)).2.2)) (by rw [hp9, hs16, i4]; dsimp only; omega) (by rw [hp9, hs16, i4]; dsimp only; omega) ?_
                exact ih _ (k + 1) _ _ _ _ _ _ _ (by omega) hE2 rfl (by omega) (fun j hj => by rcases Nat.lt_or_ge j k with q | q; { exact hok j q }; { rw [show j = k by omega]; exact ⟨hplt, h32⟩ }) hI2
            · skip
              refine ww_frzN (h0 := up h1 w (.inl (gA (xG X) 1, (tkE t (tps t k) - tps t k, .inl g)))) (by rw [up_n hsw]; exact s_n) rfl ?_
              refine ww_frzN (h0 := h1) w_n rfl ?_
              have hh2 : hle h1 h1 := hle.rf
              generalize hz8 : zad (zad z2 s (.inr (25, [.ref w, .int (nI 0), .int (nI 0), .int (nI 0)]))) w (.inl (gA (xG X) 1, (tkE t (tps t k) - tps t k, .inl g))) = z3
              replace hz12 : zle z1 z3 := by rw [← hz8]; exact fun a e q => Or.inl (Or.inl (hz12 a e q))
              replace hto : z3 ta (.inr (8, [.ref (gE (xG X) (srt (tkd t k))), .ref s, .int (nI (tps t k))])) := by rw [← hz8]; exact Or.inl (Or.inl hto)
              have hro : z3 w (.inl (gA (xG X) 1, (tkE t (tps t k) - tps t k, .inl g))) := by rw [← hz8]; exact Or.inr ⟨rfl, rfl⟩
              have hst : z3 s (.inr (25, [.ref w, .int (nI 0), .int (nI 0), .int (nI 0)])) := by rw [← hz8]; exact Or.inl (Or.inr ⟨rfl, rfl⟩)
              have hz2 : zle (cst (xG X)) z3 := fun a e q => hz12 a e (hz1 a e q)
              have hsu : StU (xG X) z3 nh s (tkE t (tps t k) - tps t k) (fun i => byA t (tps t k + i)) := ⟨w, _, _, g, Or.inr hst, Or.inr hro, by omega, hg⟩
              have hob : obZ z3 ta := ⟨8, _, _, _, _, hto, rfl, q3413⟩
              have hL2 : ALm (xG X) h1 al arr k md cap A := i2.hm hh2
              have hel : ∀ i, i < k → obZ z3 (A i) := fun i hi => (i7 i hi).2.2.mono hz12
              refine ww_ow0 hz2 (fun ow2 => ?_)
              refine cv_X8_50_q (As := [.ref ta]) (rest := []) C dX8_all_44 (ct_J2_add (Cx.fl C) (Cx.ok C) hz2 hL2 i3 hel hob (by have := alP_cap k; omega)) (rc_J2 (Cx.ok C) (Or.inl hL2.1)) rfl rfl (Nat.le_of_ble_eq_true rfl) (by decide) (by rw [i4]; omega) (by rw [i4]; omega) (fun v9 z9 h3 q => ?_)
              obtain ⟨rfl, hq9, hA⟩ := q; replace hq9 := hq9.symm; subst hq9
              obtain ⟨arr2, cap2, hI2⟩ := hI.ad hz12 hh2 ow2 hA hob (s := s) (KD t) (fun _ _ => rfl) (TkG.other ht h30 hk4 hplt hto hsu hsc0) (Or.inr h30)
              refine ww_pop C dX8_all_47 rfl ?_
              refine ww_aload_n C dX8_all_48 rfl 0 rfl rfl ?_
              refine gf_X8_53_X9 C dX8_all_49 (Or.inr hto) rfl ?_
              refine ww_gsv C (sv_1 (Cx.ok C)) q324 (fun _ q => q) dX8_all_52 ?_
              by_cases h32 : tkd t k = 32
              · skip
                refine ww_acmp_ne_f (rx := (some (gE (xG X) (srt (tkd t k))))) (ry := (some (gE (xG X) 1))) (tgt := 63) C dX8_all_55 (by decide) (by rw [h32]; rfl) ?_
                have htc : tcn t = k + 1 := tcn_is2 hok hplt h32
                have htl : tl t = k := tl_bad htc h32
                have hsc3 : h3 sc = some (.inr (7, [.ref tp, .ref al])) := hI2.2.2.2.2.1 _ _ Hsc nsa
                refine ww_aload_n C dX8_all_58 rfl 2 rfl rfl ?_
                refine gf_X8_12_X8 C dX8_all_59 (Or.inl hsc3) rfl ?_
                exact ww_aret C (Or.inl ⟨_, rfl⟩) dX8_all_62 rfl (ScI.fin hI2 htl (fun j hj => KD_T (by omega)))
              · skip
                refine ww_acmp_ne_t (rx := (some (gE (xG X) (srt (tkd t k))))) (ry := (some (gE (xG X) 1))) (tgt := 63) C dX8_all_55 (by decide) (fun q => srt_1 (Cx.ok C) h32 (Option.some.inj q)) ?_
                refine ww_iload_n C dX8_all_63 rfl 1 rfl ?_
                refine ww_aload_n C dX8_all_64 rfl 0 rfl rfl ?_
                refine gf_X8_64_X9 C dX8_all_65 (Or.inr hto) rfl ?_
                refine cv_X8_68_r (As := []) (rest := [.int (nI (tps t k))]) C dX8_all_68 (ct_J11_length (Cx.fl C) (Cx.ok C) (hsu.mono (h' := h3) (fun _ _ q => q) hle_nh)) (StU.rc (Cx.ok C) (hsu.mono (h' := h3) (fun _ _ q => q) hle_nh)) rfl rfl (Nat.le_of_ble_eq_true rfl) (by decide) (Nat.zero_le _) (Nat.zero_le _) ?_
                refine ww_iaddn C dX8_all_71 ?_
                refine ww_st (st' := [.int (nI (tkE t (tps t k)))]) (by rw [show tps t k + (tkE t (tps t k) - tps t k) = tkE t (tps t k) by omega]) ?_
                refine ww_istore_n (lv' := [(1, .int (nI (tkE t (tps t k)))), (2, .ref ta), (0, .ref sc)]) C dX8_all_72 rfl (by decide) rfl ?_
                refine ww_goto (tgt := 2) C dX8_all_73 (by decide) ?_
                refine ww_sub [0, 2] rfl ?_
                have hl10 : tkE t (tps t k) - tps t k ≤ 16 := tk_short (by rw [← hkd]; exact h32)
                have hs16 := sbP_s _ hl10
                refine ww_le (kc' := 5 * (401 - (k + 1)) + 10 + ((alP 401).2.1 - (alP (k + 1)).2.1)) (ns' := 44 * (401 - (k + 1)) + 12000 + ((alP 401).2.2 - (alP (k + 1)).2.2)) (by rw [hp9, hs16, i4]; dsimp only; omega) (by rw [hp9, hs16, i4]; dsimp only; omega) ?_
                exact ih _ (k + 1) _ _ _ _ _ _ _ (by omega) hE2 rfl (by omega) (fun j hj => by rcases Nat.lt_or_ge j k with q | q; { exact hok j q }; { rw [show j = k by omega]; exact ⟨hplt, h32⟩ }) hI2
        · skip
          have hbl : blP t p = true := by unfold blP; first | exact c_24 | simpa using c_24
          refine ww_iinc (lv' := [(1, .int (nI (p + 1))), (0, .ref sc)]) C dX8_all_27 0 rfl (inc_n _) (by decide) rfl ?_
          refine ww_goto (tgt := 2) C dX8_all_30 (by decide) ?_
          exact ih (p + 1) k z1 h1 arr cap md A S (by omega) (by omega) (by rw [← hrun]; exact (run_t hplt hbl).symm) hk hok hI
  refine ww_le (kc' := 5 * (401 - 0) + 10 + ((alP 401).2.1 - (alP 0).2.1)) (ns' := 44 * (401 - 0) + 12000 + ((alP 401).2.2 - (alP 0).2.2)) (by have : (alP 0).2.1 = 0 := rfl; omega) (by have : (alP 0).2.2 = 0 := rfl; omega) ?_
  exact key (t.2 + 1) 0 0 z h (gE (xG X) 0) 0 md0 A0 A0 (by omega) (Nat.zero_le _) rfl (Nat.zero_le _) (fun j hj => absurd hj (Nat.not_lt_zero j)) (ScI.st hL0)

end SCAN2
