section TOK3
set_option maxRecDepth 100000
def nh : AH := fun _ => none
theorem hle_nh {h : AH} : hle nh h := fun q e hq => by cases hq
def symT : List (List Nat) := [[43], [45], [42], [47], [60], [62], [61], [60, 61], [62, 61], [40], [41], [91], [93], [59], [44]]
/-- the text of a key or symbol -/
def kdT (κ : Nat) : List Nat := if κ < 24 then tx κ else symT.getD (κ - 40) []
def isKS (κ : Nat) : Bool := decide (κ < 24) || (decide (40 ≤ κ) && decide (κ ≤ 54))
/-- the constant of a kind's sort -/
def srt (κ : Nat) : Nat := if κ < 24 then 2 else if κ = 30 then 3 else if κ = 31 then 4 else if κ = 32 then 1 else if κ = 33 then 6 else 5
theorem srt_K {κ : Nat} (h : κ < 24) : srt κ = 2 := by unfold srt; rw [if_pos h]
theorem srt_S {κ : Nat} (h : 40 ≤ κ ∧ κ ≤ 54) : srt κ = 5 := by
  unfold srt
  rw [if_neg (by omega), if_neg (by omega), if_neg (by omega), if_neg (by omega), if_neg (by omega)]
theorem isKS_K {κ : Nat} (h : κ < 24) : isKS κ = true := by unfold isKS; rw [decide_eq_true h]; rfl
theorem isKS_S {κ : Nat} (h : 40 ≤ κ ∧ κ ≤ 54) : isKS κ = true := by unfold isKS; rw [decide_eq_true h.1, decide_eq_true h.2, Bool.and_self, Bool.or_true]
theorem isKS_3 (κ : Nat) : κ < 24 ∨ (40 ≤ κ ∧ κ ≤ 54) ∨ (isKS κ = false ∧ 24 ≤ κ ∧ ¬ (40 ≤ κ ∧ κ ≤ 54)) := by
  by_cases h : κ < 24
  · exact Or.inl h
  · by_cases h2 : 40 ≤ κ ∧ κ ≤ 54
    · exact Or.inr (Or.inl h2)
    · refine Or.inr (Or.inr ⟨?_, by omega, h2⟩)
      unfold isKS
      rw [decide_eq_false h, Bool.false_or, Bool.and_eq_false_iff]
      by_cases h3 : 40 ≤ κ
      · exact Or.inr (decide_eq_false (fun q => h2 ⟨h3, q⟩))
      · exact Or.inl (decide_eq_false h3)
theorem kdT_inj0 : ∀ a, a < 55 → ∀ b, b < 55 → isKS a = true → isKS b = true → kdT a = kdT b → a = b := by decide +kernel
theorem isKS_lt {κ : Nat} (h : isKS κ = true) : κ < 55 := by
  rcases isKS_3 κ with q | q | q
  · omega
  · omega
  · rw [q.1] at h; cases h
theorem kdT_dec {a b : Nat} (ha : isKS a = true) (hb : isKS b = true) : decide (kdT a = kdT b) = decide (a = b) := by
  by_cases h : a = b
  · rw [decide_eq_true h, h]; simp
  · rw [decide_eq_false h, decide_eq_false (fun q => h (kdT_inj0 a (isKS_lt ha) b (isKS_lt hb) ha hb q))]
theorem getD_ext {l1 l2 : List Nat} (h : l1.length = l2.length) (h2 : ∀ j, j < l1.length → l1.getD j 0 = l2.getD j 0) : l1 = l2 := by
  apply List.ext_getElem h
  intro i h3 h4
  have := h2 i h3
  rw [List.getD_eq_getElem?_getD, List.getD_eq_getElem?_getD, List.getElem?_eq_getElem h3, List.getElem?_eq_getElem h4] at this
  exact this
theorem eqU_L {l1 l2 : List Nat} : eqU (fun j => l1.getD j 0) (fun j => l2.getD j 0) l1.length l2.length = decide (l1 = l2) := by
  rw [Bool.eq_iff_iff, eqU_iff, decide_eq_true_eq]
  refine ⟨fun h => getD_ext h.1 h.2, fun h => by rw [h]; exact ⟨rfl, fun _ _ => rfl⟩⟩
theorem kl_e : ∀ j, j < 24 → [100, 101, 102, 103, 104, 105, 106, 107, 108, 109, 110, 111, 112, 113, 114, 115, 116, 117, 118, 119, 120, 121, 122, 123].getD j 0 = 100 + j := by decide
theorem srt_n {Γ : Gm} (hΓ : GOK Γ) (κ : Nat) (h1 : 24 ≤ κ) (h2 : ¬ (40 ≤ κ ∧ κ ≤ 54)) (h3 : κ = 30 ∨ κ = 31 ∨ κ = 32 ∨ κ = 33) : gE Γ (srt κ) ≠ gE Γ 2 ∧ gE Γ (srt κ) ≠ gE Γ 5 := by
  rcases h3 with rfl | rfl | rfl | rfl
  · exact ⟨ne_3_2 hΓ, ne_3_5 hΓ⟩
  · exact ⟨ne_4_2 hΓ, ne_4_5 hΓ⟩
  · exact ⟨ne_1_2 hΓ, ne_1_5 hΓ⟩
  · exact ⟨ne_6_2 hΓ, ne_6_5 hΓ⟩
/-- a kind that a token can have -/
def kdV (κ : Nat) : Prop := isKS κ = true ∨ κ = 30 ∨ κ = 31 ∨ κ = 32 ∨ κ = 33
/-- a token: its kind and place; a key's and symbol's text -/
def TkO (Γ : Gm) (z : ZR) (a κ p s : Nat) : Prop := z a (.inr (8, [.ref (gE Γ (srt κ)), .ref s, .int (nI p)])) ∧ (isKS κ = true → StU Γ z nh s (kdT κ).length (fun j => (kdT κ).getD j 0) ∧ ∀ k, k < 91 → s ≠ gE Γ (100 + k))
set_option maxHeartbeats 2000000 in
theorem ct_X9_is {l : Launch} {Γ : Gm} (hl : l.flags = flags0) (hΓ : GOK Γ) {z : ZR} {h : AH} {a s p κ lm w : Nat} (hz : zle (cst Γ) z) (hT : TkO Γ z a κ p s) (hw : w < 91) (hkv : kdV κ) (hlm : isKS lm = true) (htx : tx w = kdT lm) : Ct l Γ yX9_is cX9_is 2 (some .boolean) 3 0 0 [.ref a, .ref (gE Γ (100 + w))] z h (RdP z h (some (.int (bI (decide (κ = lm)))))) := by
  refine Ct.of hl hΓ (by decide +kernel) (Nat.le_of_ble_eq_true rfl) (fun X e1 e2 C => ?_)
  subst e1; subst e2
  have C : Cx X cX9_is 2 "RingDomino$Token" "is" (some .boolean) [] 3 := C
  obtain ⟨Ha, hs⟩ := id hT
  have hc := cst_st (h := h) hz hw
  show WW X (RdP z h (some (.int (bI (decide (κ = lm)))))) z h 0 0 0 [(0, .ref a), (1, .ref (gE (xG X) (100 + w)))] []
  have h3 : κ < 24 ∨ (40 ≤ κ ∧ κ ≤ 54) ∨ (isKS κ = false ∧ 24 ≤ κ ∧ ¬ (40 ≤ κ ∧ κ ≤ 54)) := isKS_3 κ
  rcases h3 with q3 | q3 | q3
  · skip
    have e9 : srt κ = 2 := srt_K q3
    have Ha : rd z h a (.inr (8, [.ref (gE (xG X) 2), .ref s, .int (nI p)])) := Or.inr (by rw [e9] at Ha; exact Ha)
    have hks : isKS κ = true := isKS_K q3
    refine ww_aload_n C dX9_is_0 rfl 0 rfl rfl ?_
    refine gf_X9_7_X9 C dX9_is_1 Ha rfl ?_
    refine ww_gsv C (sv_2 (Cx.ok C)) q949 (fun _ q => q) dX9_is_4 ?_
    refine ww_acmp_eq_t (rx := (some (gE (xG X) 2))) (ry := (some (gE (xG X) 2))) (tgt := 20) C dX9_is_7 (by decide) rfl ?_
    refine ww_aload_n C dX9_is_20 rfl 0 rfl rfl ?_
    refine gf_X9_13_X9 C dX9_is_21 Ha rfl ?_
    refine ww_aload_n C dX9_is_24 rfl 1 rfl rfl ?_
    refine cv_X9_29_r (As := [.ref (gE (xG X) (100 + w))]) (rest := []) C dX9_is_25 (ct_J11_equals (Cx.fl C) (Cx.ok C) ((hs hks).1.mono (fun _ _ q => q) hle_nh) hc (fun e => absurd e ((hs hks).2 w hw))) (StU.rc (Cx.ok C) ((hs hks).1.mono (h' := h) (fun _ _ q => q) hle_nh)) rfl rfl (Nat.le_of_ble_eq_true rfl) (by decide) (Nat.zero_le _) (Nat.zero_le _) ?_
    refine ww_tern_eq_b C dX9_is_28 dX9_is_31 dX9_is_32 dX9_is_35 ?_
    exact ww_zret C dX9_is_36 (nar_bI _) (RdP.i (by rw [eqU_L, htx, kdT_dec hks hlm]))
  · skip
    have e9 : srt κ = 5 := srt_S q3
    have Ha : rd z h a (.inr (8, [.ref (gE (xG X) 5), .ref s, .int (nI p)])) := Or.inr (by rw [e9] at Ha; exact Ha)
    have hks : isKS κ = true := isKS_S q3
    refine ww_aload_n C dX9_is_0 rfl 0 rfl rfl ?_
    refine gf_X9_7_X9 C dX9_is_1 Ha rfl ?_
    refine ww_gsv C (sv_2 (Cx.ok C)) q949 (fun _ q => q) dX9_is_4 ?_
    refine ww_acmp_eq_f (rx := (some (gE (xG X) 5))) (ry := (some (gE (xG X) 2))) (tgt := 20) C dX9_is_7 (by decide) (fun q => ne_5_2 (Cx.ok C) (Option.some.inj q)) ?_
    refine ww_aload_n C dX9_is_10 rfl 0 rfl rfl ?_
    refine gf_X9_7_X9 C dX9_is_11 Ha rfl ?_
    refine ww_gsv C (sv_5 (Cx.ok C)) q950 (fun _ q => q) dX9_is_14 ?_
    refine ww_acmp_ne_f (rx := (some (gE (xG X) 5))) (ry := (some (gE (xG X) 5))) (tgt := 35) C dX9_is_17 (by decide) rfl ?_
    refine ww_aload_n C dX9_is_20 rfl 0 rfl rfl ?_
    refine gf_X9_13_X9 C dX9_is_21 Ha rfl ?_
    refine ww_aload_n C dX9_is_24 rfl 1 rfl rfl ?_
    refine cv_X9_29_r (As := [.ref (gE (xG X) (100 + w))]) (rest := []) C dX9_is_25 (ct_J11_equals (Cx.fl C) (Cx.ok C) ((hs hks).1.mono (fun _ _ q => q) hle_nh) hc (fun e => absurd e ((hs hks).2 w hw))) (StU.rc (Cx.ok C) ((hs hks).1.mono (h' := h) (fun _ _ q => q) hle_nh)) rfl rfl (Nat.le_of_ble_eq_true rfl) (by decide) (Nat.zero_le _) (Nat.zero_le _) ?_
    refine ww_tern_eq_b C dX9_is_28 dX9_is_31 dX9_is_32 dX9_is_35 ?_
    exact ww_zret C dX9_is_36 (nar_bI _) (RdP.i (by rw [eqU_L, htx, kdT_dec hks hlm]))
  · skip
    have hne : decide (κ = lm) = false := decide_eq_false (fun e => by rw [e, hlm] at q3; cases q3.1)
    have hn := srt_n (Cx.ok C) κ q3.2.1 q3.2.2 (hkv.resolve_left (by rw [q3.1]; decide))
    have Ha : rd z h a (.inr (8, [.ref (gE (xG X) (srt κ)), .ref s, .int (nI p)])) := Or.inr Ha
    refine ww_aload_n C dX9_is_0 rfl 0 rfl rfl ?_
    refine gf_X9_7_X9 C dX9_is_1 Ha rfl ?_
    refine ww_gsv C (sv_2 (Cx.ok C)) q949 (fun _ q => q) dX9_is_4 ?_
    refine ww_acmp_eq_f (rx := (some (gE (xG X) (srt κ)))) (ry := (some (gE (xG X) 2))) (tgt := 20) C dX9_is_7 (by decide) (fun q => hn.1 (Option.some.inj q)) ?_
    refine ww_aload_n C dX9_is_10 rfl 0 rfl rfl ?_
    refine gf_X9_7_X9 C dX9_is_11 Ha rfl ?_
    refine ww_gsv C (sv_5 (Cx.ok C)) q950 (fun _ q => q) dX9_is_14 ?_
    refine ww_acmp_ne_t (rx := (some (gE (xG X) (srt κ)))) (ry := (some (gE (xG X) 5))) (tgt := 35) C dX9_is_17 (by decide) (fun q => hn.2 (Option.some.inj q)) ?_
    refine ww_iconst C dX9_is_35 cI_0 ?_
    exact ww_zret C dX9_is_36 nar_z0 (RdP.i (by rw [hne]; try rfl))
set_option maxHeartbeats 2000000 in
theorem ct_X8_isKey {l : Launch} {Γ : Gm} (hl : l.flags = flags0) (hΓ : GOK Γ) {z : ZR} {h : AH} {s m : Nat} {u : Nat → Nat} (hz : zle (cst Γ) z) (hs : StU Γ z h s m u) (hn : ∀ k, k < 91 → s ≠ gE Γ (100 + k)) : Ct l Γ yX8_isKey cX8_isKey 5 (some .boolean) 3 0 0 [.ref s] z h (RdP z h (some (.int (bI (ff (fun k => eqU (fun j => (tx k).getD j 0) u (tx k).length m) 24 0).isSome)))) := by
  refine Ct.of hl hΓ (by decide +kernel) (Nat.le_of_ble_eq_true rfl) (fun X e1 e2 C => ?_)
  subst e1; subst e2
  have C : Cx X cX8_isKey 5 "RingDomino$Scanner" "isKey" (some .boolean) [] 3 := C
  have HW : rd z h (gE (xG X) 32) (.inl (gA (xG X) 6, (24, refs (fun k => some (gE (xG X) ([100, 101, 102, 103, 104, 105, 106, 107, 108, 109, 110, 111, 112, 113, 114, 115, 116, 117, 118, 119, 120, 121, 122, 123].getD k 0)))))) := Or.inr (hz _ _ (Or.inr (Or.inr (Or.inr (Or.inr (Or.inr (Or.inr (Or.inl ⟨rfl, rfl⟩))))))))
  show WW X (RdP z h (some (.int (bI (ff (fun k => eqU (fun j => (tx k).getD j 0) u (tx k).length m) 24 0).isSome)))) z h 0 0 0 [(0, .ref s)] []
  refine ww_gsv C (sv_32 (Cx.ok C)) q693 (fun _ q => q) dX8_isKey_0 ?_
  refine ww_astore_n (lv' := [(1, .ref (gE (xG X) 32)), (0, .ref s)]) C dX8_isKey_3 rfl (by decide) rfl rfl ?_
  refine ww_aload_n C dX8_isKey_4 rfl 0 rfl rfl ?_
  refine ww_alen (t := 6) C dX8_isKey_5 (by decide) HW ?_
  refine ww_istore_n (lv' := [(2, .int (nI 24)), (1, .ref (gE (xG X) 32)), (0, .ref s)]) C dX8_isKey_6 rfl (by decide) rfl ?_
  refine ww_iconst C dX8_isKey_7 cI_0 ?_
  refine ww_istore_n (lv' := [(3, .int (nI 0)), (2, .int (nI 24)), (1, .ref (gE (xG X) 32)), (0, .ref s)]) C dX8_isKey_8 rfl (by decide) rfl ?_
  refine loop_up (N := 24) (M := fun j => ff (fun k => eqU (fun j => (tx k).getD j 0) u (tx k).length m) 24 0 = ff (fun k => eqU (fun j => (tx k).getD j 0) u (tx k).length m) (24 - j) j → WW X (RdP z h (some (.int (bI (ff (fun k => eqU (fun j => (tx k).getD j 0) u (tx k).length m) 24 0).isSome)))) z h 0 0 9 [(3, .int (nI j)), (2, .int (nI 24)), (1, .ref (gE (xG X) 32)), (0, .ref s)] []) ?_ ?_ 0 (Nat.zero_le _) rfl
  · intro hv; show WW X (RdP z h (some (.int (bI (ff (fun k => eqU (fun j => (tx k).getD j 0) u (tx k).length m) 24 0).isSome)))) z h 0 0 9 [(3, .int (nI 24)), (2, .int (nI 24)), (1, .ref (gE (xG X) 32)), (0, .ref s)] []
    refine ww_iload_n C dX8_isKey_9 rfl 0 rfl ?_
    refine ww_iload_n C dX8_isKey_10 rfl 1 rfl ?_
    refine ww_icmp_ge_t (tgt := 36) C dX8_isKey_11 (by decide) (nI_le (Nat.le_refl _) (by decide)) ?_
    refine ww_iconst C dX8_isKey_36 cI_0 ?_
    exact ww_zret C dX8_isKey_37 nar_z0 (RdP.i (by rw [hv, ff_0]; try rfl))
  · intro j hi ih hv
    show WW X (RdP z h (some (.int (bI (ff (fun k => eqU (fun j => (tx k).getD j 0) u (tx k).length m) 24 0).isSome)))) z h 0 0 9 [(3, .int (nI j)), (2, .int (nI 24)), (1, .ref (gE (xG X) 32)), (0, .ref s)] []
    have hcj := cst_st (h := h) hz (k := j) (by omega)
    refine ww_iload_n C dX8_isKey_9 rfl 0 rfl ?_
    refine ww_iload_n C dX8_isKey_10 rfl 1 rfl ?_
    refine ww_icmp_ge_f (tgt := 36) C dX8_isKey_11 (by decide) (nI_ge hi (by decide)) ?_
    refine ww_aload_n C dX8_isKey_14 rfl 2 rfl rfl ?_
    refine ww_iload_n C dX8_isKey_15 rfl 0 rfl ?_
    refine ww_aald (t := 6) C dX8_isKey_16 (by decide) rfl HW (by omega) (by decide) ?_
    refine ww_st (st' := [.ref (gE (xG X) (100 + j))]) (by rw [kl_e j hi]; rfl) ?_
    refine ww_astore (lv' := [(4, .ref (gE (xG X) (100 + j))), (3, .int (nI j)), (2, .int (nI 24)), (1, .ref (gE (xG X) 32)), (0, .ref s)]) C dX8_isKey_17 (by decide) rfl rfl ?_
    refine ww_aload C dX8_isKey_19 0 rfl rfl ?_
    refine ww_aload_n C dX8_isKey_21 rfl 4 rfl rfl ?_
    refine cv_X8_26_r (As := [.ref s]) (rest := []) C dX8_isKey_22 (ct_J11_equals (Cx.fl C) (Cx.ok C) hcj hs (fun e => absurd e.symm (hn j (by omega)))) (StU.rc (Cx.ok C) hcj) rfl rfl (Nat.le_of_ble_eq_true rfl) (by decide) (Nat.zero_le _) (Nat.zero_le _) ?_
    refine ww_if_eq_b (tgt := 30) C dX8_isKey_25 (by decide) (fun c_25 => ?_) (fun c_25 => ?_)
    · skip
      refine ww_iinc (lv' := [(3, .int (nI (j + 1))), (4, .ref (gE (xG X) (100 + j))), (2, .int (nI 24)), (1, .ref (gE (xG X) 32)), (0, .ref s)]) C dX8_isKey_30 1 rfl (inc_n _) (by decide) rfl ?_
      refine ww_goto (tgt := 9) C dX8_isKey_33 (by decide) ?_
      refine ww_sub [0, 2, 3, 4] rfl ?_
      exact ih (hv.trans (ff_f hi (by first | exact c_25 | (simpa using c_25))))
    · skip
      refine ww_iconst C dX8_isKey_28 cI_1 ?_
      exact ww_zret C dX8_isKey_29 nar_z1 (RdP.i (by rw [hv, ff_t hi (by first | exact c_25 | (simpa using c_25))]; try rfl))
end TOK3
