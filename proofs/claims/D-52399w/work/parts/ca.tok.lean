section TOK
set_option maxRecDepth 100000
set_option maxHeartbeats 2000000 in
theorem ct_X9_init {l : Launch} {Γ : Gm} (hl : l.flags = flags0) (hΓ : GOK Γ) {z : ZR} {h : AH} {a s t p : Nat} {e1 e2 : Value} {x : Int32} (Ha : h a = some (.inr (8, [e1, e2, .int x]))) : Ct l Γ yX9_init cX9_init 4 none 2 0 0 [.ref a, .ref s, .ref t, .int (nI p)] z h (Rn (fun z' h' => z' = z ∧ h' = up h a (.inr (8, [.ref s, .ref t, .int (nI p)])))) := by
  refine Ct.of hl hΓ (by decide +kernel) (Nat.le_of_ble_eq_true rfl) (fun X e1 e2 C => ?_)
  subst e1; subst e2
  have C : Cx X cX9_init 4 "RingDomino$Token" "<init>" none [] 2 := C
  show WW X (Rn (fun z' h' => z' = z ∧ h' = up h a (.inr (8, [.ref s, .ref t, .int (nI p)])))) z h 0 0 0 [(0, .ref a), (1, .ref s), (2, .ref t), (3, .int (nI p))] []
  refine ww_aload_n C dX9_init_0 rfl 0 rfl rfl ?_
  refine ww_objInit C q330 q172 q173 dX9_init_1 (by decide) (Nat.le_of_ble_eq_true rfl) ?_
  refine ww_aload_n C dX9_init_4 rfl 0 rfl rfl ?_
  refine ww_aload_n C dX9_init_5 rfl 1 rfl rfl ?_
  refine pf_X9_7_X9 (fs' := [.ref s, e2, .int x]) C dX9_init_6 Ha rfl rfl (Nat.le_of_ble_eq_true rfl) rfl ?_
  refine ww_gen (fun h1 hE1 => ?_)
  have Ha_h1 : h1 a = some (.inr (8, [.ref s, e2, .int x])) := by rw [hE1]; exact up_s
  refine ww_aload_n C dX9_init_9 rfl 0 rfl rfl ?_
  refine ww_aload_n C dX9_init_10 rfl 2 rfl rfl ?_
  refine pf_X9_13_X9 (fs' := [.ref s, .ref t, .int x]) C dX9_init_11 Ha_h1 rfl rfl (Nat.le_of_ble_eq_true rfl) rfl ?_
  refine ww_gen (fun h2 hE2 => ?_)
  have Ha_h2 : h2 a = some (.inr (8, [.ref s, .ref t, .int x])) := by rw [hE2]; exact up_s
  refine ww_aload_n C dX9_init_14 rfl 0 rfl rfl ?_
  refine ww_iload_n C dX9_init_15 rfl 3 rfl ?_
  refine pf_X9_17_X9 (fs' := [.ref s, .ref t, .int (nI p)]) C dX9_init_16 Ha_h2 rfl rfl (Nat.le_of_ble_eq_true rfl) rfl ?_
  refine ww_gen (fun h3 hE3 => ?_)
  have Ha_h3 : h3 a = some (.inr (8, [.ref s, .ref t, .int (nI p)])) := by rw [hE3]; exact up_s
  exact ww_vret C dX9_init_19 ⟨rfl, by rw [hE3, hE2, hE1, up_up, up_up]⟩
set_option maxHeartbeats 2000000 in
theorem ct_X8_isLetter {l : Launch} {Γ : Gm} (hl : l.flags = flags0) (hΓ : GOK Γ) {z : ZR} {h : AH} {c : Nat} (hc : c < 2 ^ 31) : Ct l Γ yX8_isLetter cX8_isLetter 1 (some .boolean) 1 0 0 [.int (nI c)] z h (RdP z h (some (.int (bI (isLt c))))) := by
  refine Ct.of hl hΓ (by decide +kernel) (Nat.le_of_ble_eq_true rfl) (fun X e1 e2 C => ?_)
  subst e1; subst e2
  have C : Cx X cX8_isLetter 1 "RingDomino$Scanner" "isLetter" (some .boolean) [] 1 := C
  show WW X (RdP z h (some (.int (bI (isLt c))))) z h 0 0 0 [(0, .int (nI c))] []
  refine ww_iload_n C dX8_isLetter_0 rfl 0 rfl ?_
  refine ww_bipush C dX8_isLetter_1 cB_97 ?_
  refine ww_icmp_lt_n (tgt := 16) C dX8_isLetter_3 (by decide) (by omega) (by decide) (fun c_3 => ?_) (fun c_3 => ?_)
  · skip
    refine ww_iconst C dX8_isLetter_16 cI_0 ?_
    exact ww_zret C dX8_isLetter_17 nar_z0 (RdP.i (by unfold isLt; rw [decide_eq_false (by omega)]; try rfl))
  · skip
    refine ww_iload_n C dX8_isLetter_6 rfl 0 rfl ?_
    refine ww_bipush C dX8_isLetter_7 cB_122 ?_
    refine ww_tern_icmp_gt_n C dX8_isLetter_9 dX8_isLetter_12 dX8_isLetter_13 dX8_isLetter_16 (by omega) (by decide) ?_
    exact ww_zret C dX8_isLetter_17 (nar_bI _) (RdP.i (by unfold isLt; rw [decide_eq_true (p := 97 ≤ c) (by omega), Bool.true_and]))
set_option maxHeartbeats 2000000 in
theorem ct_X8_isDigit {l : Launch} {Γ : Gm} (hl : l.flags = flags0) (hΓ : GOK Γ) {z : ZR} {h : AH} {c : Nat} (hc : c < 2 ^ 31) : Ct l Γ yX8_isDigit cX8_isDigit 1 (some .boolean) 1 0 0 [.int (nI c)] z h (RdP z h (some (.int (bI (isDg c))))) := by
  refine Ct.of hl hΓ (by decide +kernel) (Nat.le_of_ble_eq_true rfl) (fun X e1 e2 C => ?_)
  subst e1; subst e2
  have C : Cx X cX8_isDigit 1 "RingDomino$Scanner" "isDigit" (some .boolean) [] 1 := C
  show WW X (RdP z h (some (.int (bI (isDg c))))) z h 0 0 0 [(0, .int (nI c))] []
  refine ww_iload_n C dX8_isDigit_0 rfl 0 rfl ?_
  refine ww_bipush C dX8_isDigit_1 cB_48 ?_
  refine ww_icmp_lt_n (tgt := 16) C dX8_isDigit_3 (by decide) (by omega) (by decide) (fun c_3 => ?_) (fun c_3 => ?_)
  · skip
    refine ww_iconst C dX8_isDigit_16 cI_0 ?_
    exact ww_zret C dX8_isDigit_17 nar_z0 (RdP.i (by unfold isDg; rw [decide_eq_false (by omega)]; try rfl))
  · skip
    refine ww_iload_n C dX8_isDigit_6 rfl 0 rfl ?_
    refine ww_bipush C dX8_isDigit_7 cB_57 ?_
    refine ww_tern_icmp_gt_n C dX8_isDigit_9 dX8_isDigit_12 dX8_isDigit_13 dX8_isDigit_16 (by omega) (by decide) ?_
    exact ww_zret C dX8_isDigit_17 (nar_bI _) (RdP.i (by unfold isDg; rw [decide_eq_true (p := 48 ≤ c) (by omega), Bool.true_and]))
set_option maxHeartbeats 2000000 in
theorem ct_X8_isBlank {l : Launch} {Γ : Gm} (hl : l.flags = flags0) (hΓ : GOK Γ) {z : ZR} {h : AH} {c : Nat} (hc : c < 2 ^ 31) : Ct l Γ yX8_isBlank cX8_isBlank 1 (some .boolean) 1 0 0 [.int (nI c)] z h (RdP z h (some (.int (bI (isBl c))))) := by
  refine Ct.of hl hΓ (by decide +kernel) (Nat.le_of_ble_eq_true rfl) (fun X e1 e2 C => ?_)
  subst e1; subst e2
  have C : Cx X cX8_isBlank 1 "RingDomino$Scanner" "isBlank" (some .boolean) [] 1 := C
  show WW X (RdP z h (some (.int (bI (isBl c))))) z h 0 0 0 [(0, .int (nI c))] []
  refine ww_iload_n C dX8_isBlank_0 rfl 0 rfl ?_
  refine ww_bipush C dX8_isBlank_1 cB_32 ?_
  refine ww_icmp_eq_n (tgt := 12) C dX8_isBlank_3 (by decide) (by omega) (by decide) (fun c_3 => ?_) (fun c_3 => ?_)
  · skip
    refine ww_iconst C dX8_isBlank_12 cI_1 ?_
    refine ww_goto (tgt := 17) C dX8_isBlank_13 (by decide) ?_
    exact ww_zret C dX8_isBlank_17 nar_z1 (RdP.i (by unfold isBl; rw [decide_eq_true (p := c = 32) (by omega)]; try rfl))
  · skip
    refine ww_iload_n C dX8_isBlank_6 rfl 0 rfl ?_
    refine ww_bipush C dX8_isBlank_7 cB_10 ?_
    refine ww_tern_icmp_ne_n C dX8_isBlank_9 dX8_isBlank_12 dX8_isBlank_13 dX8_isBlank_16 (by omega) (by decide) ?_
    exact ww_zret C dX8_isBlank_17 (nar_bI _) (RdP.i (by unfold isBl; rw [decide_eq_false (p := c = 32) (by omega), Bool.false_or]))
end TOK
