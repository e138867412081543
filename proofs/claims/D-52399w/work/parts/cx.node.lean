section NODE
set_option maxRecDepth 100000
set_option maxHeartbeats 2000000 in
theorem ct_J26_init {l : Launch} {Γ : Gm} (hl : l.flags = flags0) (hΓ : GOK Γ) {z : ZR} {h : AH} {a k v : Nat} {hv x0 : Int32} {e1 e2 e3 : Value} (Ha : h a = some (.inr (28, [.int x0, e1, e2, e3]))) : Ct l Γ yJ26_init cJ26_init 5 none 2 0 0 [.ref a, .int hv, .ref k, .ref v, .null] z h (Rn (fun z' h' => z' = z ∧ h' = up h a (.inr (28, [.int hv, .ref k, .ref v, .null])))) := by
  refine Ct.of hl hΓ (by decide +kernel) (Nat.le_of_ble_eq_true rfl) (fun X e1 e2 C => ?_)
  subst e1; subst e2
  have C : Cx X cJ26_init 5 "java/util/HashMap$Node" "<init>" none [] 2 := C
  show WW X (Rn (fun z' h' => z' = z ∧ h' = up h a (.inr (28, [.int hv, .ref k, .ref v, .null])))) z h 0 0 0 [(0, .ref a), (1, .int hv), (2, .ref k), (3, .ref v), (4, .null)] []
  refine ww_aload_n C dJ26_init_0 rfl 0 rfl rfl ?_
  refine ww_objInit C q1619 q172 q173 dJ26_init_1 (by decide) (Nat.le_of_ble_eq_true rfl) ?_
  refine ww_aload_n C dJ26_init_4 rfl 0 rfl rfl ?_
  refine ww_iload_n C dJ26_init_5 rfl 1 rfl ?_
  refine pf_J26_7_J26 (fs' := [.int hv, e1, e2, e3]) C dJ26_init_6 Ha rfl rfl (Nat.le_of_ble_eq_true rfl) rfl ?_
  refine ww_gen (fun h1 hE1 => ?_)
  have Ha_h1 : h1 a = some (.inr (28, [.int hv, e1, e2, e3])) := by rw [hE1]; exact up_s
  refine ww_aload_n C dJ26_init_9 rfl 0 rfl rfl ?_
  refine ww_aload_n C dJ26_init_10 rfl 2 rfl rfl ?_
  refine pf_J26_13_J26 (fs' := [.int hv, .ref k, e2, e3]) C dJ26_init_11 Ha_h1 rfl rfl (Nat.le_of_ble_eq_true rfl) rfl ?_
  refine ww_gen (fun h2 hE2 => ?_)
  have Ha_h2 : h2 a = some (.inr (28, [.int hv, .ref k, e2, e3])) := by rw [hE2]; exact up_s
  refine ww_aload_n C dJ26_init_14 rfl 0 rfl rfl ?_
  refine ww_aload_n C dJ26_init_15 rfl 3 rfl rfl ?_
  refine pf_J26_17_J26 (fs' := [.int hv, .ref k, .ref v, e3]) C dJ26_init_16 Ha_h2 rfl rfl (Nat.le_of_ble_eq_true rfl) rfl ?_
  refine ww_gen (fun h3 hE3 => ?_)
  have Ha_h3 : h3 a = some (.inr (28, [.int hv, .ref k, .ref v, e3])) := by rw [hE3]; exact up_s
  refine ww_aload_n C dJ26_init_19 rfl 0 rfl rfl ?_
  refine ww_aload C dJ26_init_20 4 rfl rfl ?_
  refine pf_J26_20_J26 (fs' := [.int hv, .ref k, .ref v, .null]) C dJ26_init_22 Ha_h3 rfl rfl (Nat.le_of_ble_eq_true rfl) rfl ?_
  refine ww_gen (fun h4 hE4 => ?_)
  have Ha_h4 : h4 a = some (.inr (28, [.int hv, .ref k, .ref v, .null])) := by rw [hE4]; exact up_s
  exact ww_vret C dJ26_init_25 ⟨rfl, by rw [hE4, hE3, hE2, hE1, up_up, up_up, up_up]⟩
set_option maxHeartbeats 2000000 in
theorem ct_J26_initTN {l : Launch} {Γ : Gm} (hl : l.flags = flags0) (hΓ : GOK Γ) {z : ZR} {h : AH} {a k v : Nat} {hv : Int32} (Ha : h a = some (.inr (29, [.null, .null, .int (nI 0), .null, .null, .null, .null, .null, .null, .null, .int (nI 0)]))) : Ct l Γ yJ26_init cJ26_init 5 none 2 0 0 [.ref a, .int hv, .ref k, .ref v, .null] z h (Rn (fun z' h' => z' = z ∧ h' = up h a (.inr (29, [.null, .null, .int hv, .ref k, .ref v, .null, .null, .null, .null, .null, .int (nI 0)])))) := by
  refine Ct.of hl hΓ (by decide +kernel) (Nat.le_of_ble_eq_true rfl) (fun X e1 e2 C => ?_)
  subst e1; subst e2
  have C : Cx X cJ26_init 5 "java/util/HashMap$Node" "<init>" none [] 2 := C
  show WW X (Rn (fun z' h' => z' = z ∧ h' = up h a (.inr (29, [.null, .null, .int hv, .ref k, .ref v, .null, .null, .null, .null, .null, .int (nI 0)])))) z h 0 0 0 [(0, .ref a), (1, .int hv), (2, .ref k), (3, .ref v), (4, .null)] []
  refine ww_aload_n C dJ26_init_0 rfl 0 rfl rfl ?_
  refine ww_objInit C q1619 q172 q173 dJ26_init_1 (by decide) (Nat.le_of_ble_eq_true rfl) ?_
  refine ww_aload_n C dJ26_init_4 rfl 0 rfl rfl ?_
  refine ww_iload_n C dJ26_init_5 rfl 1 rfl ?_
  refine pf_J26_7_J28 (fs' := [.null, .null, .int hv, .null, .null, .null, .null, .null, .null, .null, .int (nI 0)]) C dJ26_init_6 Ha rfl rfl (Nat.le_of_ble_eq_true rfl) rfl ?_
  refine ww_gen (fun h1 hE1 => ?_)
  have Ha_h1 : h1 a = some (.inr (29, [.null, .null, .int hv, .null, .null, .null, .null, .null, .null, .null, .int (nI 0)])) := by rw [hE1]; exact up_s
  refine ww_aload_n C dJ26_init_9 rfl 0 rfl rfl ?_
  refine ww_aload_n C dJ26_init_10 rfl 2 rfl rfl ?_
  refine pf_J26_13_J28 (fs' := [.null, .null, .int hv, .ref k, .null, .null, .null, .null, .null, .null, .int (nI 0)]) C dJ26_init_11 Ha_h1 rfl rfl (Nat.le_of_ble_eq_true rfl) rfl ?_
  refine ww_gen (fun h2 hE2 => ?_)
  have Ha_h2 : h2 a = some (.inr (29, [.null, .null, .int hv, .ref k, .null, .null, .null, .null, .null, .null, .int (nI 0)])) := by rw [hE2]; exact up_s
  refine ww_aload_n C dJ26_init_14 rfl 0 rfl rfl ?_
  refine ww_aload_n C dJ26_init_15 rfl 3 rfl rfl ?_
  refine pf_J26_17_J28 (fs' := [.null, .null, .int hv, .ref k, .ref v, .null, .null, .null, .null, .null, .int (nI 0)]) C dJ26_init_16 Ha_h2 rfl rfl (Nat.le_of_ble_eq_true rfl) rfl ?_
  refine ww_gen (fun h3 hE3 => ?_)
  have Ha_h3 : h3 a = some (.inr (29, [.null, .null, .int hv, .ref k, .ref v, .null, .null, .null, .null, .null, .int (nI 0)])) := by rw [hE3]; exact up_s
  refine ww_aload_n C dJ26_init_19 rfl 0 rfl rfl ?_
  refine ww_aload C dJ26_init_20 4 rfl rfl ?_
  refine pf_J26_20_J28 (fs' := [.null, .null, .int hv, .ref k, .ref v, .null, .null, .null, .null, .null, .int (nI 0)]) C dJ26_init_22 Ha_h3 rfl rfl (Nat.le_of_ble_eq_true rfl) rfl ?_
  refine ww_gen (fun h4 hE4 => ?_)
  have Ha_h4 : h4 a = some (.inr (29, [.null, .null, .int hv, .ref k, .ref v, .null, .null, .null, .null, .null, .int (nI 0)])) := by rw [hE4]; exact up_s
  exact ww_vret C dJ26_init_25 ⟨rfl, by rw [hE4, hE3, hE2, hE1, up_up, up_up, up_up]⟩
set_option maxHeartbeats 2000000 in
theorem ct_J27_initN {l : Launch} {Γ : Gm} (hl : l.flags = flags0) (hΓ : GOK Γ) {z : ZR} {h : AH} {a k v : Nat} {hv : Int32} (Ha : h a = some (.inr (29, [.null, .null, .int (nI 0), .null, .null, .null, .null, .null, .null, .null, .int (nI 0)]))) : Ct l Γ yJ27_init cJ27_init 5 none 3 0 0 [.ref a, .int hv, .ref k, .ref v, .null] z h (Rn (fun z' h' => z' = z ∧ h' = up h a (.inr (29, [.null, .null, .int hv, .ref k, .ref v, .null, .null, .null, .null, .null, .int (nI 0)])))) := by
  refine Ct.of hl hΓ (by decide +kernel) (Nat.le_of_ble_eq_true rfl) (fun X e1 e2 C => ?_)
  subst e1; subst e2
  have C : Cx X cJ27_init 5 "java/util/LinkedHashMap$Entry" "<init>" none [] 3 := C
  show WW X (Rn (fun z' h' => z' = z ∧ h' = up h a (.inr (29, [.null, .null, .int hv, .ref k, .ref v, .null, .null, .null, .null, .null, .int (nI 0)])))) z h 0 0 0 [(0, .ref a), (1, .int hv), (2, .ref k), (3, .ref v), (4, .null)] []
  refine ww_aload_n C dJ27_init_0 rfl 0 rfl rfl ?_
  refine ww_iload_n C dJ27_init_1 rfl 1 rfl ?_
  refine ww_aload_n C dJ27_init_2 rfl 2 rfl rfl ?_
  refine ww_aload_n C dJ27_init_3 rfl 3 rfl rfl ?_
  refine ww_aload C dJ27_init_4 4 rfl rfl ?_
  refine ci_J27_1_q (As := [.int hv, .ref k, .ref v, .null]) (rest := []) C dJ27_init_6 (ct_J26_initTN (Cx.fl C) (Cx.ok C) Ha) rfl rfl (Nat.le_of_ble_eq_true rfl) (by decide) (Nat.zero_le _) (Nat.zero_le _) (fun z1 k1 q => ?_)
  obtain ⟨hq1, hK⟩ := q; replace hq1 := hq1.symm; subst hq1
  exact ww_vret C dJ27_init_9 ⟨rfl, hK⟩
set_option maxHeartbeats 2000000 in
theorem ct_J28_initN {l : Launch} {Γ : Gm} (hl : l.flags = flags0) (hΓ : GOK Γ) {z : ZR} {h : AH} {a k v : Nat} {hv : Int32} (Ha : h a = some (.inr (29, [.null, .null, .int (nI 0), .null, .null, .null, .null, .null, .null, .null, .int (nI 0)]))) : Ct l Γ yJ28_init cJ28_init 5 none 4 0 0 [.ref a, .int hv, .ref k, .ref v, .null] z h (Rn (fun z' h' => z' = z ∧ h' = up h a (.inr (29, [.null, .null, .int hv, .ref k, .ref v, .null, .null, .null, .null, .null, .int (nI 0)])))) := by
  refine Ct.of hl hΓ (by decide +kernel) (Nat.le_of_ble_eq_true rfl) (fun X e1 e2 C => ?_)
  subst e1; subst e2
  have C : Cx X cJ28_init 5 "java/util/HashMap$TreeNode" "<init>" none [] 4 := C
  show WW X (Rn (fun z' h' => z' = z ∧ h' = up h a (.inr (29, [.null, .null, .int hv, .ref k, .ref v, .null, .null, .null, .null, .null, .int (nI 0)])))) z h 0 0 0 [(0, .ref a), (1, .int hv), (2, .ref k), (3, .ref v), (4, .null)] []
  refine ww_aload_n C dJ28_init_0 rfl 0 rfl rfl ?_
  refine ww_iload_n C dJ28_init_1 rfl 1 rfl ?_
  refine ww_aload_n C dJ28_init_2 rfl 2 rfl rfl ?_
  refine ww_aload_n C dJ28_init_3 rfl 3 rfl rfl ?_
  refine ww_aload C dJ28_init_4 4 rfl rfl ?_
  refine ci_J28_3_q (As := [.int hv, .ref k, .ref v, .null]) (rest := []) C dJ28_init_6 (ct_J27_initN (Cx.fl C) (Cx.ok C) Ha) rfl rfl (Nat.le_of_ble_eq_true rfl) (by decide) (Nat.zero_le _) (Nat.zero_le _) (fun z1 k1 q => ?_)
  obtain ⟨hq1, hK⟩ := q; replace hq1 := hq1.symm; subst hq1
  exact ww_vret C dJ28_init_9 ⟨rfl, hK⟩
set_option maxHeartbeats 2000000 in
theorem ct_J22_newTreeNodeN {l : Launch} {Γ : Gm} (hl : l.flags = flags0) (hΓ : GOK Γ) {z : ZR} {h : AH} {mp k v : Nat} {hv : Int32}  : Ct l Γ yJ22_newTreeNode cJ22_newTreeNode 5 (some (.object "java/util/HashMap$TreeNode")) 5 1 11 [.ref mp, .int hv, .ref k, .ref v, .null] z h (Rv (fun v9 z' h' => z' = z ∧ ∃ a, v9 = .ref a ∧ h a = none ∧ (∀ e, ¬ z a e) ∧ h' = up h a (.inr (29, [.null, .null, .int hv, .ref k, .ref v, .null, .null, .null, .null, .null, .int (nI 0)])))) := by
  refine Ct.of hl hΓ (by decide +kernel) (Nat.le_of_ble_eq_true rfl) (fun X e1 e2 C => ?_)
  subst e1; subst e2
  have C : Cx X cJ22_newTreeNode 5 "java/util/HashMap" "newTreeNode" (some (.object "java/util/HashMap$TreeNode")) [] 5 := C
  show WW X (Rv (fun v9 z' h' => z' = z ∧ ∃ a, v9 = .ref a ∧ h a = none ∧ (∀ e, ¬ z a e) ∧ h' = up h a (.inr (29, [.null, .null, .int hv, .ref k, .ref v, .null, .null, .null, .null, .null, .int (nI 0)])))) z h 1 11 0 [(0, .ref mp), (1, .int hv), (2, .ref k), (3, .ref v), (4, .null)] []
  refine nw_J22_180 C dJ22_newTreeNode_0 (by decide) (by decide) (fun a a_n a_z a_g => ?_)
  refine ww_gen (fun h1 hE1 => ?_)
  have N1_h1 : h1 a = some (.inr (29, [.null, .null, .int (nI 0), .null, .null, .null, .null, .null, .null, .null, .int (nI 0)])) := by rw [hE1]; exact up_s
  refine ww_dup C dJ22_newTreeNode_3 rfl ?_
  refine ww_iload_n C dJ22_newTreeNode_4 rfl 1 rfl ?_
  refine ww_aload_n C dJ22_newTreeNode_5 rfl 2 rfl rfl ?_
  refine ww_aload_n C dJ22_newTreeNode_6 rfl 3 rfl rfl ?_
  refine ww_aload C dJ22_newTreeNode_7 4 rfl rfl ?_
  refine ci_J22_378_q (As := [.int hv, .ref k, .ref v, .null]) (rest := [.ref a]) C dJ22_newTreeNode_9 (ct_J28_initN (Cx.fl C) (Cx.ok C) N1_h1) rfl rfl (Nat.le_of_ble_eq_true rfl) (by decide) (Nat.zero_le _) (Nat.zero_le _) (fun z1 k1 q => ?_)
  obtain ⟨hq1, hK⟩ := q; replace hq1 := hq1.symm; subst hq1
  exact ww_aret C (Or.inl ⟨_, rfl⟩) dJ22_newTreeNode_12 rfl ⟨rfl, a, rfl, a_n, a_z, by rw [hK, hE1, up_up]⟩
set_option maxHeartbeats 2000000 in
theorem ct_J22_newNode {l : Launch} {Γ : Gm} (hl : l.flags = flags0) (hΓ : GOK Γ) {z : ZR} {h : AH} {mp k v : Nat} {hv : Int32}  : Ct l Γ yJ22_newNode cJ22_newNode 5 (some (.object "java/util/HashMap$Node")) 5 1 4 [.ref mp, .int hv, .ref k, .ref v, .null] z h (Rv (fun v9 z' h' => z' = z ∧ ∃ a, v9 = .ref a ∧ h a = none ∧ (∀ e, ¬ z a e) ∧ h' = up h a (.inr (28, [.int hv, .ref k, .ref v, .null])))) := by
  refine Ct.of hl hΓ (by decide +kernel) (Nat.le_of_ble_eq_true rfl) (fun X e1 e2 C => ?_)
  subst e1; subst e2
  have C : Cx X cJ22_newNode 5 "java/util/HashMap" "newNode" (some (.object "java/util/HashMap$Node")) [] 5 := C
  show WW X (Rv (fun v9 z' h' => z' = z ∧ ∃ a, v9 = .ref a ∧ h a = none ∧ (∀ e, ¬ z a e) ∧ h' = up h a (.inr (28, [.int hv, .ref k, .ref v, .null])))) z h 1 4 0 [(0, .ref mp), (1, .int hv), (2, .ref k), (3, .ref v), (4, .null)] []
  refine nw_J22_163 C dJ22_newNode_0 (by decide) (by decide) (fun a a_n a_z a_g => ?_)
  refine ww_gen (fun h1 hE1 => ?_)
  have N1_h1 : h1 a = some (.inr (28, [.int (nI 0), .null, .null, .null])) := by rw [hE1]; exact up_s
  refine ww_dup C dJ22_newNode_3 rfl ?_
  refine ww_iload_n C dJ22_newNode_4 rfl 1 rfl ?_
  refine ww_aload_n C dJ22_newNode_5 rfl 2 rfl rfl ?_
  refine ww_aload_n C dJ22_newNode_6 rfl 3 rfl rfl ?_
  refine ww_aload C dJ22_newNode_7 4 rfl rfl ?_
  refine ci_J22_375_q (As := [.int hv, .ref k, .ref v, .null]) (rest := [.ref a]) C dJ22_newNode_9 (ct_J26_init (Cx.fl C) (Cx.ok C) N1_h1) rfl rfl (Nat.le_of_ble_eq_true rfl) (by decide) (Nat.zero_le _) (Nat.zero_le _) (fun z1 k1 q => ?_)
  obtain ⟨hq1, hK⟩ := q; replace hq1 := hq1.symm; subst hq1
  exact ww_aret C (Or.inl ⟨_, rfl⟩) dJ22_newNode_12 rfl ⟨rfl, a, rfl, a_n, a_z, by rw [hK, hE1, up_up]⟩
set_option maxHeartbeats 2000000 in
theorem ct_J22_replacementTreeNode {l : Launch} {Γ : Gm} (hl : l.flags = flags0) (hΓ : GOK Γ) {z : ZR} {h : AH} {mp x k v : Nat} {hv : Int32} {e : Value} (Hx : rd z h x (.inr (28, [.int hv, .ref k, .ref v, e]))) : Ct l Γ yJ22_replacementTreeNode cJ22_replacementTreeNode 3 (some (.object "java/util/HashMap$TreeNode")) 5 1 11 [.ref mp, .ref x, .null] z h (Rv (fun v9 z' h' => z' = z ∧ ∃ a, v9 = .ref a ∧ h a = none ∧ (∀ e, ¬ z a e) ∧ h' = up h a (.inr (29, [.null, .null, .int hv, .ref k, .ref v, .null, .null, .null, .null, .null, .int (nI 0)])))) := by
  refine Ct.of hl hΓ (by decide +kernel) (Nat.le_of_ble_eq_true rfl) (fun X e1 e2 C => ?_)
  subst e1; subst e2
  have C : Cx X cJ22_replacementTreeNode 3 "java/util/HashMap" "replacementTreeNode" (some (.object "java/util/HashMap$TreeNode")) [] 5 := C
  show WW X (Rv (fun v9 z' h' => z' = z ∧ ∃ a, v9 = .ref a ∧ h a = none ∧ (∀ e, ¬ z a e) ∧ h' = up h a (.inr (29, [.null, .null, .int hv, .ref k, .ref v, .null, .null, .null, .null, .null, .int (nI 0)])))) z h 1 11 0 [(0, .ref mp), (1, .ref x), (2, .null)] []
  refine nw_J22_180 C dJ22_replacementTreeNode_0 (by decide) (by decide) (fun a a_n a_z a_g => ?_)
  refine ww_gen (fun h1 hE1 => ?_)
  have N1_h1 : h1 a = some (.inr (29, [.null, .null, .int (nI 0), .null, .null, .null, .null, .null, .null, .null, .int (nI 0)])) := by rw [hE1]; exact up_s
  have Hx1 : rd z h1 x (.inr (28, [.int hv, .ref k, .ref v, e])) := Hx.imp (fun q => by rw [hE1, up_n (ne_nw q a_n)]; exact q) id
  refine ww_dup C dJ22_replacementTreeNode_3 rfl ?_
  refine ww_aload_n C dJ22_replacementTreeNode_4 rfl 1 rfl rfl ?_
  refine gf_J22_168_J26 C dJ22_replacementTreeNode_5 Hx1 rfl ?_
  refine ww_aload_n C dJ22_replacementTreeNode_8 rfl 1 rfl rfl ?_
  refine gf_J22_170_J26 C dJ22_replacementTreeNode_9 Hx1 rfl ?_
  refine ww_aload_n C dJ22_replacementTreeNode_12 rfl 1 rfl rfl ?_
  refine gf_J22_162_J26 C dJ22_replacementTreeNode_13 Hx1 rfl ?_
  refine ww_aload_n C dJ22_replacementTreeNode_16 rfl 2 rfl rfl ?_
  refine ci_J22_378_q (As := [.int hv, .ref k, .ref v, .null]) (rest := [.ref a]) C dJ22_replacementTreeNode_17 (ct_J28_initN (Cx.fl C) (Cx.ok C) N1_h1) rfl rfl (Nat.le_of_ble_eq_true rfl) (by decide) (Nat.zero_le _) (Nat.zero_le _) (fun z1 k1 q => ?_)
  obtain ⟨hq1, hK⟩ := q; replace hq1 := hq1.symm; subst hq1
  exact ww_aret C (Or.inl ⟨_, rfl⟩) dJ22_replacementTreeNode_20 rfl ⟨rfl, a, rfl, a_n, a_z, by rw [hK, hE1, up_up]⟩
set_option maxHeartbeats 2000000 in
theorem ct_J26_initTR {l : Launch} {Γ : Gm} (hl : l.flags = flags0) (hΓ : GOK Γ) {z : ZR} {h : AH} {a k v : Nat} {hv : Int32} {o9 : Nat} (Ha : h a = some (.inr (29, [.null, .null, .int (nI 0), .null, .null, .null, .null, .null, .null, .null, .int (nI 0)]))) : Ct l Γ yJ26_init cJ26_init 5 none 2 0 0 [.ref a, .int hv, .ref k, .ref v, .ref o9] z h (Rn (fun z' h' => z' = z ∧ h' = up h a (.inr (29, [.null, .null, .int hv, .ref k, .ref v, .ref o9, .null, .null, .null, .null, .int (nI 0)])))) := by
  refine Ct.of hl hΓ (by decide +kernel) (Nat.le_of_ble_eq_true rfl) (fun X e1 e2 C => ?_)
  subst e1; subst e2
  have C : Cx X cJ26_init 5 "java/util/HashMap$Node" "<init>" none [] 2 := C
  show WW X (Rn (fun z' h' => z' = z ∧ h' = up h a (.inr (29, [.null, .null, .int hv, .ref k, .ref v, .ref o9, .null, .null, .null, .null, .int (nI 0)])))) z h 0 0 0 [(0, .ref a), (1, .int hv), (2, .ref k), (3, .ref v), (4, .ref o9)] []
  refine ww_aload_n C dJ26_init_0 rfl 0 rfl rfl ?_
  refine ww_objInit C q1619 q172 q173 dJ26_init_1 (by decide) (Nat.le_of_ble_eq_true rfl) ?_
  refine ww_aload_n C dJ26_init_4 rfl 0 rfl rfl ?_
  refine ww_iload_n C dJ26_init_5 rfl 1 rfl ?_
  refine pf_J26_7_J28 (fs' := [.null, .null, .int hv, .null, .null, .null, .null, .null, .null, .null, .int (nI 0)]) C dJ26_init_6 Ha rfl rfl (Nat.le_of_ble_eq_true rfl) rfl ?_
  refine ww_gen (fun h1 hE1 => ?_)
  have Ha_h1 : h1 a = some (.inr (29, [.null, .null, .int hv, .null, .null, .null, .null, .null, .null, .null, .int (nI 0)])) := by rw [hE1]; exact up_s
  refine ww_aload_n C dJ26_init_9 rfl 0 rfl rfl ?_
  refine ww_aload_n C dJ26_init_10 rfl 2 rfl rfl ?_
  refine pf_J26_13_J28 (fs' := [.null, .null, .int hv, .ref k, .null, .null, .null, .null, .null, .null, .int (nI 0)]) C dJ26_init_11 Ha_h1 rfl rfl (Nat.le_of_ble_eq_true rfl) rfl ?_
  refine ww_gen (fun h2 hE2 => ?_)
  have Ha_h2 : h2 a = some (.inr (29, [.null, .null, .int hv, .ref k, .null, .null, .null, .null, .null, .null, .int (nI 0)])) := by rw [hE2]; exact up_s
  refine ww_aload_n C dJ26_init_14 rfl 0 rfl rfl ?_
  refine ww_aload_n C dJ26_init_15 rfl 3 rfl rfl ?_
  refine pf_J26_17_J28 (fs' := [.null, .null, .int hv, .ref k, .ref v, .null, .null, .null, .null, .null, .int (nI 0)]) C dJ26_init_16 Ha_h2 rfl rfl (Nat.le_of_ble_eq_true rfl) rfl ?_
  refine ww_gen (fun h3 hE3 => ?_)
  have Ha_h3 : h3 a = some (.inr (29, [.null, .null, .int hv, .ref k, .ref v, .null, .null, .null, .null, .null, .int (nI 0)])) := by rw [hE3]; exact up_s
  refine ww_aload_n C dJ26_init_19 rfl 0 rfl rfl ?_
  refine ww_aload C dJ26_init_20 4 rfl rfl ?_
  refine pf_J26_20_J28 (fs' := [.null, .null, .int hv, .ref k, .ref v, .ref o9, .null, .null, .null, .null, .int (nI 0)]) C dJ26_init_22 Ha_h3 rfl rfl (Nat.le_of_ble_eq_true rfl) rfl ?_
  refine ww_gen (fun h4 hE4 => ?_)
  have Ha_h4 : h4 a = some (.inr (29, [.null, .null, .int hv, .ref k, .ref v, .ref o9, .null, .null, .null, .null, .int (nI 0)])) := by rw [hE4]; exact up_s
  exact ww_vret C dJ26_init_25 ⟨rfl, by rw [hE4, hE3, hE2, hE1, up_up, up_up, up_up]⟩
set_option maxHeartbeats 2000000 in
theorem ct_J27_initR {l : Launch} {Γ : Gm} (hl : l.flags = flags0) (hΓ : GOK Γ) {z : ZR} {h : AH} {a k v : Nat} {hv : Int32} {o9 : Nat} (Ha : h a = some (.inr (29, [.null, .null, .int (nI 0), .null, .null, .null, .null, .null, .null, .null, .int (nI 0)]))) : Ct l Γ yJ27_init cJ27_init 5 none 3 0 0 [.ref a, .int hv, .ref k, .ref v, .ref o9] z h (Rn (fun z' h' => z' = z ∧ h' = up h a (.inr (29, [.null, .null, .int hv, .ref k, .ref v, .ref o9, .null, .null, .null, .null, .int (nI 0)])))) := by
  refine Ct.of hl hΓ (by decide +kernel) (Nat.le_of_ble_eq_true rfl) (fun X e1 e2 C => ?_)
  subst e1; subst e2
  have C : Cx X cJ27_init 5 "java/util/LinkedHashMap$Entry" "<init>" none [] 3 := C
  show WW X (Rn (fun z' h' => z' = z ∧ h' = up h a (.inr (29, [.null, .null, .int hv, .ref k, .ref v, .ref o9, .null, .null, .null, .null, .int (nI 0)])))) z h 0 0 0 [(0, .ref a), (1, .int hv), (2, .ref k), (3, .ref v), (4, .ref o9)] []
  refine ww_aload_n C dJ27_init_0 rfl 0 rfl rfl ?_
  refine ww_iload_n C dJ27_init_1 rfl 1 rfl ?_
  refine ww_aload_n C dJ27_init_2 rfl 2 rfl rfl ?_
  refine ww_aload_n C dJ27_init_3 rfl 3 rfl rfl ?_
  refine ww_aload C dJ27_init_4 4 rfl rfl ?_
  refine ci_J27_1_q (As := [.int hv, .ref k, .ref v, .ref o9]) (rest := []) C dJ27_init_6 (ct_J26_initTR (Cx.fl C) (Cx.ok C) Ha) rfl rfl (Nat.le_of_ble_eq_true rfl) (by decide) (Nat.zero_le _) (Nat.zero_le _) (fun z1 k1 q => ?_)
  obtain ⟨hq1, hK⟩ := q; replace hq1 := hq1.symm; subst hq1
  exact ww_vret C dJ27_init_9 ⟨rfl, hK⟩
set_option maxHeartbeats 2000000 in
theorem ct_J28_initR {l : Launch} {Γ : Gm} (hl : l.flags = flags0) (hΓ : GOK Γ) {z : ZR} {h : AH} {a k v : Nat} {hv : Int32} {o9 : Nat} (Ha : h a = some (.inr (29, [.null, .null, .int (nI 0), .null, .null, .null, .null, .null, .null, .null, .int (nI 0)]))) : Ct l Γ yJ28_init cJ28_init 5 none 4 0 0 [.ref a, .int hv, .ref k, .ref v, .ref o9] z h (Rn (fun z' h' => z' = z ∧ h' = up h a (.inr (29, [.null, .null, .int hv, .ref k, .ref v, .ref o9, .null, .null, .null, .null, .int (nI 0)])))) := by
  refine Ct.of hl hΓ (by decide +kernel) (Nat.le_of_ble_eq_true rfl) (fun X e1 e2 C => ?_)
  subst e1; subst e2
  have C : Cx X cJ28_init 5 "java/util/HashMap$TreeNode" "<init>" none [] 4 := C
  show WW X (Rn (fun z' h' => z' = z ∧ h' = up h a (.inr (29, [.null, .null, .int hv, .ref k, .ref v, .ref o9, .null, .null, .null, .null, .int (nI 0)])))) z h 0 0 0 [(0, .ref a), (1, .int hv), (2, .ref k), (3, .ref v), (4, .ref o9)] []
  refine ww_aload_n C dJ28_init_0 rfl 0 rfl rfl ?_
  refine ww_iload_n C dJ28_init_1 rfl 1 rfl ?_
  refine ww_aload_n C dJ28_init_2 rfl 2 rfl rfl ?_
  refine ww_aload_n C dJ28_init_3 rfl 3 rfl rfl ?_
  refine ww_aload C dJ28_init_4 4 rfl rfl ?_
  refine ci_J28_3_q (As := [.int hv, .ref k, .ref v, .ref o9]) (rest := []) C dJ28_init_6 (ct_J27_initR (Cx.fl C) (Cx.ok C) Ha) rfl rfl (Nat.le_of_ble_eq_true rfl) (by decide) (Nat.zero_le _) (Nat.zero_le _) (fun z1 k1 q => ?_)
  obtain ⟨hq1, hK⟩ := q; replace hq1 := hq1.symm; subst hq1
  exact ww_vret C dJ28_init_9 ⟨rfl, hK⟩
set_option maxHeartbeats 2000000 in
theorem ct_J22_newTreeNodeR {l : Launch} {Γ : Gm} (hl : l.flags = flags0) (hΓ : GOK Γ) {z : ZR} {h : AH} {mp k v : Nat} {hv : Int32} {o9 : Nat}  : Ct l Γ yJ22_newTreeNode cJ22_newTreeNode 5 (some (.object "java/util/HashMap$TreeNode")) 5 1 11 [.ref mp, .int hv, .ref k, .ref v, .ref o9] z h (Rv (fun v9 z' h' => z' = z ∧ ∃ a, v9 = .ref a ∧ h a = none ∧ (∀ e, ¬ z a e) ∧ h' = up h a (.inr (29, [.null, .null, .int hv, .ref k, .ref v, .ref o9, .null, .null, .null, .null, .int (nI 0)])))) := by
  refine Ct.of hl hΓ (by decide +kernel) (Nat.le_of_ble_eq_true rfl) (fun X e1 e2 C => ?_)
  subst e1; subst e2
  have C : Cx X cJ22_newTreeNode 5 "java/util/HashMap" "newTreeNode" (some (.object "java/util/HashMap$TreeNode")) [] 5 := C
  show WW X (Rv (fun v9 z' h' => z' = z ∧ ∃ a, v9 = .ref a ∧ h a = none ∧ (∀ e, ¬ z a e) ∧ h' = up h a (.inr (29, [.null, .null, .int hv, .ref k, .ref v, .ref o9, .null, .null, .null, .null, .int (nI 0)])))) z h 1 11 0 [(0, .ref mp), (1, .int hv), (2, .ref k), (3, .ref v), (4, .ref o9)] []
  refine nw_J22_180 C dJ22_newTreeNode_0 (by decide) (by decide) (fun a a_n a_z a_g => ?_)
  refine ww_gen (fun h1 hE1 => ?_)
  have N1_h1 : h1 a = some (.inr (29, [.null, .null, .int (nI 0), .null, .null, .null, .null, .null, .null, .null, .int (nI 0)])) := by rw [hE1]; exact up_s
  refine ww_dup C dJ22_newTreeNode_3 rfl ?_
  refine ww_iload_n C dJ22_newTreeNode_4 rfl 1 rfl ?_
  refine ww_aload_n C dJ22_newTreeNode_5 rfl 2 rfl rfl ?_
  refine ww_aload_n C dJ22_newTreeNode_6 rfl 3 rfl rfl ?_
  refine ww_aload C dJ22_newTreeNode_7 4 rfl rfl ?_
  refine ci_J22_378_q (As := [.int hv, .ref k, .ref v, .ref o9]) (rest := [.ref a]) C dJ22_newTreeNode_9 (ct_J28_initR (Cx.fl C) (Cx.ok C) N1_h1) rfl rfl (Nat.le_of_ble_eq_true rfl) (by decide) (Nat.zero_le _) (Nat.zero_le _) (fun z1 k1 q => ?_)
  obtain ⟨hq1, hK⟩ := q; replace hq1 := hq1.symm; subst hq1
  exact ww_aret C (Or.inl ⟨_, rfl⟩) dJ22_newTreeNode_12 rfl ⟨rfl, a, rfl, a_n, a_z, by rw [hK, hE1, up_up]⟩
end NODE
