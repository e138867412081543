section HM1
set_option maxRecDepth 100000
theorem ncNT : Cond.not (.castable "java/util/HashMap$Node" "java/util/HashMap$TreeNode") ∈ flatL := by decide +kernel
theorem bn_emp {h : AH} {E : ND} {p : PT} {rd : Nat → Bool} {lt : Nat → Nat → Prop} {l : List Nat} {tr : Bool} (H : BnH h E p rd lt l tr none) : l = [] := by
  cases tr with
  | false =>
    obtain ⟨-, -, h3⟩ := H
    cases l with
    | nil => rfl
    | cons a b => cases h3
  | true => obtain ⟨D, rt, -, -, -, -, h5⟩ := H; cases h5
theorem hd_cons {l : List Nat} {f : Nat} (h : l.head? = some f) : ∃ r, l = f :: r := by
  cases l with
  | nil => cases h
  | cons a b => cases h; exact ⟨b, rfl⟩
/-- a node's cell: of a list or of a tree -/
theorem HmI.cell {Γ : Gm} {z : ZR} {h : AH} {mp n nt tb : Nat} {mc : Int32} {lf : UInt32} {S : HS} {tm : Nat → Nat} {tu : Nat → Nat → Nat} (H : HmI Γ z h mp n nt tb mc lf S tm tu) {i : Nat} (hi : i < n) : ∃ nx : Value, h (nA S.1 i) = some (.inr (28, [.int (nH S.1 i), .ref (nK S.1 i), .ref (nV S.1 i), nx])) ∨ ∃ y1 y2 y3 y4 y5 : Value, h (nA S.1 i) = some (.inr (29, [.null, .null, .int (nH S.1 i), .ref (nK S.1 i), .ref (nV S.1 i), nx, y1, y2, y3, y4, y5])) := by
  obtain ⟨a1, a2, a3, -⟩ := H
  rcases a2 with ⟨-, g⟩ | ⟨hnt, -⟩
  · omega
  · obtain ⟨b1, b2, b3, b4⟩ := a3 _ (bx_e hnt (nH S.1 i)).2
    have hm := (b3 i).mpr ⟨hi, rfl⟩
    refine ⟨va_rf ((S.2.1 0 i).map (nA S.1)), ?_⟩
    cases htr : S.2.2.2.2.1 (bx nt (nH S.1 i)) with
    | false => rw [htr] at b1; exact Or.inl (b1.1 i hm)
    | true =>
      rw [htr] at b1
      obtain ⟨D, rt, d1, -⟩ := b1
      exact Or.inr ⟨_, _, _, _, _, d1.1 i hm⟩
set_option maxHeartbeats 2000000 in
theorem ct_J22_getNode {l : Launch} {Γ : Gm} (hl : l.flags = flags0) (hΓ : GOK Γ) {z : ZR} {h : AH} {mp n nt tb s m : Nat} {mc : Int32} {lf : UInt32} {S : HS} {u : Nat → Nat} {tm : Nat → Nat} {tu : Nat → Nat → Nat} (hI : HmI Γ z h mp n nt tb mc lf S tm tu) (H1 : NmS Γ z h s m u) : Ct l Γ yJ22_getNode cJ22_getNode 8 (some (.object "java/util/HashMap$Node")) 12 0 0 [.ref mp, .ref s] z h (GnP Γ z h n S.1 tm tu s m u) := by
  refine Ct.of hl hΓ (by decide +kernel) (Nat.le_of_ble_eq_true rfl) (fun X e1 e2 C => ?_)
  subst e1; subst e2
  have C : Cx X cJ22_getNode 8 "java/util/HashMap" "getNode" (some (.object "java/util/HashMap$Node")) [] 12 := C
  obtain ⟨a1, a2, a3, a4, a5, a6, a7⟩ := id hI
  show WW X (GnP (xG X) z h n S.1 tm tu s m u) z h 0 0 0 [(0, .ref mp), (1, .ref s)] []
  rcases a2 with ⟨g1, g2⟩ | ⟨hnt, T, Htb, hTb⟩
  · skip
    rw [if_pos g1] at a1
    refine ww_aload_n C dJ22_getNode_0 rfl 0 rfl rfl ?_
    refine gf_J22_105_J22 C dJ22_getNode_1 (Or.inl a1) rfl ?_
    refine ww_dup C dJ22_getNode_4 rfl ?_
    refine ww_astore_n (lv' := [(2, .null), (0, .ref mp), (1, .ref s)]) C dJ22_getNode_5 rfl (by decide) rfl rfl ?_
    refine ww_ifnull_t (tgt := 148) C dJ22_getNode_6 (by decide) ?_
    refine ww_null C dJ22_getNode_148 ?_
    exact ww_aret C (Or.inl ⟨_, rfl⟩) dJ22_getNode_149 rfl ⟨rfl, ⟨none, rfl, fun i e => (by cases e), fun _ i hi => by rw [g2] at hi; exact absurd hi (Nat.not_lt_zero i)⟩, H1, fun _ _ => rfl⟩
  · skip
    have Htb : h tb = some (.inl (gA (xG X) 5, (nt, refs T))) := Htb
    have hn0 : nt ≠ 0 ∧ nt ≤ 64 := by omega
    rw [if_neg hn0.1] at a1
    refine ww_aload_n C dJ22_getNode_0 rfl 0 rfl rfl ?_
    refine gf_J22_105_J22 C dJ22_getNode_1 (Or.inl a1) rfl ?_
    refine ww_dup C dJ22_getNode_4 rfl ?_
    refine ww_astore_n (lv' := [(2, .ref tb), (0, .ref mp), (1, .ref s)]) C dJ22_getNode_5 rfl (by decide) rfl rfl ?_
    refine ww_ifnull_f C dJ22_getNode_6 ?_
    refine ww_aload_n C dJ22_getNode_9 rfl 0 rfl rfl ?_
    refine ww_alen (t := 5) C dJ22_getNode_10 (by decide) (Or.inl Htb) ?_
    refine ww_dup C dJ22_getNode_11 rfl ?_
    refine ww_istore (lv' := [(5, .int (nI nt)), (2, .ref tb), (0, .ref mp), (1, .ref s)]) C dJ22_getNode_12 (by decide) rfl ?_
    refine ww_if_le_f (tgt := 148) C dJ22_getNode_14 (by decide) (fun q => absurd (nI_le0 q (by omega)) (by omega)) ?_
    refine ww_aload_n C dJ22_getNode_17 rfl 1 rfl rfl ?_
    refine ww_iload C dJ22_getNode_18 0 rfl ?_
    refine ww_iconst C dJ22_getNode_20 cI_1 ?_
    refine ww_isubn C dJ22_getNode_21 (by omega) ?_
    refine ww_aload_n C dJ22_getNode_22 rfl 3 rfl rfl ?_
    refine cs_J22_149_q (As := [.ref s]) (rest := [.int (nI (nt - 1)), .ref tb]) C dJ22_getNode_23 (ct_J22_hash (Cx.fl C) (Cx.ok C) H1) rfl rfl (Nat.le_of_ble_eq_true rfl) (by decide) (Nat.zero_le _) (Nat.zero_le _) (fun vv z1 h1 q => ?_)
    obtain ⟨hv, hq1, N1, hF⟩ := q; subst hv; replace hq1 := hq1.symm; subst hq1
    have hI1 := hI.hs H1 N1 hF
    obtain ⟨-, -, b3, b4, b5, b6, b7⟩ := id hI1
    have Htb1 : h1 tb = some (.inl (gA (xG X) 5, (nt, refs T))) := NoS.of H1 hF _ _ Htb (fun fs e => by cases e)
    have hbx := bx_e hnt (hsK u m)
    obtain ⟨b, eb⟩ : ∃ b, b = bx nt (hsK u m) := ⟨_, rfl⟩
    rw [← eb] at hbx
    obtain ⟨c1, c2, c3, c4⟩ := b3 b hbx.2
    have hfd : ∀ r, FdR (inL (S.2.2.2.1 b)) tm tu m u r → FdR (fun i => i < n) tm tu m u r := fun r hr => hI1.bin hnt (by rw [← eb]; exact hr)
    have hKb : NkH (xG X) z h1 (inL (S.2.2.2.1 b)) S.1 tm tu := fun i hi => b5 i ((c3 i).mp hi).1
    refine ww_dup C dJ22_getNode_26 rfl ?_
    refine ww_istore (lv' := [(6, .int (hsK u m)), (5, .int (nI nt)), (2, .ref tb), (0, .ref mp), (1, .ref s)]) C dJ22_getNode_27 (by decide) rfl ?_
    refine ww_iand C dJ22_getNode_29 ?_
    refine ww_st (st' := [.int (nI b), .ref tb]) (by rw [hbx.1]) ?_
    refine ww_aald (t := 5) C dJ22_getNode_30 (by decide) rfl (Or.inl Htb1) (by omega) (by omega) ?_
    refine ww_st (st' := [va_rf ((S.2.2.2.2.2 b).map (nA S.1))]) (by rw [hTb b hbx.2]) ?_
    refine ww_dup C dJ22_getNode_31 (va_rf_cat _) ?_
    refine ww_astore_n (lv' := [(3, va_rf ((S.2.2.2.2.2 b).map (nA S.1))), (6, .int (hsK u m)), (5, .int (nI nt)), (2, .ref tb), (0, .ref mp), (1, .ref s)]) C dJ22_getNode_32 rfl (by decide) (va_rf_isRef _) rfl ?_
    rcases h_f : S.2.2.2.2.2 b with _ | f
    · skip
      show WW X (GnP (xG X) z h n S.1 tm tu s m u) z h1 0 0 33 [(3, .null), (6, .int (hsK u m)), (5, .int (nI nt)), (2, .ref tb), (0, .ref mp), (1, .ref s)] [.null]
      refine ww_ifnull_t (tgt := 148) C dJ22_getNode_33 (by decide) ?_
      have hemp : S.2.2.2.1 b = [] := bn_emp (by rw [← h_f]; exact c1)
      refine ww_null C dJ22_getNode_148 ?_
      exact ww_aret C (Or.inl ⟨_, rfl⟩) dJ22_getNode_149 rfl ⟨rfl, ⟨none, rfl, hfd _ (⟨fun i e => (by cases e), fun _ i hi => by rw [hemp] at hi; cases hi⟩)⟩, N1, hF⟩
    · skip
      show WW X (GnP (xG X) z h n S.1 tm tu s m u) z h1 0 0 33 [(3, .ref (nA S.1 f)), (6, .int (hsK u m)), (5, .int (nI nt)), (2, .ref tb), (0, .ref mp), (1, .ref s)] [.ref (nA S.1 f)]
      refine ww_ifnull_f C dJ22_getNode_33 ?_
      rcases htr : S.2.2.2.2.1 b with _ | _
      · skip
        rw [htr, h_f] at c1
        obtain ⟨d1, d2, d3⟩ := id c1
        obtain ⟨r9, hl⟩ := hd_cons d3.symm
        rw [hl] at d1 d2
        have gf : f ∈ S.2.2.2.1 b := by rw [hl]; exact List.mem_cons_self
        obtain ⟨N2, hH2⟩ := hKb f gf
        have K71 : tlU (tm f) (tu f) ≠ tlU m u → WW X (GnP (xG X) z h n S.1 tm tu s m u) z h1 0 0 71 [(3, .ref (nA S.1 f)), (6, .int (hsK u m)), (1, .ref s)] [] := by
          intro hne
          refine ww_aload_n C dJ22_getNode_71 rfl 0 rfl rfl ?_
          refine gf_J22_177_J26 C dJ22_getNode_72 (Or.inl (d1 f List.mem_cons_self)) rfl ?_
          refine ww_st (st' := [va_rf (r9.head?.map (nA S.1))]) (by rw [d2.1]) ?_
          refine ww_dup C dJ22_getNode_75 (va_rf_cat _) ?_
          refine ww_astore (lv' := [(4, va_rf (r9.head?.map (nA S.1))), (3, .ref (nA S.1 f)), (6, .int (hsK u m)), (1, .ref s)]) C dJ22_getNode_76 (by decide) (va_rf_isRef _) rfl ?_
          rcases r9 with _ | ⟨j, r8⟩
          · skip
            show WW X (GnP (xG X) z h n S.1 tm tu s m u) z h1 0 0 78 [(4, .null), (3, .ref (nA S.1 f)), (6, .int (hsK u m)), (1, .ref s)] [.null]
            refine ww_ifnull_t (tgt := 148) C dJ22_getNode_78 (by decide) ?_
            refine ww_null C dJ22_getNode_148 ?_
            exact ww_aret C (Or.inl ⟨_, rfl⟩) dJ22_getNode_149 rfl ⟨rfl, ⟨none, rfl, hfd _ (⟨fun i e => (by cases e), fun _ i hi => by rw [hl] at hi; rw [List.mem_singleton.mp hi]; exact hne⟩)⟩, N1, hF⟩
          · skip
            show WW X (GnP (xG X) z h n S.1 tm tu s m u) z h1 0 0 78 [(4, .ref (nA S.1 j)), (3, .ref (nA S.1 f)), (6, .int (hsK u m)), (1, .ref s)] [.ref (nA S.1 j)]
            refine ww_ifnull_f C dJ22_getNode_78 ?_
            refine ww_aload_n C dJ22_getNode_81 rfl 1 rfl rfl ?_
            refine ww_instNo C q1223 ncNT (rc_J26 (Cx.ok C) (Or.inl (d1 f List.mem_cons_self))) dJ22_getNode_82 ?_
            refine ww_if_eq_t (tgt := 99) C dJ22_getNode_85 (by decide) (by decide) ?_
            refine ww_sub [0, 2, 3] rfl ?_
            have key : ∀ (r7 : List Nat) (j9 : Nat) (l1 : List Nat), S.2.2.2.1 b = l1 ++ j9 :: r7 → (∀ i, i ∈ l1 → tlU (tm i) (tu i) ≠ tlU m u) → NdH h1 (j9 :: r7) S.1 S.2.1 → NxL S.2.1 (j9 :: r7) → WW X (GnP (xG X) z h n S.1 tm tu s m u) z h1 0 0 99 [(4, .ref (nA S.1 j9)), (6, .int (hsK u m)), (1, .ref s)] [] := by
              intro r7
              induction r7 with
              | nil =>
                intro j9 l1 hl9 hno h9 x9
                have gj : j9 ∈ S.2.2.2.1 b := by rw [hl9]; simp
                obtain ⟨N3, hH3⟩ := hKb j9 gj
                refine ww_aload C dJ22_getNode_99 0 rfl rfl ?_
                refine gf_J22_168_J26 C dJ22_getNode_101 (Or.inl (h9 j9 List.mem_cons_self)) rfl ?_
                refine ww_iload C dJ22_getNode_104 1 rfl ?_
                refine ww_icmp_ne (tgt := 137) C dJ22_getNode_106 (by decide) (fun c_106 => ?_) (fun c_106 => ?_)
                · skip
                  have hne : tlU (tm j9) (tu j9) ≠ tlU m u := fun e9 => c_106 (by rw [hH3]; exact hsK_ext e9)
                  refine ww_aload C dJ22_getNode_137 0 rfl rfl ?_
                  refine gf_J22_177_J26 C dJ22_getNode_139 (Or.inl (h9 j9 List.mem_cons_self)) rfl ?_
                  refine ww_st (st' := [va_rf ((none : Option Nat).map (nA S.1))]) (by rw [x9.1]; rfl) ?_
                  show WW X (GnP (xG X) z h n S.1 tm tu s m u) z h1 0 0 142 [(4, .ref (nA S.1 j9)), (6, .int (hsK u m)), (1, .ref s)] [.null]
                  refine ww_dup C dJ22_getNode_142 rfl ?_
                  refine ww_astore (lv' := [(4, .null), (6, .int (hsK u m)), (1, .ref s)]) C dJ22_getNode_143 (by decide) rfl rfl ?_
                  refine ww_ifnonnull_f C dJ22_getNode_145 ?_
                  refine ww_null C dJ22_getNode_148 ?_
                  exact ww_aret C (Or.inl ⟨_, rfl⟩) dJ22_getNode_149 rfl ⟨rfl, ⟨none, rfl, hfd _ (⟨fun i e => (by cases e), fun _ i hi => by rw [hl9] at hi; rcases List.mem_append.mp hi with g9 | g9; { exact hno i g9 }; { rw [List.mem_singleton.mp g9]; exact hne }⟩)⟩, N1, hF⟩
                · skip
                  refine ww_aload C dJ22_getNode_109 0 rfl rfl ?_
                  refine gf_J22_170_J26 C dJ22_getNode_111 (Or.inl (h9 j9 List.mem_cons_self)) rfl ?_
                  refine ww_dup C dJ22_getNode_114 rfl ?_
                  refine ww_astore (lv' := [(7, .ref (nK S.1 j9)), (4, .ref (nA S.1 j9)), (6, .int (hsK u m)), (1, .ref s)]) C dJ22_getNode_115 (by decide) rfl rfl ?_
                  refine ww_aload_n C dJ22_getNode_117 rfl 3 rfl rfl ?_
                  by_cases hsq : nK S.1 j9 = s
                  · skip
                    refine ww_acmp_eq_t (rx := (some (nK S.1 j9))) (ry := (some s)) (tgt := 134) C dJ22_getNode_118 (by decide) (by rw [hsq]) ?_
                    have heq : tlU (tm j9) (tu j9) = tlU m u := by have N9 := N3; rw [hsq] at N9; exact tlU_eq.mpr (N9.uq N1)
                    refine ww_aload C dJ22_getNode_134 1 rfl rfl ?_
                    exact ww_aret C (Or.inl ⟨_, rfl⟩) dJ22_getNode_136 rfl ⟨rfl, ⟨some j9, rfl, hfd _ (⟨fun i e => (by cases e; exact ⟨gj, heq⟩), fun e => by cases e⟩)⟩, N1, hF⟩
                  · skip
                    refine ww_acmp_eq_f (rx := (some (nK S.1 j9))) (ry := (some s)) (tgt := 134) C dJ22_getNode_118 (by decide) (fun q9 => hsq (Option.some.inj q9)) ?_
                    refine ww_aload_n C dJ22_getNode_121 rfl 3 rfl rfl ?_
                    refine ww_ifnull_f C dJ22_getNode_122 ?_
                    refine ww_aload_n C dJ22_getNode_125 rfl 3 rfl rfl ?_
                    refine ww_aload C dJ22_getNode_126 0 rfl rfl ?_
                    refine ca_J22_173_J11_r (As := [.ref (nK S.1 j9)]) (rest := []) C dJ22_getNode_128 (ct_J11_equals (Cx.fl C) (Cx.ok C) N1.su N3.su (fun e9 => absurd e9.symm hsq)) (StU.rc (Cx.ok C) N1.su) rfl rfl (Nat.le_of_ble_eq_true rfl) (by decide) (Nat.zero_le _) (Nat.zero_le _) ?_
                    refine ww_if_eq_b (tgt := 137) C dJ22_getNode_131 (by decide) (fun c_131 => ?_) (fun c_131 => ?_)
                    · skip
                      have hne : tlU (tm j9) (tu j9) ≠ tlU m u := fun e9 => by have := eqU_tl.mpr e9.symm; rw [this] at c_131; cases c_131
                      refine ww_aload C dJ22_getNode_137 1 rfl rfl ?_
                      refine gf_J22_177_J26 C dJ22_getNode_139 (Or.inl (h9 j9 List.mem_cons_self)) rfl ?_
                      refine ww_st (st' := [va_rf ((none : Option Nat).map (nA S.1))]) (by rw [x9.1]; rfl) ?_
                      show WW X (GnP (xG X) z h n S.1 tm tu s m u) z h1 0 0 142 [(7, .ref (nK S.1 j9)), (4, .ref (nA S.1 j9)), (6, .int (hsK u m)), (1, .ref s)] [.null]
                      refine ww_dup C dJ22_getNode_142 rfl ?_
                      refine ww_astore (lv' := [(4, .null), (7, .ref (nK S.1 j9)), (6, .int (hsK u m)), (1, .ref s)]) C dJ22_getNode_143 (by decide) rfl rfl ?_
                      refine ww_ifnonnull_f C dJ22_getNode_145 ?_
                      refine ww_null C dJ22_getNode_148 ?_
                      exact ww_aret C (Or.inl ⟨_, rfl⟩) dJ22_getNode_149 rfl ⟨rfl, ⟨none, rfl, hfd _ (⟨fun i e => (by cases e), fun _ i hi => by rw [hl9] at hi; rcases List.mem_append.mp hi with g9 | g9; { exact hno i g9 }; { rw [List.mem_singleton.mp g9]; exact hne }⟩)⟩, N1, hF⟩
                    · skip
                      have heq : tlU (tm j9) (tu j9) = tlU m u := (eqU_tl.mp (by first | exact c_131 | simpa using c_131)).symm
                      refine ww_aload C dJ22_getNode_134 1 rfl rfl ?_
                      exact ww_aret C (Or.inl ⟨_, rfl⟩) dJ22_getNode_136 rfl ⟨rfl, ⟨some j9, rfl, hfd _ (⟨fun i e => (by cases e; exact ⟨gj, heq⟩), fun e => by cases e⟩)⟩, N1, hF⟩
              | cons i9 r6 ih =>
                intro j9 l1 hl9 hno h9 x9
                have gj : j9 ∈ S.2.2.2.1 b := by rw [hl9]; simp
                obtain ⟨N3, hH3⟩ := hKb j9 gj
                refine ww_aload C dJ22_getNode_99 0 rfl rfl ?_
                refine gf_J22_168_J26 C dJ22_getNode_101 (Or.inl (h9 j9 List.mem_cons_self)) rfl ?_
                refine ww_iload C dJ22_getNode_104 1 rfl ?_
                refine ww_icmp_ne (tgt := 137) C dJ22_getNode_106 (by decide) (fun c_106 => ?_) (fun c_106 => ?_)
                · skip
                  have hne : tlU (tm j9) (tu j9) ≠ tlU m u := fun e9 => c_106 (by rw [hH3]; exact hsK_ext e9)
                  refine ww_aload C dJ22_getNode_137 0 rfl rfl ?_
                  refine gf_J22_177_J26 C dJ22_getNode_139 (Or.inl (h9 j9 List.mem_cons_self)) rfl ?_
                  refine ww_st (st' := [va_rf ((some i9).map (nA S.1))]) (by rw [x9.1]; rfl) ?_
                  show WW X (GnP (xG X) z h n S.1 tm tu s m u) z h1 0 0 142 [(4, .ref (nA S.1 j9)), (6, .int (hsK u m)), (1, .ref s)] [.ref (nA S.1 i9)]
                  refine ww_dup C dJ22_getNode_142 rfl ?_
                  refine ww_astore (lv' := [(4, .ref (nA S.1 i9)), (6, .int (hsK u m)), (1, .ref s)]) C dJ22_getNode_143 (by decide) rfl rfl ?_
                  refine ww_ifnonnull_t (tgt := 99) C dJ22_getNode_145 (by decide) ?_
                  exact ih i9 (l1 ++ [j9]) (by rw [hl9]; simp) (fun i hi => by rcases List.mem_append.mp hi with g9 | g9; { exact hno i g9 }; { rw [List.mem_singleton.mp g9]; exact hne }) (fun i hi => h9 i (List.mem_cons_of_mem _ hi)) x9.2
                · skip
                  refine ww_aload C dJ22_getNode_109 0 rfl rfl ?_
                  refine gf_J22_170_J26 C dJ22_getNode_111 (Or.inl (h9 j9 List.mem_cons_self)) rfl ?_
                  refine ww_dup C dJ22_getNode_114 rfl ?_
                  refine ww_astore (lv' := [(7, .ref (nK S.1 j9)), (4, .ref (nA S.1 j9)), (6, .int (hsK u m)), (1, .ref s)]) C dJ22_getNode_115 (by decide) rfl rfl ?_
                  refine ww_aload_n C dJ22_getNode_117 rfl 3 rfl rfl ?_
                  by_cases hsq : nK S.1 j9 = s
                  · skip
                    refine ww_acmp_eq_t (rx := (some (nK S.1 j9))) (ry := (some s)) (tgt := 134) C dJ22_getNode_118 (by decide) (by rw [hsq]) ?_
                    have heq : tlU (tm j9) (tu j9) = tlU m u := by have N9 := N3; rw [hsq] at N9; exact tlU_eq.mpr (N9.uq N1)
                    refine ww_aload C dJ22_getNode_134 1 rfl rfl ?_
                    exact ww_aret C (Or.inl ⟨_, rfl⟩) dJ22_getNode_136 rfl ⟨rfl, ⟨some j9, rfl, hfd _ (⟨fun i e => (by cases e; exact ⟨gj, heq⟩), fun e => by cases e⟩)⟩, N1, hF⟩
                  · skip
                    refine ww_acmp_eq_f (rx := (some (nK S.1 j9))) (ry := (some s)) (tgt := 134) C dJ22_getNode_118 (by decide) (fun q9 => hsq (Option.some.inj q9)) ?_
                    refine ww_aload_n C dJ22_getNode_121 rfl 3 rfl rfl ?_
                    refine ww_ifnull_f C dJ22_getNode_122 ?_
                    refine ww_aload_n C dJ22_getNode_125 rfl 3 rfl rfl ?_
                    refine ww_aload C dJ22_getNode_126 0 rfl rfl ?_
                    refine ca_J22_173_J11_r (As := [.ref (nK S.1 j9)]) (rest := []) C dJ22_getNode_128 (ct_J11_equals (Cx.fl C) (Cx.ok C) N1.su N3.su (fun e9 => absurd e9.symm hsq)) (StU.rc (Cx.ok C) N1.su) rfl rfl (Nat.le_of_ble_eq_true rfl) (by decide) (Nat.zero_le _) (Nat.zero_le _) ?_
                    refine ww_if_eq_b (tgt := 137) C dJ22_getNode_131 (by decide) (fun c_131 => ?_) (fun c_131 => ?_)
                    · skip
                      have hne : tlU (tm j9) (tu j9) ≠ tlU m u := fun e9 => by have := eqU_tl.mpr e9.symm; rw [this] at c_131; cases c_131
                      refine ww_aload C dJ22_getNode_137 1 rfl rfl ?_
                      refine gf_J22_177_J26 C dJ22_getNode_139 (Or.inl (h9 j9 List.mem_cons_self)) rfl ?_
                      refine ww_st (st' := [va_rf ((some i9).map (nA S.1))]) (by rw [x9.1]; rfl) ?_
                      show WW X (GnP (xG X) z h n S.1 tm tu s m u) z h1 0 0 142 [(7, .ref (nK S.1 j9)), (4, .ref (nA S.1 j9)), (6, .int (hsK u m)), (1, .ref s)] [.ref (nA S.1 i9)]
                      refine ww_dup C dJ22_getNode_142 rfl ?_
                      refine ww_astore (lv' := [(4, .ref (nA S.1 i9)), (7, .ref (nK S.1 j9)), (6, .int (hsK u m)), (1, .ref s)]) C dJ22_getNode_143 (by decide) rfl rfl ?_
                      refine ww_ifnonnull_t (tgt := 99) C dJ22_getNode_145 (by decide) ?_
                      refine ww_sub [0, 2, 3] rfl ?_
                      exact ih i9 (l1 ++ [j9]) (by rw [hl9]; simp) (fun i hi => by rcases List.mem_append.mp hi with g9 | g9; { exact hno i g9 }; { rw [List.mem_singleton.mp g9]; exact hne }) (fun i hi => h9 i (List.mem_cons_of_mem _ hi)) x9.2
                    · skip
                      have heq : tlU (tm j9) (tu j9) = tlU m u := (eqU_tl.mp (by first | exact c_131 | simpa using c_131)).symm
                      refine ww_aload C dJ22_getNode_134 1 rfl rfl ?_
                      exact ww_aret C (Or.inl ⟨_, rfl⟩) dJ22_getNode_136 rfl ⟨rfl, ⟨some j9, rfl, hfd _ (⟨fun i e => (by cases e; exact ⟨gj, heq⟩), fun e => by cases e⟩)⟩, N1, hF⟩
            exact key r8 j [f] (by rw [hl]; rfl) (fun i hi => by rw [List.mem_singleton.mp hi]; exact hne) (fun i hi => d1 i (List.mem_cons_of_mem _ hi)) d2.2
        refine ww_aload_n C dJ22_getNode_36 rfl 0 rfl rfl ?_
        refine gf_J22_168_J26 C dJ22_getNode_37 (Or.inl (d1 f List.mem_cons_self)) rfl ?_
        refine ww_iload C dJ22_getNode_40 1 rfl ?_
        refine ww_icmp_ne (tgt := 71) C dJ22_getNode_42 (by decide) (fun c_42 => ?_) (fun c_42 => ?_)
        · skip
          have hne : tlU (tm f) (tu f) ≠ tlU m u := fun e9 => c_42 (by rw [hH2]; exact hsK_ext e9)
          refine ww_sub [0, 1, 5] rfl ?_
          exact K71 hne
        · skip
          refine ww_aload_n C dJ22_getNode_45 rfl 0 rfl rfl ?_
          refine gf_J22_170_J26 C dJ22_getNode_46 (Or.inl (d1 f List.mem_cons_self)) rfl ?_
          refine ww_dup C dJ22_getNode_49 rfl ?_
          refine ww_astore (lv' := [(7, .ref (nK S.1 f)), (3, .ref (nA S.1 f)), (6, .int (hsK u m)), (5, .int (nI nt)), (2, .ref tb), (0, .ref mp), (1, .ref s)]) C dJ22_getNode_50 (by decide) rfl rfl ?_
          refine ww_aload_n C dJ22_getNode_52 rfl 6 rfl rfl ?_
          by_cases hsq : nK S.1 f = s
          · skip
            refine ww_acmp_eq_t (rx := (some (nK S.1 f))) (ry := (some s)) (tgt := 69) C dJ22_getNode_53 (by decide) (by rw [hsq]) ?_
            have heq : tlU (tm f) (tu f) = tlU m u := by have N9 := N2; rw [hsq] at N9; exact tlU_eq.mpr (N9.uq N1)
            refine ww_aload_n C dJ22_getNode_69 rfl 1 rfl rfl ?_
            exact ww_aret C (Or.inl ⟨_, rfl⟩) dJ22_getNode_70 rfl ⟨rfl, ⟨some f, rfl, hfd _ (⟨fun i e => (by cases e; exact ⟨gf, heq⟩), fun e => by cases e⟩)⟩, N1, hF⟩
          · skip
            refine ww_acmp_eq_f (rx := (some (nK S.1 f))) (ry := (some s)) (tgt := 69) C dJ22_getNode_53 (by decide) (fun q9 => hsq (Option.some.inj q9)) ?_
            refine ww_aload_n C dJ22_getNode_56 rfl 6 rfl rfl ?_
            refine ww_ifnull_f C dJ22_getNode_57 ?_
            refine ww_aload_n C dJ22_getNode_60 rfl 6 rfl rfl ?_
            refine ww_aload C dJ22_getNode_61 0 rfl rfl ?_
            refine ca_J22_173_J11_r (As := [.ref (nK S.1 f)]) (rest := []) C dJ22_getNode_63 (ct_J11_equals (Cx.fl C) (Cx.ok C) N1.su N2.su (fun e9 => absurd e9.symm hsq)) (StU.rc (Cx.ok C) N1.su) rfl rfl (Nat.le_of_ble_eq_true rfl) (by decide) (Nat.zero_le _) (Nat.zero_le _) ?_
            refine ww_if_eq_b (tgt := 71) C dJ22_getNode_66 (by decide) (fun c_66 => ?_) (fun c_66 => ?_)
            · skip
              have hne : tlU (tm f) (tu f) ≠ tlU m u := fun e9 => by have := eqU_tl.mpr e9.symm; rw [this] at c_66; cases c_66
              refine ww_sub [1, 2, 6] rfl ?_
              exact K71 hne
            · skip
              have heq : tlU (tm f) (tu f) = tlU m u := (eqU_tl.mp (by first | exact c_66 | simpa using c_66)).symm
              refine ww_aload_n C dJ22_getNode_69 rfl 1 rfl rfl ?_
              exact ww_aret C (Or.inl ⟨_, rfl⟩) dJ22_getNode_70 rfl ⟨rfl, ⟨some f, rfl, hfd _ (⟨fun i e => (by cases e; exact ⟨gf, heq⟩), fun e => by cases e⟩)⟩, N1, hF⟩
      · skip
        rw [htr, h_f] at c1
        obtain ⟨D, rt, d1, d2, d3, d4, d5⟩ := id c1
        have d5 := Option.some.inj d5
        subst d5
        have gf : f ∈ S.2.2.2.1 b := d2.2.2.2.1
        obtain ⟨N2, hH2⟩ := hKb f gf
        have K71 : tlU (tm f) (tu f) ≠ tlU m u → WW X (GnP (xG X) z h n S.1 tm tu s m u) z h1 0 0 71 [(3, .ref (nA S.1 f)), (6, .int (hsK u m)), (1, .ref s)] [] := by
          intro hne
          refine ww_aload_n C dJ22_getNode_71 rfl 0 rfl rfl ?_
          refine gf_J22_177_J28 C dJ22_getNode_72 (Or.inl (d1.1 f gf)) rfl ?_
          refine ww_dup C dJ22_getNode_75 (va_rf_cat _) ?_
          refine ww_astore (lv' := [(4, va_rf ((S.2.1 0 f).map (nA S.1))), (3, .ref (nA S.1 f)), (6, .int (hsK u m)), (1, .ref s)]) C dJ22_getNode_76 (by decide) (va_rf_isRef _) rfl ?_
          rcases h_j : S.2.1 0 f with _ | j
          · skip
            show WW X (GnP (xG X) z h n S.1 tm tu s m u) z h1 0 0 78 [(4, .null), (3, .ref (nA S.1 f)), (6, .int (hsK u m)), (1, .ref s)] [.null]
            exact absurd h_j d4
          · skip
            show WW X (GnP (xG X) z h n S.1 tm tu s m u) z h1 0 0 78 [(4, .ref (nA S.1 j)), (3, .ref (nA S.1 f)), (6, .int (hsK u m)), (1, .ref s)] [.ref (nA S.1 j)]
            refine ww_ifnull_f C dJ22_getNode_78 ?_
            refine ww_aload_n C dJ22_getNode_81 rfl 1 rfl rfl ?_
            refine ww_instS (ci := 29) C q1223 rfl dJ22_getNode_82 (rc_J28 (Cx.ok C) (Or.inl (d1.1 f gf))) ?_
            refine ww_if_eq_f (tgt := 99) C dJ22_getNode_85 (by decide) (nI_ne0 (by decide) (by decide)) ?_
            refine ww_aload_n C dJ22_getNode_88 rfl 1 rfl rfl ?_
            refine ww_castS (ci := 29) C q1223 rfl dJ22_getNode_89 (rc_J28 (Cx.ok C) (Or.inl (d1.1 f gf))) ?_
            refine ww_iload C dJ22_getNode_92 2 rfl ?_
            refine ww_aload_n C dJ22_getNode_94 rfl 3 rfl rfl ?_
            refine cv_J22_182_q (As := [.int (hsK u m), .ref s]) (rest := []) C dJ22_getNode_95 (ct_J28_getTreeNode (Cx.fl C) (Cx.ok C) d1 d2 hKb N1 gf) (rc_J28 (Cx.ok C) (Or.inl (d1.1 f gf))) rfl rfl (Nat.le_of_ble_eq_true rfl) (by decide) (Nat.zero_le _) (Nat.zero_le _) (fun vv z2 h2 q => ?_)
            obtain ⟨hq2, hq3, r9, hv, hR⟩ := q; subst hv; replace hq2 := hq2.symm; subst hq2; replace hq3 := hq3.symm; subst hq3
            exact ww_aret C (Or.inl ⟨_, rfl⟩) dJ22_getNode_98 (va_rf_isRef _) ⟨rfl, ⟨r9, rfl, hfd _ hR⟩, N1, hF⟩
        refine ww_aload_n C dJ22_getNode_36 rfl 0 rfl rfl ?_
        refine gf_J22_168_J28 C dJ22_getNode_37 (Or.inl (d1.1 f gf)) rfl ?_
        refine ww_iload C dJ22_getNode_40 1 rfl ?_
        refine ww_icmp_ne (tgt := 71) C dJ22_getNode_42 (by decide) (fun c_42 => ?_) (fun c_42 => ?_)
        · skip
          have hne : tlU (tm f) (tu f) ≠ tlU m u := fun e9 => c_42 (by rw [hH2]; exact hsK_ext e9)
          refine ww_sub [0, 1, 5] rfl ?_
          exact K71 hne
        · skip
          refine ww_aload_n C dJ22_getNode_45 rfl 0 rfl rfl ?_
          refine gf_J22_170_J28 C dJ22_getNode_46 (Or.inl (d1.1 f gf)) rfl ?_
          refine ww_dup C dJ22_getNode_49 rfl ?_
          refine ww_astore (lv' := [(7, .ref (nK S.1 f)), (3, .ref (nA S.1 f)), (6, .int (hsK u m)), (5, .int (nI nt)), (2, .ref tb), (0, .ref mp), (1, .ref s)]) C dJ22_getNode_50 (by decide) rfl rfl ?_
          refine ww_aload_n C dJ22_getNode_52 rfl 6 rfl rfl ?_
          by_cases hsq : nK S.1 f = s
          · skip
            refine ww_acmp_eq_t (rx := (some (nK S.1 f))) (ry := (some s)) (tgt := 69) C dJ22_getNode_53 (by decide) (by rw [hsq]) ?_
            have heq : tlU (tm f) (tu f) = tlU m u := by have N9 := N2; rw [hsq] at N9; exact tlU_eq.mpr (N9.uq N1)
            refine ww_aload_n C dJ22_getNode_69 rfl 1 rfl rfl ?_
            exact ww_aret C (Or.inl ⟨_, rfl⟩) dJ22_getNode_70 rfl ⟨rfl, ⟨some f, rfl, hfd _ (⟨fun i e => (by cases e; exact ⟨gf, heq⟩), fun e => by cases e⟩)⟩, N1, hF⟩
          · skip
            refine ww_acmp_eq_f (rx := (some (nK S.1 f))) (ry := (some s)) (tgt := 69) C dJ22_getNode_53 (by decide) (fun q9 => hsq (Option.some.inj q9)) ?_
            refine ww_aload_n C dJ22_getNode_56 rfl 6 rfl rfl ?_
            refine ww_ifnull_f C dJ22_getNode_57 ?_
            refine ww_aload_n C dJ22_getNode_60 rfl 6 rfl rfl ?_
            refine ww_aload C dJ22_getNode_61 0 rfl rfl ?_
            refine ca_J22_173_J11_r (As := [.ref (nK S.1 f)]) (rest := []) C dJ22_getNode_63 (ct_J11_equals (Cx.fl C) (Cx.ok C) N1.su N2.su (fun e9 => absurd e9.symm hsq)) (StU.rc (Cx.ok C) N1.su) rfl rfl (Nat.le_of_ble_eq_true rfl) (by decide) (Nat.zero_le _) (Nat.zero_le _) ?_
            refine ww_if_eq_b (tgt := 71) C dJ22_getNode_66 (by decide) (fun c_66 => ?_) (fun c_66 => ?_)
            · skip
              have hne : tlU (tm f) (tu f) ≠ tlU m u := fun e9 => by have := eqU_tl.mpr e9.symm; rw [this] at c_66; cases c_66
              refine ww_sub [1, 2, 6] rfl ?_
              exact K71 hne
            · skip
              have heq : tlU (tm f) (tu f) = tlU m u := (eqU_tl.mp (by first | exact c_66 | simpa using c_66)).symm
              refine ww_aload_n C dJ22_getNode_69 rfl 1 rfl rfl ?_
              exact ww_aret C (Or.inl ⟨_, rfl⟩) dJ22_getNode_70 rfl ⟨rfl, ⟨some f, rfl, hfd _ (⟨fun i e => (by cases e; exact ⟨gf, heq⟩), fun e => by cases e⟩)⟩, N1, hF⟩
set_option maxHeartbeats 2000000 in
theorem ct_J22_containsKey {l : Launch} {Γ : Gm} (hl : l.flags = flags0) (hΓ : GOK Γ) {z : ZR} {h : AH} {mp n nt tb s m : Nat} {mc : Int32} {lf : UInt32} {S : HS} {u : Nat → Nat} {tm : Nat → Nat} {tu : Nat → Nat → Nat} (hI : HmI Γ z h mp n nt tb mc lf S tm tu) (H1 : NmS Γ z h s m u) : Ct l Γ yJ22_containsKey cJ22_containsKey 2 (some .boolean) 13 0 0 [.ref mp, .ref s] z h (Rv (fun v z' h' => z' = z ∧ (∃ r : Option Nat, v = .int (bI r.isSome) ∧ FdR (fun i => i < n) tm tu m u r) ∧ NmS Γ z h' s m u ∧ ∀ q, q ≠ s → h' q = h q)) := by
  refine Ct.of hl hΓ (by decide +kernel) (Nat.le_of_ble_eq_true rfl) (fun X e1 e2 C => ?_)
  subst e1; subst e2
  have C : Cx X cJ22_containsKey 2 "java/util/HashMap" "containsKey" (some .boolean) [] 13 := C
  show WW X (Rv (fun v z' h' => z' = z ∧ (∃ r : Option Nat, v = .int (bI r.isSome) ∧ FdR (fun i => i < n) tm tu m u r) ∧ NmS (xG X) z h' s m u ∧ ∀ q, q ≠ s → h' q = h q)) z h 0 0 0 [(0, .ref mp), (1, .ref s)] []
  refine ww_aload_n C dJ22_containsKey_0 rfl 0 rfl rfl ?_
  refine ww_aload_n C dJ22_containsKey_1 rfl 1 rfl rfl ?_
  refine cv_J22_158_q (As := [.ref s]) (rest := []) C dJ22_containsKey_2 (ct_J22_getNode (Cx.fl C) (Cx.ok C) hI H1) (rc_J22 (Cx.ok C) (Or.inl hI.1)) rfl rfl (Nat.le_of_ble_eq_true rfl) (by decide) (Nat.zero_le _) (Nat.zero_le _) (fun vv z1 h1 q => ?_)
  obtain ⟨hq1, ⟨r9, hv, hR⟩, N1, hF⟩ := q; subst hv; replace hq1 := hq1.symm; subst hq1
  rcases r9 with _ | f
  · skip
    show WW X (Rv (fun v z' h' => z' = z ∧ (∃ r : Option Nat, v = .int (bI r.isSome) ∧ FdR (fun i => i < n) tm tu m u r) ∧ NmS (xG X) z h' s m u ∧ ∀ q, q ≠ s → h' q = h q)) z h1 0 0 5 [(0, .ref mp), (1, .ref s)] [.null]
    refine ww_ifnull_t (tgt := 12) C dJ22_containsKey_5 (by decide) ?_
    refine ww_iconst C dJ22_containsKey_12 cI_0 ?_
    exact ww_zret C dJ22_containsKey_13 nar_z0 ⟨rfl, ⟨none, rfl, hR⟩, N1, hF⟩
  · skip
    show WW X (Rv (fun v z' h' => z' = z ∧ (∃ r : Option Nat, v = .int (bI r.isSome) ∧ FdR (fun i => i < n) tm tu m u r) ∧ NmS (xG X) z h' s m u ∧ ∀ q, q ≠ s → h' q = h q)) z h1 0 0 5 [(0, .ref mp), (1, .ref s)] [.ref (nA S.1 f)]
    refine ww_ifnull_f C dJ22_containsKey_5 ?_
    refine ww_iconst C dJ22_containsKey_8 cI_1 ?_
    refine ww_goto (tgt := 13) C dJ22_containsKey_9 (by decide) ?_
    exact ww_zret C dJ22_containsKey_13 nar_z1 ⟨rfl, ⟨some f, rfl, hR⟩, N1, hF⟩
set_option maxHeartbeats 2000000 in
theorem ct_J22_get {l : Launch} {Γ : Gm} (hl : l.flags = flags0) (hΓ : GOK Γ) {z : ZR} {h : AH} {mp n nt tb s m : Nat} {mc : Int32} {lf : UInt32} {S : HS} {u : Nat → Nat} {tm : Nat → Nat} {tu : Nat → Nat → Nat} {j : Nat} (hI : HmI Γ z h mp n nt tb mc lf S tm tu) (H1 : NmS Γ z h s m u) (hj : j < n) (hjt : tlU (tm j) (tu j) = tlU m u) : Ct l Γ yJ22_get cJ22_get 3 (some (.object "java/lang/Object")) 13 0 0 [.ref mp, .ref s] z h (Rv (fun v z' h' => z' = z ∧ v = .ref (nV S.1 j) ∧ NmS Γ z h' s m u ∧ ∀ q, q ≠ s → h' q = h q)) := by
  refine Ct.of hl hΓ (by decide +kernel) (Nat.le_of_ble_eq_true rfl) (fun X e1 e2 C => ?_)
  subst e1; subst e2
  have C : Cx X cJ22_get 3 "java/util/HashMap" "get" (some (.object "java/lang/Object")) [] 13 := C
  show WW X (Rv (fun v z' h' => z' = z ∧ v = .ref (nV S.1 j) ∧ NmS (xG X) z h' s m u ∧ ∀ q, q ≠ s → h' q = h q)) z h 0 0 0 [(0, .ref mp), (1, .ref s)] []
  refine ww_aload_n C dJ22_get_0 rfl 0 rfl rfl ?_
  refine ww_aload_n C dJ22_get_1 rfl 1 rfl rfl ?_
  refine cv_J22_158_q (As := [.ref s]) (rest := []) C dJ22_get_2 (ct_J22_getNode (Cx.fl C) (Cx.ok C) hI H1) (rc_J22 (Cx.ok C) (Or.inl hI.1)) rfl rfl (Nat.le_of_ble_eq_true rfl) (by decide) (Nat.zero_le _) (Nat.zero_le _) (fun vv z1 h1 q => ?_)
  obtain ⟨hq1, ⟨r9, hv, hR⟩, N1, hF⟩ := q; subst hv; replace hq1 := hq1.symm; subst hq1
  have hI1 := hI.hs H1 N1 hF
  rcases r9 with _ | f
  · skip
    exact absurd hjt (hR.2 rfl j hj)
  · skip
    have hf := hR.1 f rfl
    have efj : f = j := by by_cases e9 : f = j; { exact e9 }; { exact absurd (hf.2.trans hjt.symm) (hI.2.2.2.2.2.1 f j hf.1 hj e9) }
    subst efj
    show WW X (Rv (fun v z' h' => z' = z ∧ v = .ref (nV S.1 f) ∧ NmS (xG X) z h' s m u ∧ ∀ q, q ≠ s → h' q = h q)) z h1 0 0 5 [(0, .ref mp), (1, .ref s)] [.ref (nA S.1 f)]
    refine ww_dup C dJ22_get_5 rfl ?_
    refine ww_astore_n (lv' := [(2, .ref (nA S.1 f)), (0, .ref mp), (1, .ref s)]) C dJ22_get_6 rfl (by decide) rfl rfl ?_
    refine ww_ifnonnull_t (tgt := 14) C dJ22_get_7 (by decide) ?_
    obtain ⟨nx, hcell⟩ := hI1.cell hj
    rcases hcell with hcell | ⟨y1, y2, y3, y4, y5, hcell⟩
    · skip
      refine ww_aload_n C dJ22_get_14 rfl 0 rfl rfl ?_
      refine gf_J22_162_J26 C dJ22_get_15 (Or.inl hcell) rfl ?_
      exact ww_aret C (Or.inl ⟨_, rfl⟩) dJ22_get_18 rfl ⟨rfl, rfl, N1, hF⟩
    · skip
      refine ww_aload_n C dJ22_get_14 rfl 0 rfl rfl ?_
      refine gf_J22_162_J28 C dJ22_get_15 (Or.inl hcell) rfl ?_
      exact ww_aret C (Or.inl ⟨_, rfl⟩) dJ22_get_18 rfl ⟨rfl, rfl, N1, hF⟩
set_option maxHeartbeats 2000000 in
theorem ct_J22_size {l : Launch} {Γ : Gm} (hl : l.flags = flags0) (hΓ : GOK Γ) {z : ZR} {h : AH} {mp n nt tb : Nat} {mc : Int32} {lf : UInt32} {S : HS} {tm : Nat → Nat} {tu : Nat → Nat → Nat} (hI : HmI Γ z h mp n nt tb mc lf S tm tu) : Ct l Γ yJ22_size cJ22_size 1 (some .int) 1 0 0 [.ref mp] z h (RdP z h (some (.int (nI n)))) := by
  refine Ct.of hl hΓ (by decide +kernel) (Nat.le_of_ble_eq_true rfl) (fun X e1 e2 C => ?_)
  subst e1; subst e2
  have C : Cx X cJ22_size 1 "java/util/HashMap" "size" (some .int) [] 1 := C
  have a1 := hI.1
  show WW X (RdP z h (some (.int (nI n)))) z h 0 0 0 [(0, .ref mp)] []
  refine ww_aload_n C dJ22_size_0 rfl 0 rfl rfl ?_
  refine gf_J22_156_J22 C dJ22_size_1 (Or.inl a1) rfl ?_
  exact ww_iret C dJ22_size_4 (RdP.i rfl)
end HM1
