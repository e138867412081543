section HM3
set_option maxRecDepth 100000
theorem rz0 {h : AH} {mp tb : Nat} {e1 e2 f1 : va_E} (hn : mp ≠ tb) : up (up (up h mp e1) tb f1) mp e2 = up (up h tb f1) mp e2 := by
  funext q
  by_cases n1 : q = mp
  · rw [n1, up_s, up_s]
  · rw [up_n n1, up_n n1]
    by_cases n2 : q = tb
    · rw [n2, up_s, up_s]
    · rw [up_n n2, up_n n2, up_n n1]
theorem rz_shl {nt : Nat} (h : (nt = 16 ∨ nt = 32) ∨ False) : nI nt <<< (nI 1 &&& 31) = nI (2 * nt) := by rcases h with (rfl | rfl) | h; { decide }; { decide }; { exact h.elim }
theorem rz_shl2 {nt : Nat} (h : nt = 16 ∨ nt = 32) : nI (nt * 3 / 4) <<< (nI 1 &&& 31) = nI (2 * nt * 3 / 4) := by rcases h with rfl | rfl <;> decide
theorem nI_ltn {a b : Nat} (h : b ≤ a) (ha : a < 2 ^ 31) : ¬ nI a < nI b := fun q => by
  rw [Int32.lt_iff_toInt_lt, nI_toInt ha, nI_toInt (by omega)] at q
  omega
theorem hd_some {l : List Nat} {t : Nat} (h : l.getLast? = some t) : ∃ a, l.head? = some a := by
  cases l with
  | nil => cases h
  | cons a b => exact ⟨a, rfl⟩
theorem last_none {l : List Nat} (h : l.getLast? = none) : l = [] := by
  cases l with
  | nil => rfl
  | cons a b => simp [List.getLast?_cons] at h
/-- the table was doubled -/
def RzP (Γ : Gm) (z : ZR) (h : AH) (mp n nt tb : Nat) (E : ND) (B : Nat → List Nat) (cm : Nat → va_E) : Oc → ZR → AH → Prop := Rv (fun v z' h' => z' = z ∧ ∃ tb2 p' T', v = .ref tb2 ∧ h tb2 = none ∧ (∀ e, ¬ z tb2 e) ∧ h' mp = some (cm tb2) ∧ h' tb2 = some (.inl (gA Γ 5, (2 * nt, refs T'))) ∧ (∀ b, b < 2 * nt → T' b = (spB E nt B b).head?.map (nA E) ∧ NxL p' (spB E nt B b)) ∧ NdA h' n E p' ∧ FrM h h' mp tb n E)
theorem RzI.fi {Γ : Gm} {z : ZR} {h h1 : AH} {mp tb tb2 n nt : Nat} {E : ND} {p1 : PT} {B : Nat → List Nat} {T1 T2 : Nat → Option Nat} {cm : Nat → va_E} (H : RzI Γ h h1 mp tb tb2 n nt nt E p1 B T1 T2 (cm tb2)) (h2 : h tb2 = none) (hz : ∀ e, ¬ z tb2 e) : RzP Γ z h mp n nt tb E B cm (.inl (some (.ref tb2))) z h1 := by
  obtain ⟨a1, a2, a3, a4, a5, a6, a7⟩ := H
  refine ⟨rfl, tb2, p1, T2, rfl, h2, hz, a1, a3, fun b hb => (a6 b hb).1 (Nat.mod_lt _ (by omega)), a4, a7⟩
set_option maxHeartbeats 2000000 in
theorem ct_J22_resize0 {l : Launch} {Γ : Gm} (hl : l.flags = flags0) (hΓ : GOK Γ) {z : ZR} {h : AH} {mp k : Nat} {mc : Int32} {lf : UInt32} (Hmp : h mp = some (.inr (27, [.null, .null, .null, .null, .int (nI k), .int mc, .int (nI 0), .float lf]))) : Ct l Γ yJ22_resize cJ22_resize 14 (some (.array (.object "java/util/HashMap$Node"))) 2 1 16 [.ref mp] z h (Rv (fun v z' h' => z' = z ∧ ∃ tb, v = .ref tb ∧ h tb = none ∧ (∀ e, ¬ z tb e) ∧ h' = up (up h tb (.inl (gA Γ 5, (16, refs (fun _ => none))))) mp (.inr (27, [.null, .null, .ref tb, .null, .int (nI k), .int mc, .int (nI 12), .float lf])))) := by
  refine Ct.of hl hΓ (by decide +kernel) (Nat.le_of_ble_eq_true rfl) (fun X e1 e2 C => ?_)
  subst e1; subst e2
  have C : Cx X cJ22_resize 14 "java/util/HashMap" "resize" (some (.array (.object "java/util/HashMap$Node"))) [] 2 := C
  show WW X (Rv (fun v z' h' => z' = z ∧ ∃ tb, v = .ref tb ∧ h tb = none ∧ (∀ e, ¬ z tb e) ∧ h' = up (up h tb (.inl (gA (xG X) 5, (16, refs (fun _ => none))))) mp (.inr (27, [.null, .null, .ref tb, .null, .int (nI k), .int mc, .int (nI 12), .float lf])))) z h 1 16 0 [(0, .ref mp)] []
  refine ww_aload_n C dJ22_resize_0 rfl 0 rfl rfl ?_
  refine gf_J22_105_J22 C dJ22_resize_1 (Or.inl Hmp) rfl ?_
  refine ww_astore_n (lv' := [(1, .null), (0, .ref mp)]) C dJ22_resize_4 rfl (by decide) rfl rfl ?_
  refine ww_aload_n C dJ22_resize_5 rfl 0 rfl rfl ?_
  refine ww_ifnonnull_f C dJ22_resize_6 ?_
  refine ww_iconst C dJ22_resize_9 cI_0 ?_
  refine ww_goto (tgt := 15) C dJ22_resize_10 (by decide) ?_
  refine ww_istore_n (lv' := [(2, .int (nI 0)), (1, .null), (0, .ref mp)]) C dJ22_resize_15 rfl (by decide) rfl ?_
  refine ww_aload_n C dJ22_resize_16 rfl 2 rfl rfl ?_
  refine gf_J22_88_J22 C dJ22_resize_17 (Or.inl Hmp) rfl ?_
  refine ww_istore_n (lv' := [(3, .int (nI 0)), (2, .int (nI 0)), (1, .null), (0, .ref mp)]) C dJ22_resize_20 rfl (by decide) rfl ?_
  refine ww_iconst C dJ22_resize_21 cI_0 ?_
  refine ww_istore (lv' := [(5, .int (nI 0)), (3, .int (nI 0)), (2, .int (nI 0)), (1, .null), (0, .ref mp)]) C dJ22_resize_22 (by decide) rfl ?_
  refine ww_iload_n C dJ22_resize_24 rfl 2 rfl ?_
  refine ww_if_le_t (tgt := 67) C dJ22_resize_25 (by decide) (by decide) ?_
  refine ww_iload_n C dJ22_resize_67 rfl 1 rfl ?_
  refine ww_if_le_t (tgt := 77) C dJ22_resize_68 (by decide) (by decide) ?_
  refine ww_bipush C dJ22_resize_77 cB_16 ?_
  refine ww_istore (lv' := [(4, .int (nI 16)), (5, .int (nI 0)), (3, .int (nI 0)), (2, .int (nI 0)), (1, .null), (0, .ref mp)]) C dJ22_resize_79 (by decide) rfl ?_
  refine ww_bipush C dJ22_resize_81 cB_12 ?_
  refine ww_istore (lv' := [(5, .int (nI 12)), (4, .int (nI 16)), (3, .int (nI 0)), (2, .int (nI 0)), (1, .null), (0, .ref mp)]) C dJ22_resize_83 (by decide) rfl ?_
  refine ww_iload C dJ22_resize_85 0 rfl ?_
  refine ww_if_ne_t (tgt := 125) C dJ22_resize_87 (by decide) (nI_ne0 (by decide) (by decide)) ?_
  refine ww_aload_n C dJ22_resize_125 rfl 5 rfl rfl ?_
  refine ww_iload C dJ22_resize_126 0 rfl ?_
  refine pf_J22_88_J22 (fs' := [.null, .null, .null, .null, .int (nI k), .int mc, .int (nI 12), .float lf]) C dJ22_resize_128 Hmp rfl rfl (Nat.le_of_ble_eq_true rfl) rfl ?_
  refine ww_gen (fun h1 hE1 => ?_)
  have Hmp_h1 : h1 mp = some (.inr (27, [.null, .null, .null, .null, .int (nI k), .int mc, .int (nI 12), .float lf])) := by rw [hE1]; exact up_s
  refine ww_iload C dJ22_resize_131 1 rfl ?_
  refine ww_anew (t := 5) (n := 16) (E := "java/util/HashMap$Node") C dJ22_resize_133 (by decide) rfl q1600 q1601 (by decide) (by decide) (by decide) (fun tb tb_n tb_z tb_g => ?_)
  refine ww_gen (fun h2 hE2 => ?_)
  have Hmp_h2 : h2 mp = some (.inr (27, [.null, .null, .null, .null, .int (nI k), .int mc, .int (nI 12), .float lf])) := by rw [hE2, up_n (ne_nw Hmp_h1 tb_n)]; exact Hmp_h1
  have N2_h2 : h2 tb = some (.inl (gA (xG X) 5, (16, refs (fun _ => none)))) := by rw [hE2]; exact up_s
  refine ww_astore (lv' := [(6, .ref tb), (5, .int (nI 12)), (4, .int (nI 16)), (3, .int (nI 0)), (2, .int (nI 0)), (1, .null), (0, .ref mp)]) C dJ22_resize_136 (by decide) rfl rfl ?_
  refine ww_aload_n C dJ22_resize_138 rfl 6 rfl rfl ?_
  refine ww_aload C dJ22_resize_139 0 rfl rfl ?_
  refine pf_J22_105_J22 (fs' := [.null, .null, .ref tb, .null, .int (nI k), .int mc, .int (nI 12), .float lf]) C dJ22_resize_141 Hmp_h2 rfl rfl (Nat.le_of_ble_eq_true rfl) rfl ?_
  refine ww_gen (fun h3 hE3 => ?_)
  have N2_h3 : h3 tb = some (.inl (gA (xG X) 5, (16, refs (fun _ => none)))) := by rw [hE3, up_n (ne_ob N2_h2 Hmp_h2 (by simp))]; exact N2_h2
  have Hmp_h3 : h3 mp = some (.inr (27, [.null, .null, .ref tb, .null, .int (nI k), .int mc, .int (nI 12), .float lf])) := by rw [hE3]; exact up_s
  refine ww_aload_n C dJ22_resize_144 rfl 5 rfl rfl ?_
  refine ww_ifnull_t (tgt := 353) C dJ22_resize_145 (by decide) ?_
  refine ww_aload C dJ22_resize_353 0 rfl rfl ?_
  exact ww_aret C (Or.inr ⟨_, rfl⟩) dJ22_resize_355 rfl ⟨rfl, tb, rfl, (by have := tb_n; rw [hE1] at this; exact up_none this), tb_z, by rw [hE3, hE2, hE1]; exact rz0 (ne_nw Hmp (by have := tb_n; rw [hE1] at this; exact up_none this))⟩
set_option maxHeartbeats 2000000 in
theorem ct_J22_resize {l : Launch} {Γ : Gm} (hl : l.flags = flags0) (hΓ : GOK Γ) {z : ZR} {h : AH} {mp k n nt tb : Nat} {mc : Int32} {lf : UInt32} {E : ND} {p : PT} {B : Nat → List Nat} {T0 : Nat → Option Nat} (Hmp : h mp = some (.inr (27, [.null, .null, .ref tb, .null, .int (nI k), .int mc, .int (nI (nt * 3 / 4)), .float lf]))) (hnt : nt = 16 ∨ nt = 32) (Htb : h tb = some (.inl (gA Γ 5, (nt, refs T0)))) (hT0 : ∀ b, b < nt → T0 b = (B b).head?.map (nA E)) (hN : NdA h n E p) (hNx : ∀ b, b < nt → NxL p (B b)) (hmem : ∀ b, b < nt → ∀ i, i ∈ B b ↔ i < n ∧ bx nt (nH E i) = b) (hnd : ∀ b, b < nt → (B b).Nodup) : Ct l Γ yJ22_resize cJ22_resize 14 (some (.array (.object "java/util/HashMap$Node"))) 2 1 (2 * nt) [.ref mp] z h (RzP Γ z h mp n nt tb E B (fun tb2 => .inr (27, [.null, .null, .ref tb2, .null, .int (nI k), .int mc, .int (nI (2 * nt * 3 / 4)), .float lf]))) := by
  refine Ct.of hl hΓ (by decide +kernel) (Nat.le_of_ble_eq_true rfl) (fun X e1 e2 C => ?_)
  subst e1; subst e2
  have C : Cx X cJ22_resize 14 "java/util/HashMap" "resize" (some (.array (.object "java/util/HashMap$Node"))) [] 2 := C
  have Htb : h tb = some (.inl (gA (xG X) 5, (nt, refs T0))) := Htb
  have hn16 : 16 ≤ nt ∧ nt ≤ 32 := by omega
  show WW X (RzP (xG X) z h mp n nt tb E B (fun tb2 => .inr (27, [.null, .null, .ref tb2, .null, .int (nI k), .int mc, .int (nI (2 * nt * 3 / 4)), .float lf]))) z h 1 (2 * nt) 0 [(0, .ref mp)] []
  refine ww_aload_n C dJ22_resize_0 rfl 0 rfl rfl ?_
  refine gf_J22_105_J22 C dJ22_resize_1 (Or.inl Hmp) rfl ?_
  refine ww_astore_n (lv' := [(1, .ref tb), (0, .ref mp)]) C dJ22_resize_4 rfl (by decide) rfl rfl ?_
  refine ww_aload_n C dJ22_resize_5 rfl 0 rfl rfl ?_
  refine ww_ifnonnull_t (tgt := 13) C dJ22_resize_6 (by decide) ?_
  refine ww_aload_n C dJ22_resize_13 rfl 0 rfl rfl ?_
  refine ww_alen (t := 5) C dJ22_resize_14 (by decide) (Or.inl Htb) ?_
  refine ww_istore_n (lv' := [(2, .int (nI nt)), (1, .ref tb), (0, .ref mp)]) C dJ22_resize_15 rfl (by decide) rfl ?_
  refine ww_aload_n C dJ22_resize_16 rfl 2 rfl rfl ?_
  refine gf_J22_88_J22 C dJ22_resize_17 (Or.inl Hmp) rfl ?_
  refine ww_istore_n (lv' := [(3, .int (nI (nt * 3 / 4))), (2, .int (nI nt)), (1, .ref tb), (0, .ref mp)]) C dJ22_resize_20 rfl (by decide) rfl ?_
  refine ww_iconst C dJ22_resize_21 cI_0 ?_
  refine ww_istore (lv' := [(5, .int (nI 0)), (3, .int (nI (nt * 3 / 4))), (2, .int (nI nt)), (1, .ref tb), (0, .ref mp)]) C dJ22_resize_22 (by decide) rfl ?_
  refine ww_iload_n C dJ22_resize_24 rfl 2 rfl ?_
  refine ww_if_le_f (tgt := 67) C dJ22_resize_25 (by decide) (fun q => absurd (nI_le0 q (by omega)) (by omega)) ?_
  refine ww_iload_n C dJ22_resize_28 rfl 2 rfl ?_
  refine ww_ldc C q1597 dJ22_resize_29 ?_
  refine ww_st (st' := [.int (nI 1073741824), .int (nI nt)]) (by rfl) ?_
  refine ww_icmp_lt_t (tgt := 42) C dJ22_resize_31 (by decide) (nI_lt (by omega) (by decide)) ?_
  refine ww_iload_n C dJ22_resize_42 rfl 2 rfl ?_
  refine ww_iconst C dJ22_resize_43 cI_1 ?_
  refine ww_ishl C dJ22_resize_44 ?_
  refine ww_st (st' := [.int (nI (2 * nt))]) (by rw [rz_shl (Or.inl hnt)]) ?_
  refine ww_dup C dJ22_resize_45 rfl ?_
  refine ww_istore (lv' := [(4, .int (nI (2 * nt))), (5, .int (nI 0)), (3, .int (nI (nt * 3 / 4))), (2, .int (nI nt)), (1, .ref tb), (0, .ref mp)]) C dJ22_resize_46 (by decide) rfl ?_
  refine ww_ldc C q1597 dJ22_resize_48 ?_
  refine ww_st (st' := [.int (nI 1073741824), .int (nI (2 * nt))]) (by rfl) ?_
  refine ww_icmp_ge_f (tgt := 85) C dJ22_resize_50 (by decide) (nI_ge (by omega) (by decide)) ?_
  refine ww_iload_n C dJ22_resize_53 rfl 3 rfl ?_
  refine ww_bipush C dJ22_resize_54 cB_16 ?_
  refine ww_icmp_lt_f (tgt := 85) C dJ22_resize_56 (by decide) (nI_ltn (by omega) (by omega)) ?_
  refine ww_iload_n C dJ22_resize_59 rfl 2 rfl ?_
  refine ww_iconst C dJ22_resize_60 cI_1 ?_
  refine ww_ishl C dJ22_resize_61 ?_
  refine ww_st (st' := [.int (nI (2 * nt * 3 / 4))]) (by rw [rz_shl2 hnt]) ?_
  refine ww_istore (lv' := [(5, .int (nI (2 * nt * 3 / 4))), (4, .int (nI (2 * nt))), (3, .int (nI (nt * 3 / 4))), (2, .int (nI nt)), (1, .ref tb), (0, .ref mp)]) C dJ22_resize_62 (by decide) rfl ?_
  refine ww_goto (tgt := 85) C dJ22_resize_64 (by decide) ?_
  refine ww_iload C dJ22_resize_85 0 rfl ?_
  refine ww_if_ne_t (tgt := 125) C dJ22_resize_87 (by decide) (nI_ne0 (by omega) (by omega)) ?_
  refine ww_aload_n C dJ22_resize_125 rfl 5 rfl rfl ?_
  refine ww_iload C dJ22_resize_126 0 rfl ?_
  refine pf_J22_88_J22 (fs' := [.null, .null, .ref tb, .null, .int (nI k), .int mc, .int (nI (2 * nt * 3 / 4)), .float lf]) C dJ22_resize_128 Hmp rfl rfl (Nat.le_of_ble_eq_true rfl) rfl ?_
  refine ww_gen (fun h1 hE1 => ?_)
  have Htb_h1 : h1 tb = some (.inl (gA (xG X) 5, (nt, refs T0))) := by rw [hE1, up_n (Ne.symm (ne_ob Hmp Htb (by simp)))]; exact Htb
  have Hmp_h1 : h1 mp = some (.inr (27, [.null, .null, .ref tb, .null, .int (nI k), .int mc, .int (nI (2 * nt * 3 / 4)), .float lf])) := by rw [hE1]; exact up_s
  refine ww_iload C dJ22_resize_131 1 rfl ?_
  refine ww_anew (t := 5) (n := (2 * nt)) (E := "java/util/HashMap$Node") C dJ22_resize_133 (by decide) rfl q1600 q1601 (by omega) (by decide) (by omega) (fun tb2 tb2_n tb2_z tb2_g => ?_)
  refine ww_gen (fun h2 hE2 => ?_)
  have Hmp_h2 : h2 mp = some (.inr (27, [.null, .null, .ref tb, .null, .int (nI k), .int mc, .int (nI (2 * nt * 3 / 4)), .float lf])) := by rw [hE2, up_n (ne_nw Hmp_h1 tb2_n)]; exact Hmp_h1
  have Htb_h2 : h2 tb = some (.inl (gA (xG X) 5, (nt, refs T0))) := by rw [hE2, up_n (ne_nw Htb_h1 tb2_n)]; exact Htb_h1
  have N2_h2 : h2 tb2 = some (.inl (gA (xG X) 5, (2 * nt, refs (fun _ => none)))) := by rw [hE2]; exact up_s
  refine ww_astore (lv' := [(6, .ref tb2), (5, .int (nI (2 * nt * 3 / 4))), (4, .int (nI (2 * nt))), (3, .int (nI (nt * 3 / 4))), (2, .int (nI nt)), (1, .ref tb), (0, .ref mp)]) C dJ22_resize_136 (by decide) rfl rfl ?_
  refine ww_aload_n C dJ22_resize_138 rfl 6 rfl rfl ?_
  refine ww_aload C dJ22_resize_139 0 rfl rfl ?_
  refine pf_J22_105_J22 (fs' := [.null, .null, .ref tb2, .null, .int (nI k), .int mc, .int (nI (2 * nt * 3 / 4)), .float lf]) C dJ22_resize_141 Hmp_h2 rfl rfl (Nat.le_of_ble_eq_true rfl) rfl ?_
  refine ww_gen (fun h3 hE3 => ?_)
  have Htb_h3 : h3 tb = some (.inl (gA (xG X) 5, (nt, refs T0))) := by rw [hE3, up_n (Ne.symm (ne_ob Hmp Htb (by simp)))]; exact Htb_h2
  have N2_h3 : h3 tb2 = some (.inl (gA (xG X) 5, (2 * nt, refs (fun _ => none)))) := by rw [hE3, up_n (ne_ob N2_h2 Hmp_h2 (by simp))]; exact N2_h2
  have Hmp_h3 : h3 mp = some (.inr (27, [.null, .null, .ref tb2, .null, .int (nI k), .int mc, .int (nI (2 * nt * 3 / 4)), .float lf])) := by rw [hE3]; exact up_s
  refine ww_aload_n C dJ22_resize_144 rfl 5 rfl rfl ?_
  refine ww_ifnull_f C dJ22_resize_145 ?_
  refine ww_iconst C dJ22_resize_148 cI_0 ?_
  refine ww_istore (lv' := [(7, .int (nI 0)), (6, .ref tb2), (5, .int (nI (2 * nt * 3 / 4))), (4, .int (nI (2 * nt))), (3, .int (nI (nt * 3 / 4))), (2, .int (nI nt)), (1, .ref tb), (0, .ref mp)]) C dJ22_resize_149 (by decide) rfl ?_
  have t2n : h tb2 = none := by have := tb2_n; rw [hE1] at this; exact up_none this
  have hFr : FrM h h3 mp tb n E := by rw [hE3, hE2, hE1]; exact ((FrM.rf.w (Or.inl rfl)).w (Or.inr (Or.inr (Or.inr t2n)))).w (Or.inl rfl)
  have nmp : ∀ i, i < n → mp ≠ nA E i := fun i hi => ne_ob Hmp (hN.1 i hi) (by simp [cNd])
  have nt2 : ∀ i, i < n → tb2 ≠ nA E i := fun i hi => Ne.symm (ne_nw (hN.1 i hi) t2n)
  have ntb : ∀ i, i < n → tb ≠ nA E i := fun i hi => ne_ob Htb (hN.1 i hi) (by simp [cNd])
  have hN1 : NdA h3 n E p := by rw [hE3, hE2, hE1]; exact ((hN.ot nmp).ot nt2).ot nmp
  have hI0 : RzI (xG X) h h3 mp tb tb2 n nt 0 E p B T0 (fun _ => none) (.inr (27, [.null, .null, .ref tb2, .null, .int (nI k), .int mc, .int (nI (2 * nt * 3 / 4)), .float lf])) := ⟨Hmp_h3, Htb_h3, N2_h3, hN1, fun b _ hb => ⟨hT0 b hb, hNx b hb⟩, fun b hb => ⟨fun q => absurd q (Nat.not_lt_zero _), fun _ => rfl⟩, hFr⟩
  have n12 : tb ≠ tb2 := ne_nw Htb t2n
  have nm2 : mp ≠ tb2 := ne_nw Hmp t2n
  have nm1 : mp ≠ tb := ne_ob Hmp Htb (by simp)
  refine ww_sub [0, 1, 3, 5, 6, 7] rfl ?_
  refine loop_up (N := nt) (M := fun j => ∀ (h1 : AH) (p1 : PT) (T1 T2 : Nat → Option Nat), (RzI (xG X) h h1 mp tb tb2 n nt j E p1 B T1 T2 (.inr (27, [.null, .null, .ref tb2, .null, .int (nI k), .int mc, .int (nI (2 * nt * 3 / 4)), .float lf]))) → WW X (RzP (xG X) z h mp n nt tb E B (fun tb2 => .inr (27, [.null, .null, .ref tb2, .null, .int (nI k), .int mc, .int (nI (2 * nt * 3 / 4)), .float lf]))) z h1 (1 - 1) (2 * nt - 2 * nt) 151 [(7, .int (nI j)), (6, .ref tb2), (4, .int (nI (2 * nt))), (2, .int (nI nt)), (1, .ref tb), (0, .ref mp)] []) ?_ ?_ 0 (Nat.zero_le _) h3 p T0 (fun _ => none) hI0
  · intro h1 p1 T1 T2 hI
    show WW X (RzP (xG X) z h mp n nt tb E B (fun tb2 => .inr (27, [.null, .null, .ref tb2, .null, .int (nI k), .int mc, .int (nI (2 * nt * 3 / 4)), .float lf]))) z h1 (1 - 1) (2 * nt - 2 * nt) 151 [(7, .int (nI nt)), (6, .ref tb2), (4, .int (nI (2 * nt))), (2, .int (nI nt)), (1, .ref tb), (0, .ref mp)] []
    refine ww_iload C dJ22_resize_151 0 rfl ?_
    refine ww_iload_n C dJ22_resize_153 rfl 3 rfl ?_
    refine ww_icmp_ge_t (tgt := 353) C dJ22_resize_154 (by decide) (nI_le (Nat.le_refl _) (by omega)) ?_
    refine ww_aload C dJ22_resize_353 1 rfl rfl ?_
    exact ww_aret C (Or.inr ⟨_, rfl⟩) dJ22_resize_355 rfl (RzI.fi hI t2n tb2_z)
  · intro j hi ih h1 p1 T1 T2 hI
    show WW X (RzP (xG X) z h mp n nt tb E B (fun tb2 => .inr (27, [.null, .null, .ref tb2, .null, .int (nI k), .int mc, .int (nI (2 * nt * 3 / 4)), .float lf]))) z h1 (1 - 1) (2 * nt - 2 * nt) 151 [(7, .int (nI j)), (6, .ref tb2), (4, .int (nI (2 * nt))), (2, .int (nI nt)), (1, .ref tb), (0, .ref mp)] []
    obtain ⟨i1, i2, i3, i4, i5, i6, i7⟩ := id hI
    have i2 : h1 tb = some (.inl (gA (xG X) 5, (nt, refs T1))) := i2
    have i3 : h1 tb2 = some (.inl (gA (xG X) 5, (2 * nt, refs T2))) := i3
    obtain ⟨k1, k2⟩ := i5 j (Nat.le_refl _) hi
    obtain ⟨hspl, hsph⟩ := spB_lo hnt hi hmem
    have z1 := (i6 j (by omega)).2 (by rw [Nat.mod_eq_of_lt hi]; exact Nat.le_refl _)
    have z2 := (i6 (j + nt) (by omega)).2 (by rw [Nat.add_mod_right, Nat.mod_eq_of_lt hi]; exact Nat.le_refl _)
    have hlt : ∀ i, i ∈ B j → i < n := fun i hi9 => ((hmem j hi i).mp hi9).1
    have hndj := hnd j hi
    refine ww_iload C dJ22_resize_151 0 rfl ?_
    refine ww_iload_n C dJ22_resize_153 rfl 3 rfl ?_
    refine ww_icmp_ge_f (tgt := 353) C dJ22_resize_154 (by decide) (nI_ge hi (by omega)) ?_
    refine ww_aload_n C dJ22_resize_157 rfl 4 rfl rfl ?_
    refine ww_iload C dJ22_resize_158 0 rfl ?_
    refine ww_aald (t := 5) C dJ22_resize_160 (by decide) rfl (Or.inl i2) (by omega) (by omega) ?_
    refine ww_st (st' := [va_rf ((B j).head?.map (nA E))]) (by rw [k1]) ?_
    refine ww_dup C dJ22_resize_161 (va_rf_cat _) ?_
    refine ww_astore (lv' := [(8, va_rf ((B j).head?.map (nA E))), (7, .int (nI j)), (6, .ref tb2), (4, .int (nI (2 * nt))), (2, .int (nI nt)), (1, .ref tb), (0, .ref mp)]) C dJ22_resize_162 (by decide) (va_rf_isRef _) rfl ?_
    rcases hBj : B j with _ | ⟨f, r9⟩
    · skip
      show WW X (RzP (xG X) z h mp n nt tb E B (fun tb2 => .inr (27, [.null, .null, .ref tb2, .null, .int (nI k), .int mc, .int (nI (2 * nt * 3 / 4)), .float lf]))) z h1 (1 - 1) (2 * nt - 2 * nt) 164 [(8, .null), (7, .int (nI j)), (6, .ref tb2), (4, .int (nI (2 * nt))), (2, .int (nI nt)), (1, .ref tb), (0, .ref mp)] [.null]
      refine ww_ifnull_t (tgt := 347) C dJ22_resize_164 (by decide) ?_
      have e1 : spB E nt B j = [] := by rw [hspl, hBj]; rfl
      have e2 : spB E nt B (j + nt) = [] := by rw [hsph, hBj]; rfl
      refine ww_iinc (lv' := [(7, .int (nI (j + 1))), (8, .null), (6, .ref tb2), (4, .int (nI (2 * nt))), (2, .int (nI nt)), (1, .ref tb), (0, .ref mp)]) C dJ22_resize_347 1 rfl (inc_n _) (by decide) rfl ?_
      refine ww_goto (tgt := 151) C dJ22_resize_350 (by decide) ?_
      refine ww_sub [0, 2, 3, 4, 5, 6] rfl ?_
      exact ih _ _ _ _ (hI.st hi hmem i1 i2 i3 i4 i7 (fun _ _ => rfl) (fun _ _ => rfl) (fun _ _ _ => rfl) (by rw [e1]; exact ⟨z1, trivial⟩) (by rw [e2]; exact ⟨z2, trivial⟩))
    · skip
      show WW X (RzP (xG X) z h mp n nt tb E B (fun tb2 => .inr (27, [.null, .null, .ref tb2, .null, .int (nI k), .int mc, .int (nI (2 * nt * 3 / 4)), .float lf]))) z h1 (1 - 1) (2 * nt - 2 * nt) 164 [(8, .ref (nA E f)), (7, .int (nI j)), (6, .ref tb2), (4, .int (nI (2 * nt))), (2, .int (nI nt)), (1, .ref tb), (0, .ref mp)] [.ref (nA E f)]
      rw [hBj] at k2 hndj
      have gf : f ∈ B j := by rw [hBj]; exact List.mem_cons_self
      have lf9 := hlt f gf
      refine ww_ifnull_f C dJ22_resize_164 ?_
      refine ww_aload_n C dJ22_resize_167 rfl 5 rfl rfl ?_
      refine ww_iload C dJ22_resize_168 1 rfl ?_
      refine ww_null C dJ22_resize_170 ?_
      refine ww_aastN (t := 5) (E := "java/util/HashMap$Node") C dJ22_resize_171 (by decide) rfl i2 (by omega) (by omega) ?_
      refine ww_gen (fun h41 hE41 => ?_)
      have i1_h41 : h41 mp = some (.inr (27, [.null, .null, .ref tb2, .null, .int (nI k), .int mc, .int (nI (2 * nt * 3 / 4)), .float lf])) := by rw [hE41, up_n nm1]; exact i1
      have i3_h41 : h41 tb2 = some (.inl (gA (xG X) 5, (2 * nt, refs T2))) := by rw [hE41, up_n (Ne.symm n12)]; exact i3
      have i2_h41 : h41 tb = some (.inl (gA (xG X) 5, (nt, refs (va_up T1 j none)))) := by rw [hE41]; exact up_s
      have hNd41 : NdA h41 n E p1 := by rw [hE41]; exact i4.ot ntb
      have hFq41 : FrM h h41 mp tb n E := by rw [hE41]; exact i7.w (Or.inr (Or.inl rfl))
      refine ww_aload C dJ22_resize_172 0 rfl rfl ?_
      refine gf_J22_177_J26 C dJ22_resize_174 (Or.inl (hNd41.1 f lf9)) rfl ?_
      refine ww_st (st' := [va_rf (r9.head?.map (nA E))]) (by rw [k2.1]) ?_
      rcases hr9 : r9 with _ | ⟨g, r8⟩
      · skip
        show WW X (RzP (xG X) z h mp n nt tb E B (fun tb2 => .inr (27, [.null, .null, .ref tb2, .null, .int (nI k), .int mc, .int (nI (2 * nt * 3 / 4)), .float lf]))) z h41 (1 - 1) (2 * nt - 2 * nt) 177 [(8, .ref (nA E f)), (7, .int (nI j)), (6, .ref tb2), (4, .int (nI (2 * nt))), (2, .int (nI nt)), (1, .ref tb), (0, .ref mp)] [.null]
        refine ww_ifnonnull_f C dJ22_resize_177 ?_
        refine ww_aload C dJ22_resize_180 2 rfl rfl ?_
        refine ww_aload C dJ22_resize_182 0 rfl rfl ?_
        refine gf_J22_168_J26 C dJ22_resize_184 (Or.inl (hNd41.1 f lf9)) rfl ?_
        refine ww_iload C dJ22_resize_187 3 rfl ?_
        refine ww_iconst C dJ22_resize_189 cI_1 ?_
        refine ww_isubn C dJ22_resize_190 (by omega) ?_
        refine ww_iand C dJ22_resize_191 ?_
        refine ww_st (st' := [.int (nI (bx (2 * nt) (nH E f))), .ref tb2]) (by rw [Int32.and_comm, (bx_e (by omega) (nH E f)).1]) ?_
        refine ww_aload C dJ22_resize_192 0 rfl rfl ?_
        have hbf := (bx_e (nt := 2 * nt) (by omega) (nH E f)).2
        refine ww_aastS (t := 5) (E := "java/util/HashMap$Node") C dJ22_resize_194 (by decide) rfl  i3_h41 (rc_J26 (Cx.ok C) (Or.inl (hNd41.1 f lf9))) (by omega) (by omega) ?_
        refine ww_gen (fun h42 hE42 => ?_)
        have i1_h42 : h42 mp = some (.inr (27, [.null, .null, .ref tb2, .null, .int (nI k), .int mc, .int (nI (2 * nt * 3 / 4)), .float lf])) := by rw [hE42, up_n nm2]; exact i1_h41
        have i2_h42 : h42 tb = some (.inl (gA (xG X) 5, (nt, refs (va_up T1 j none)))) := by rw [hE42, up_n n12]; exact i2_h41
        have i3_h42 : h42 tb2 = some (.inl (gA (xG X) 5, (2 * nt, refs (va_up T2 (bx (2 * nt) (nH E f)) (some (nA E f)))))) := by rw [hE42]; exact up_s
        have hNd42 : NdA h42 n E p1 := by rw [hE42]; exact hNd41.ot nt2
        have hFq42 : FrM h h42 mp tb n E := by rw [hE42]; exact hFq41.w (Or.inr (Or.inr (Or.inr t2n)))
        rw [hr9] at hBj
        have hb2 : bx (2 * nt) (nH E f) = j + (if nH E f &&& nI nt = 0 then 0 else nt) := by rw [bx_2 hnt, ((hmem j hi f).mp gf).2]
        have s1 : spB E nt B j = if nH E f &&& nI nt = 0 then [f] else [] := by rw [hspl, hBj]; by_cases g9 : nH E f &&& nI nt = 0 <;> simp [g9]
        have s2 : spB E nt B (j + nt) = if nH E f &&& nI nt = 0 then [] else [f] := by rw [hsph, hBj]; by_cases g9 : nH E f &&& nI nt = 0 <;> simp [g9]
        have x1 : NxL p1 [f] := by rw [hr9] at k2; exact k2
        refine ww_goto (tgt := 347) C dJ22_resize_195 (by decide) ?_
        refine ww_iinc (lv' := [(7, .int (nI (j + 1))), (8, .ref (nA E f)), (6, .ref tb2), (4, .int (nI (2 * nt))), (2, .int (nI nt)), (1, .ref tb), (0, .ref mp)]) C dJ22_resize_347 1 rfl (inc_n _) (by decide) rfl ?_
        refine ww_goto (tgt := 151) C dJ22_resize_350 (by decide) ?_
        refine ww_sub [0, 2, 3, 4, 5, 6] rfl ?_
        exact ih _ _ _ _ (hI.st hi hmem i1_h42 i2_h42 i3_h42 hNd42 hFq42 (fun _ _ => rfl) (fun b hb9 => va_ne hb9) (fun b n1 n2 => va_ne (fun e9 => by rw [hb2] at e9; split at e9 <;> omega)) (by rw [s1, hb2]; split; { rw [Nat.add_zero, va_eq]; exact ⟨rfl, x1⟩ }; { rw [va_ne (by omega)]; exact ⟨z1, trivial⟩ }) (by rw [s2, hb2]; split; { rw [va_ne (by omega)]; exact ⟨z2, trivial⟩ }; { rw [va_eq]; exact ⟨rfl, x1⟩ }))
      · skip
        show WW X (RzP (xG X) z h mp n nt tb E B (fun tb2 => .inr (27, [.null, .null, .ref tb2, .null, .int (nI k), .int mc, .int (nI (2 * nt * 3 / 4)), .float lf]))) z h41 (1 - 1) (2 * nt - 2 * nt) 177 [(8, .ref (nA E f)), (7, .int (nI j)), (6, .ref tb2), (4, .int (nI (2 * nt))), (2, .int (nI nt)), (1, .ref tb), (0, .ref mp)] [.ref (nA E g)]
        refine ww_ifnonnull_t (tgt := 198) C dJ22_resize_177 (by decide) ?_
        refine ww_aload C dJ22_resize_198 0 rfl rfl ?_
        refine ww_instNo C q1223 ncNT (rc_J26 (Cx.ok C) (Or.inl (hNd41.1 f lf9))) dJ22_resize_200 ?_
        refine ww_if_eq_t (tgt := 223) C dJ22_resize_203 (by decide) (by decide) ?_
        refine ww_null C dJ22_resize_223 ?_
        refine ww_astore (lv' := [(9, .null), (8, .ref (nA E f)), (7, .int (nI j)), (6, .ref tb2), (4, .int (nI (2 * nt))), (2, .int (nI nt)), (1, .ref tb), (0, .ref mp)]) C dJ22_resize_224 (by decide) rfl rfl ?_
        refine ww_null C dJ22_resize_226 ?_
        refine ww_astore (lv' := [(10, .null), (9, .null), (8, .ref (nA E f)), (7, .int (nI j)), (6, .ref tb2), (4, .int (nI (2 * nt))), (2, .int (nI nt)), (1, .ref tb), (0, .ref mp)]) C dJ22_resize_227 (by decide) rfl rfl ?_
        refine ww_null C dJ22_resize_229 ?_
        refine ww_astore (lv' := [(11, .null), (10, .null), (9, .null), (8, .ref (nA E f)), (7, .int (nI j)), (6, .ref tb2), (4, .int (nI (2 * nt))), (2, .int (nI nt)), (1, .ref tb), (0, .ref mp)]) C dJ22_resize_230 (by decide) rfl rfl ?_
        refine ww_null C dJ22_resize_232 ?_
        refine ww_astore (lv' := [(12, .null), (11, .null), (10, .null), (9, .null), (8, .ref (nA E f)), (7, .int (nI j)), (6, .ref tb2), (4, .int (nI (2 * nt))), (2, .int (nI nt)), (1, .ref tb), (0, .ref mp)]) C dJ22_resize_233 (by decide) rfl rfl ?_
        have key : ∀ (r7 : List Nat) (x9 : Nat) (l1 lo hi9 : List Nat) (h5 : AH) (p5 : PT), B j = l1 ++ x9 :: r7 → lo = l1.filter (fun i => decide (nH E i &&& nI nt = 0)) → hi9 = l1.filter (fun i => !decide (nH E i &&& nI nt = 0)) → NdA h5 n E p5 → FrM h h5 mp tb n E → h5 mp = some (.inr (27, [.null, .null, .ref tb2, .null, .int (nI k), .int mc, .int (nI (2 * nt * 3 / 4)), .float lf])) → h5 tb = some (.inl (gA (xG X) 5, (nt, refs (va_up T1 j none)))) → h5 tb2 = some (.inl (gA (xG X) 5, (2 * nt, refs T2))) → NxO p5 lo → NxO p5 hi9 → NxL p5 (x9 :: r7) → (∀ i, i ∉ B j → p5 0 i = p1 0 i) → WW X (RzP (xG X) z h mp n nt tb E B (fun tb2 => .inr (27, [.null, .null, .ref tb2, .null, .int (nI k), .int mc, .int (nI (2 * nt * 3 / 4)), .float lf]))) z h5 (1 - 1) (2 * nt - 2 * nt) 235 [(8, .ref (nA E x9)), (9, va_rf ((lo.head?).map (nA E))), (10, va_rf ((lo.getLast?).map (nA E))), (11, va_rf ((hi9.head?).map (nA E))), (12, va_rf ((hi9.getLast?).map (nA E))), (7, .int (nI j)), (6, .ref tb2), (4, .int (nI (2 * nt))), (2, .int (nI nt)), (1, .ref tb), (0, .ref mp)] [] := by
          intro r7
          induction r7 with
          | nil =>
            intro x9 l1 lo hi9 h5 p5 hl hlo hhi hN5 hF5 m5 t5 u5 o1 o2 hx5 ho
            have gx : x9 ∈ B j := by rw [hl]; simp
            have lx := hlt x9 gx
            have hnd9 : (B j).Nodup := hnd j hi
            rw [hl] at hnd9
            have nx1 : x9 ∉ l1 := fun e9 => (List.nodup_append.mp hnd9).2.2 x9 e9 x9 List.mem_cons_self rfl
            have ndl : l1.Nodup := (List.nodup_append.mp hnd9).1
            have ndlo : lo.Nodup := by rw [hlo]; exact ndl.filter _
            have ndhi : hi9.Nodup := by rw [hhi]; exact ndl.filter _
            have slo : ∀ i, i ∈ lo → i ∈ l1 := fun i q9 => by rw [hlo] at q9; exact (List.mem_filter.mp q9).1
            have shi : ∀ i, i ∈ hi9 → i ∈ l1 := fun i q9 => by rw [hhi] at q9; exact (List.mem_filter.mp q9).1
            have sl1 : ∀ i, i ∈ l1 → i ∈ B j := fun i q9 => by rw [hl]; exact List.mem_append_left _ q9
            have nr7 : ∀ i, i ∈ ([] : List Nat) → i ∉ l1 ∧ i ≠ x9 := fun i q9 => ⟨fun e9 => (List.nodup_append.mp hnd9).2.2 i e9 i (List.mem_cons_of_mem _ q9) rfl, fun e9 => (List.nodup_cons.mp (List.nodup_append.mp hnd9).2.1).1 (by rw [← e9]; exact q9)⟩
            have dlh : ∀ i, i ∈ lo → i ∉ hi9 := fun i q8 q9 => by rw [hlo] at q8; rw [hhi] at q9; have a8 := (List.mem_filter.mp q8).2; have a9 := (List.mem_filter.mp q9).2; rw [a8] at a9; cases a9
            refine ww_aload C dJ22_resize_235 0 rfl rfl ?_
            refine gf_J22_177_J26 C dJ22_resize_237 (Or.inl (hN5.1 x9 lx)) rfl ?_
            refine ww_st (st' := [.null]) (by rw [hx5.1]; rfl) ?_
            refine ww_astore (lv' := [(13, .null), (8, .ref (nA E x9)), (9, va_rf ((lo.head?).map (nA E))), (10, va_rf ((lo.getLast?).map (nA E))), (11, va_rf ((hi9.head?).map (nA E))), (12, va_rf ((hi9.getLast?).map (nA E))), (7, .int (nI j)), (6, .ref tb2), (4, .int (nI (2 * nt))), (2, .int (nI nt)), (1, .ref tb), (0, .ref mp)]) C dJ22_resize_240 (by decide) rfl (by first | (simp [va_rf_cat]; done) | (simp [va_rf_cat]; simp only [Value.category]; decide)) ?_
            refine ww_aload C dJ22_resize_242 1 rfl rfl ?_
            refine gf_J22_168_J26 C dJ22_resize_244 (Or.inl (hN5.1 x9 lx)) rfl ?_
            refine ww_iload_n C dJ22_resize_247 rfl 9 rfl ?_
            refine ww_iand C dJ22_resize_248 ?_
            refine ww_if_ne (tgt := 278) C dJ22_resize_249 (by decide) (fun c_249 => ?_) (fun c_249 => ?_)
            · skip
              have hP : decide (nH E x9 &&& nI nt = 0) = false := decide_eq_false c_249
              refine ww_aload C dJ22_resize_278 5 rfl (va_rf_isRef _) ?_
              rcases h_t9 : hi9.getLast? with _ | t9
              · skip
                show WW X (RzP (xG X) z h mp n nt tb E B (fun tb2 => .inr (27, [.null, .null, .ref tb2, .null, .int (nI k), .int mc, .int (nI (2 * nt * 3 / 4)), .float lf]))) z h5 (1 - 1) (2 * nt - 2 * nt) 280 [(13, .null), (8, .ref (nA E x9)), (9, va_rf ((lo.head?).map (nA E))), (10, va_rf ((lo.getLast?).map (nA E))), (11, va_rf ((hi9.head?).map (nA E))), (12, .null), (7, .int (nI j)), (6, .ref tb2), (4, .int (nI (2 * nt))), (2, .int (nI nt)), (1, .ref tb), (0, .ref mp)] [.null]
                have hemp : hi9 = [] := by cases h9 : hi9 with | nil => rfl | cons a8 b8 => (rw [h9] at h_t9; simp [List.getLast?_cons] at h_t9)
                refine ww_ifnonnull_f C dJ22_resize_280 ?_
                refine ww_aload C dJ22_resize_283 1 rfl rfl ?_
                refine ww_astore (lv' := [(11, .ref (nA E x9)), (13, .null), (8, .ref (nA E x9)), (9, va_rf ((lo.head?).map (nA E))), (10, va_rf ((lo.getLast?).map (nA E))), (12, .null), (7, .int (nI j)), (6, .ref tb2), (4, .int (nI (2 * nt))), (2, .int (nI nt)), (1, .ref tb), (0, .ref mp)]) C dJ22_resize_285 (by decide) rfl (by first | (simp [va_rf_cat]; done) | (simp [va_rf_cat]; simp only [Value.category]; decide)) ?_
                refine ww_goto (tgt := 297) C dJ22_resize_287 (by decide) ?_
                have hnm : NxO p5 (hi9 ++ [x9]) := by rw [hemp]; trivial
                have hot : NxO p5 lo := o1
                have hhd : (hi9 ++ [x9]).head? = some x9 := by rw [hemp]; rfl
                refine ww_aload C dJ22_resize_297 2 rfl rfl ?_
                refine ww_astore (lv' := [(12, .ref (nA E x9)), (11, .ref (nA E x9)), (13, .null), (8, .ref (nA E x9)), (9, va_rf ((lo.head?).map (nA E))), (10, va_rf ((lo.getLast?).map (nA E))), (7, .int (nI j)), (6, .ref tb2), (4, .int (nI (2 * nt))), (2, .int (nI nt)), (1, .ref tb), (0, .ref mp)]) C dJ22_resize_299 (by decide) rfl rfl ?_
                refine ww_aload C dJ22_resize_301 2 rfl rfl ?_
                refine ww_dup C dJ22_resize_303 rfl ?_
                refine ww_astore (lv' := [(8, .null), (12, .ref (nA E x9)), (11, .ref (nA E x9)), (13, .null), (9, va_rf ((lo.head?).map (nA E))), (10, va_rf ((lo.getLast?).map (nA E))), (7, .int (nI j)), (6, .ref tb2), (4, .int (nI (2 * nt))), (2, .int (nI nt)), (1, .ref tb), (0, .ref mp)]) C dJ22_resize_304 (by decide) rfl rfl ?_
                have hlo2 : hi9 ++ [x9] = (l1 ++ [x9]).filter (fun i => !decide (nH E i &&& nI nt = 0)) := by rw [List.filter_append, ← hhi]; congr 1; simp only [List.filter]; rw [hP]; try rfl
                have hhi2 : lo = (l1 ++ [x9]).filter (fun i => decide (nH E i &&& nI nt = 0)) := by rw [List.filter_append, ← hlo]; simp only [List.filter]; rw [hP]; simp
                refine ww_ifnonnull_f C dJ22_resize_306 ?_
                refine ww_sub [4, 5, 2, 1, 6, 7, 8, 9, 10, 11] rfl ?_
                refine ww_lv (lv' := [(9, va_rf ((lo.head?).map (nA E))), (10, va_rf ((lo.getLast?).map (nA E))), (11, va_rf (((hi9 ++ [x9]).head?).map (nA E))), (12, va_rf (((hi9 ++ [x9]).getLast?).map (nA E))), (7, .int (nI j)), (6, .ref tb2), (4, .int (nI (2 * nt))), (2, .int (nI nt)), (1, .ref tb), (0, .ref mp)]) (by rw [hhd, List.getLast?_concat]; first | rfl | (rw [h_t9]; rfl) | (rw [h_t9])) ?_
                have eB : B j = l1 ++ [x9] := hl
                have pL : spB E nt B j = lo := by rw [hspl, hl]; exact hhi2.symm
                have pH : spB E nt B (j + nt) = (hi9 ++ [x9]) := by rw [hsph, hl]; exact hlo2.symm
                have nL : (lo).Nodup := by rw [hhi2, ← hl]; exact (hnd j hi).filter _
                have nH9 : ((hi9 ++ [x9])).Nodup := by rw [hlo2, ← hl]; exact (hnd j hi).filter _
                have sL : ∀ i, i ∈ lo → i ∈ B j := fun i q9 => by rw [hhi2, ← hl] at q9; exact (List.mem_filter.mp q9).1
                have sH : ∀ i, i ∈ (hi9 ++ [x9]) → i ∈ B j := fun i q9 => by rw [hlo2, ← hl] at q9; exact (List.mem_filter.mp q9).1
                have dLH : ∀ i, i ∈ lo → i ∉ (hi9 ++ [x9]) := fun i q8 q9 => by rw [hhi2] at q8; rw [hlo2] at q9; have a8 := (List.mem_filter.mp q8).2; have a9 := (List.mem_filter.mp q9).2; rw [a8] at a9; cases a9
                have hou : ∀ i, i ∉ B j → p5 0 i = p1 0 i := ho
                have oL := hot
                have oH := hnm
                refine ww_aload C dJ22_resize_309 1 rfl (va_rf_isRef _) ?_
                rcases h_a9 : lo.getLast? with _ | a9
                · skip
                  show WW X (RzP (xG X) z h mp n nt tb E B (fun tb2 => .inr (27, [.null, .null, .ref tb2, .null, .int (nI k), .int mc, .int (nI (2 * nt * 3 / 4)), .float lf]))) z h5 (1 - 1) (2 * nt - 2 * nt) 311 [(9, va_rf ((lo.head?).map (nA E))), (10, .null), (11, va_rf (((hi9 ++ [x9]).head?).map (nA E))), (12, va_rf (((hi9 ++ [x9]).getLast?).map (nA E))), (7, .int (nI j)), (6, .ref tb2), (4, .int (nI (2 * nt))), (2, .int (nI nt)), (1, .ref tb), (0, .ref mp)] [.null]
                  have eL : lo = [] := last_none h_a9
                  refine ww_ifnull_t (tgt := 327) C dJ22_resize_311 (by decide) ?_
                  have cL : NxL p5 lo := by rw [eL]; trivial
                  have cH := oH
                  have hou2 := hou
                  refine ww_aload C dJ22_resize_327 3 rfl (va_rf_isRef _) ?_
                  rcases h_c9 : (hi9 ++ [x9]).getLast? with _ | c9
                  · skip
                    show WW X (RzP (xG X) z h mp n nt tb E B (fun tb2 => .inr (27, [.null, .null, .ref tb2, .null, .int (nI k), .int mc, .int (nI (2 * nt * 3 / 4)), .float lf]))) z h5 (1 - 1) (2 * nt - 2 * nt) 329 [(9, va_rf ((lo.head?).map (nA E))), (10, .null), (11, va_rf (((hi9 ++ [x9]).head?).map (nA E))), (12, .null), (7, .int (nI j)), (6, .ref tb2), (4, .int (nI (2 * nt))), (2, .int (nI nt)), (1, .ref tb), (0, .ref mp)] [.null]
                    have eH : (hi9 ++ [x9]) = [] := last_none h_c9
                    refine ww_ifnull_t (tgt := 347) C dJ22_resize_329 (by decide) ?_
                    have cH2 : NxL p5 (hi9 ++ [x9]) := by rw [eH]; trivial
                    have cL2 := cL
                    have hou3 := hou2
                    refine ww_iinc (lv' := [(7, .int (nI (j + 1))), (9, va_rf ((lo.head?).map (nA E))), (10, .null), (11, va_rf (((hi9 ++ [x9]).head?).map (nA E))), (12, .null), (6, .ref tb2), (4, .int (nI (2 * nt))), (2, .int (nI nt)), (1, .ref tb), (0, .ref mp)]) C dJ22_resize_347 4 rfl (inc_n _) (by decide) rfl ?_
                    refine ww_goto (tgt := 151) C dJ22_resize_350 (by decide) ?_
                    refine ww_sub [0, 5, 6, 7, 8, 9] rfl ?_
                    exact ih _ _ _ _ (hI.st hi hmem m5 t5 u5 hN5 hF5 hou3 (fun b hb9 => va_ne hb9) (fun b m1 m2 => by rfl) (by rw [pL]; refine ⟨?_, cL2⟩; rw [eL]; exact z1) (by rw [pH]; refine ⟨?_, cH2⟩; rw [eH]; exact z2))
                  · skip
                    show WW X (RzP (xG X) z h mp n nt tb E B (fun tb2 => .inr (27, [.null, .null, .ref tb2, .null, .int (nI k), .int mc, .int (nI (2 * nt * 3 / 4)), .float lf]))) z h5 (1 - 1) (2 * nt - 2 * nt) 329 [(9, va_rf ((lo.head?).map (nA E))), (10, .null), (11, va_rf (((hi9 ++ [x9]).head?).map (nA E))), (12, .ref (nA E c9)), (7, .int (nI j)), (6, .ref tb2), (4, .int (nI (2 * nt))), (2, .int (nI nt)), (1, .ref tb), (0, .ref mp)] [.ref (nA E c9)]
                    have gc := sH c9 (List.mem_of_getLast? h_c9)
                    have lc9 := hlt c9 gc
                    refine ww_ifnull_f C dJ22_resize_329 ?_
                    refine ww_aload C dJ22_resize_332 3 rfl rfl ?_
                    refine ww_null C dJ22_resize_334 ?_
                    refine pf_J22_177_J26 (fs' := [.int (nH E c9), .ref (nK E c9), .ref (nV E c9), .null]) C dJ22_resize_335 (hN5.1 c9 lc9) rfl rfl (Nat.le_of_ble_eq_true rfl) rfl ?_
                    refine ww_gen (fun h43 hE43 => ?_)
                    obtain ⟨p43, ep43⟩ : ∃ Q9, Q9 = pst p5 0 c9 none := ⟨_, rfl⟩
                    have hNd43 : NdA h43 n E p43 := by rw [ep43, hE43]; exact hN5.put (o := none) lc9
                    have hFq43 : FrM h h43 mp tb n E := by rw [hE43]; exact hF5.w (Or.inr (Or.inr (Or.inl ⟨c9, lc9, rfl⟩)))
                    have m5_h43 : h43 mp = some (.inr (27, [.null, .null, .ref tb2, .null, .int (nI k), .int mc, .int (nI (2 * nt * 3 / 4)), .float lf])) := by rw [hE43, up_n (nmp c9 lc9)]; exact m5
                    have t5_h43 : h43 tb = some (.inl (gA (xG X) 5, (nt, refs (va_up T1 j none)))) := by rw [hE43, up_n (ntb c9 lc9)]; exact t5
                    have u5_h43 : h43 tb2 = some (.inl (gA (xG X) 5, (2 * nt, refs T2))) := by rw [hE43, up_n (nt2 c9 lc9)]; exact u5
                    obtain ⟨hdH, ehH⟩ := hd_some h_c9
                    have gH := sH hdH (List.mem_of_head? ehH)
                    have lH := hlt hdH gH
                    have cH2 : NxL p43 (hi9 ++ [x9]) := by rw [ep43]; exact cH.fi h_c9 nH9
                    have cL2 : NxL p43 lo := by rw [ep43]; exact cL.cg (fun i q9 => pst_i (fun e9 => dLH i q9 (by rw [e9]; exact List.mem_of_getLast? h_c9)))
                    have hou3 : ∀ i, i ∉ B j → p43 0 i = p1 0 i := fun i q9 => by rw [ep43, pst_i (fun e9 => q9 (by rw [e9]; exact gc))]; exact hou2 i q9
                    refine ww_aload C dJ22_resize_338 5 rfl rfl ?_
                    refine ww_iload C dJ22_resize_340 4 rfl ?_
                    refine ww_iload_n C dJ22_resize_342 rfl 7 rfl ?_
                    refine ww_iaddn C dJ22_resize_343 ?_
                    refine ww_aload C dJ22_resize_344 2 rfl (va_rf_isRef _) ?_
                    refine ww_st (st' := [.ref (nA E hdH), .int (nI (j + nt)), .ref tb2]) (by rw [ehH]; rfl) ?_
                    refine ww_aastS (t := 5) (E := "java/util/HashMap$Node") C dJ22_resize_346 (by decide) rfl  u5_h43 (rc_J26 (Cx.ok C) (Or.inl (hNd43.1 hdH lH))) (by omega) (by omega) ?_
                    refine ww_gen (fun h44 hE44 => ?_)
                    have m5_h44 : h44 mp = some (.inr (27, [.null, .null, .ref tb2, .null, .int (nI k), .int mc, .int (nI (2 * nt * 3 / 4)), .float lf])) := by rw [hE44, up_n nm2]; exact m5_h43
                    have t5_h44 : h44 tb = some (.inl (gA (xG X) 5, (nt, refs (va_up T1 j none)))) := by rw [hE44, up_n n12]; exact t5_h43
                    have u5_h44 : h44 tb2 = some (.inl (gA (xG X) 5, (2 * nt, refs (va_up T2 (j + nt) (some (nA E hdH)))))) := by rw [hE44]; exact up_s
                    have hNd44 : NdA h44 n E p43 := by rw [hE44]; exact hNd43.ot nt2
                    have hFq44 : FrM h h44 mp tb n E := by rw [hE44]; exact hFq43.w (Or.inr (Or.inr (Or.inr t2n)))
                    refine ww_iinc (lv' := [(7, .int (nI (j + 1))), (9, va_rf ((lo.head?).map (nA E))), (10, .null), (11, va_rf (((hi9 ++ [x9]).head?).map (nA E))), (12, .ref (nA E c9)), (6, .ref tb2), (4, .int (nI (2 * nt))), (2, .int (nI nt)), (1, .ref tb), (0, .ref mp)]) C dJ22_resize_347 4 rfl (inc_n _) (by decide) rfl ?_
                    refine ww_goto (tgt := 151) C dJ22_resize_350 (by decide) ?_
                    refine ww_sub [0, 5, 6, 7, 8, 9] rfl ?_
                    exact ih _ _ _ _ (hI.st hi hmem m5_h44 t5_h44 u5_h44 hNd44 hFq44 hou3 (fun b hb9 => va_ne hb9) (fun b m1 m2 => by rw [va_ne m2]) (by rw [pL]; refine ⟨?_, cL2⟩; rw [va_ne (by omega), eL]; exact z1) (by rw [pH]; refine ⟨?_, cH2⟩; rw [va_eq, ehH]; rfl))
                · skip
                  show WW X (RzP (xG X) z h mp n nt tb E B (fun tb2 => .inr (27, [.null, .null, .ref tb2, .null, .int (nI k), .int mc, .int (nI (2 * nt * 3 / 4)), .float lf]))) z h5 (1 - 1) (2 * nt - 2 * nt) 311 [(9, va_rf ((lo.head?).map (nA E))), (10, .ref (nA E a9)), (11, va_rf (((hi9 ++ [x9]).head?).map (nA E))), (12, va_rf (((hi9 ++ [x9]).getLast?).map (nA E))), (7, .int (nI j)), (6, .ref tb2), (4, .int (nI (2 * nt))), (2, .int (nI nt)), (1, .ref tb), (0, .ref mp)] [.ref (nA E a9)]
                  have ga := sL a9 (List.mem_of_getLast? h_a9)
                  have la := hlt a9 ga
                  refine ww_ifnull_f C dJ22_resize_311 ?_
                  refine ww_aload C dJ22_resize_314 1 rfl rfl ?_
                  refine ww_null C dJ22_resize_316 ?_
                  refine pf_J22_177_J26 (fs' := [.int (nH E a9), .ref (nK E a9), .ref (nV E a9), .null]) C dJ22_resize_317 (hN5.1 a9 la) rfl rfl (Nat.le_of_ble_eq_true rfl) rfl ?_
                  refine ww_gen (fun h45 hE45 => ?_)
                  obtain ⟨p45, ep45⟩ : ∃ Q9, Q9 = pst p5 0 a9 none := ⟨_, rfl⟩
                  have hNd45 : NdA h45 n E p45 := by rw [ep45, hE45]; exact hN5.put (o := none) la
                  have hFq45 : FrM h h45 mp tb n E := by rw [hE45]; exact hF5.w (Or.inr (Or.inr (Or.inl ⟨a9, la, rfl⟩)))
                  have m5_h45 : h45 mp = some (.inr (27, [.null, .null, .ref tb2, .null, .int (nI k), .int mc, .int (nI (2 * nt * 3 / 4)), .float lf])) := by rw [hE45, up_n (nmp a9 la)]; exact m5
                  have t5_h45 : h45 tb = some (.inl (gA (xG X) 5, (nt, refs (va_up T1 j none)))) := by rw [hE45, up_n (ntb a9 la)]; exact t5
                  have u5_h45 : h45 tb2 = some (.inl (gA (xG X) 5, (2 * nt, refs T2))) := by rw [hE45, up_n (nt2 a9 la)]; exact u5
                  obtain ⟨hdL, ehL⟩ := hd_some h_a9
                  have gL := sL hdL (List.mem_of_head? ehL)
                  have lL := hlt hdL gL
                  have cL : NxL p45 lo := by rw [ep45]; exact oL.fi h_a9 nL
                  have cH : NxO p45 (hi9 ++ [x9]) := by rw [ep45]; exact oH.cg (fun i q9 => pst_i (fun e9 => dLH a9 (List.mem_of_getLast? h_a9) (by rw [← e9]; exact List.dropLast_subset _ q9)))
                  have hou2 : ∀ i, i ∉ B j → p45 0 i = p1 0 i := fun i q9 => by rw [ep45, pst_i (fun e9 => q9 (by rw [e9]; exact ga))]; exact hou i q9
                  refine ww_aload C dJ22_resize_320 5 rfl rfl ?_
                  refine ww_iload C dJ22_resize_322 4 rfl ?_
                  refine ww_aload C dJ22_resize_324 0 rfl (va_rf_isRef _) ?_
                  refine ww_st (st' := [.ref (nA E hdL), .int (nI j), .ref tb2]) (by rw [ehL]; rfl) ?_
                  refine ww_aastS (t := 5) (E := "java/util/HashMap$Node") C dJ22_resize_326 (by decide) rfl  u5_h45 (rc_J26 (Cx.ok C) (Or.inl (hNd45.1 hdL lL))) (by omega) (by omega) ?_
                  refine ww_gen (fun h46 hE46 => ?_)
                  have m5_h46 : h46 mp = some (.inr (27, [.null, .null, .ref tb2, .null, .int (nI k), .int mc, .int (nI (2 * nt * 3 / 4)), .float lf])) := by rw [hE46, up_n nm2]; exact m5_h45
                  have t5_h46 : h46 tb = some (.inl (gA (xG X) 5, (nt, refs (va_up T1 j none)))) := by rw [hE46, up_n n12]; exact t5_h45
                  have u5_h46 : h46 tb2 = some (.inl (gA (xG X) 5, (2 * nt, refs (va_up T2 j (some (nA E hdL)))))) := by rw [hE46]; exact up_s
                  have hNd46 : NdA h46 n E p45 := by rw [hE46]; exact hNd45.ot nt2
                  have hFq46 : FrM h h46 mp tb n E := by rw [hE46]; exact hFq45.w (Or.inr (Or.inr (Or.inr t2n)))
                  refine ww_aload C dJ22_resize_327 3 rfl (va_rf_isRef _) ?_
                  rcases h_c9 : (hi9 ++ [x9]).getLast? with _ | c9
                  · skip
                    show WW X (RzP (xG X) z h mp n nt tb E B (fun tb2 => .inr (27, [.null, .null, .ref tb2, .null, .int (nI k), .int mc, .int (nI (2 * nt * 3 / 4)), .float lf]))) z h46 (1 - 1) (2 * nt - 2 * nt) 329 [(9, va_rf ((lo.head?).map (nA E))), (10, .ref (nA E a9)), (11, va_rf (((hi9 ++ [x9]).head?).map (nA E))), (12, .null), (7, .int (nI j)), (6, .ref tb2), (4, .int (nI (2 * nt))), (2, .int (nI nt)), (1, .ref tb), (0, .ref mp)] [.null]
                    have eH : (hi9 ++ [x9]) = [] := last_none h_c9
                    refine ww_ifnull_t (tgt := 347) C dJ22_resize_329 (by decide) ?_
                    have cH2 : NxL p45 (hi9 ++ [x9]) := by rw [eH]; trivial
                    have cL2 := cL
                    have hou3 := hou2
                    refine ww_iinc (lv' := [(7, .int (nI (j + 1))), (9, va_rf ((lo.head?).map (nA E))), (10, .ref (nA E a9)), (11, va_rf (((hi9 ++ [x9]).head?).map (nA E))), (12, .null), (6, .ref tb2), (4, .int (nI (2 * nt))), (2, .int (nI nt)), (1, .ref tb), (0, .ref mp)]) C dJ22_resize_347 4 rfl (inc_n _) (by decide) rfl ?_
                    refine ww_goto (tgt := 151) C dJ22_resize_350 (by decide) ?_
                    refine ww_sub [0, 5, 6, 7, 8, 9] rfl ?_
                    exact ih _ _ _ _ (hI.st hi hmem m5_h46 t5_h46 u5_h46 hNd46 hFq46 hou3 (fun b hb9 => va_ne hb9) (fun b m1 m2 => by rw [va_ne m1]) (by rw [pL]; refine ⟨?_, cL2⟩; rw [va_eq, ehL]; rfl) (by rw [pH]; refine ⟨?_, cH2⟩; rw [va_ne (by omega), eH]; exact z2))
                  · skip
                    show WW X (RzP (xG X) z h mp n nt tb E B (fun tb2 => .inr (27, [.null, .null, .ref tb2, .null, .int (nI k), .int mc, .int (nI (2 * nt * 3 / 4)), .float lf]))) z h46 (1 - 1) (2 * nt - 2 * nt) 329 [(9, va_rf ((lo.head?).map (nA E))), (10, .ref (nA E a9)), (11, va_rf (((hi9 ++ [x9]).head?).map (nA E))), (12, .ref (nA E c9)), (7, .int (nI j)), (6, .ref tb2), (4, .int (nI (2 * nt))), (2, .int (nI nt)), (1, .ref tb), (0, .ref mp)] [.ref (nA E c9)]
                    have gc := sH c9 (List.mem_of_getLast? h_c9)
                    have lc9 := hlt c9 gc
                    refine ww_ifnull_f C dJ22_resize_329 ?_
                    refine ww_aload C dJ22_resize_332 3 rfl rfl ?_
                    refine ww_null C dJ22_resize_334 ?_
                    refine pf_J22_177_J26 (fs' := [.int (nH E c9), .ref (nK E c9), .ref (nV E c9), .null]) C dJ22_resize_335 (hNd46.1 c9 lc9) rfl rfl (Nat.le_of_ble_eq_true rfl) rfl ?_
                    refine ww_gen (fun h47 hE47 => ?_)
                    obtain ⟨p47, ep47⟩ : ∃ Q9, Q9 = pst p45 0 c9 none := ⟨_, rfl⟩
                    have hNd47 : NdA h47 n E p47 := by rw [ep47, hE47]; exact hNd46.put (o := none) lc9
                    have hFq47 : FrM h h47 mp tb n E := by rw [hE47]; exact hFq46.w (Or.inr (Or.inr (Or.inl ⟨c9, lc9, rfl⟩)))
                    have m5_h47 : h47 mp = some (.inr (27, [.null, .null, .ref tb2, .null, .int (nI k), .int mc, .int (nI (2 * nt * 3 / 4)), .float lf])) := by rw [hE47, up_n (nmp c9 lc9)]; exact m5_h46
                    have t5_h47 : h47 tb = some (.inl (gA (xG X) 5, (nt, refs (va_up T1 j none)))) := by rw [hE47, up_n (ntb c9 lc9)]; exact t5_h46
                    have u5_h47 : h47 tb2 = some (.inl (gA (xG X) 5, (2 * nt, refs (va_up T2 j (some (nA E hdL)))))) := by rw [hE47, up_n (nt2 c9 lc9)]; exact u5_h46
                    obtain ⟨hdH, ehH⟩ := hd_some h_c9
                    have gH := sH hdH (List.mem_of_head? ehH)
                    have lH := hlt hdH gH
                    have cH2 : NxL p47 (hi9 ++ [x9]) := by rw [ep47]; exact cH.fi h_c9 nH9
                    have cL2 : NxL p47 lo := by rw [ep47]; exact cL.cg (fun i q9 => pst_i (fun e9 => dLH i q9 (by rw [e9]; exact List.mem_of_getLast? h_c9)))
                    have hou3 : ∀ i, i ∉ B j → p47 0 i = p1 0 i := fun i q9 => by rw [ep47, pst_i (fun e9 => q9 (by rw [e9]; exact gc))]; exact hou2 i q9
                    refine ww_aload C dJ22_resize_338 5 rfl rfl ?_
                    refine ww_iload C dJ22_resize_340 4 rfl ?_
                    refine ww_iload_n C dJ22_resize_342 rfl 7 rfl ?_
                    refine ww_iaddn C dJ22_resize_343 ?_
                    refine ww_aload C dJ22_resize_344 2 rfl (va_rf_isRef _) ?_
                    refine ww_st (st' := [.ref (nA E hdH), .int (nI (j + nt)), .ref tb2]) (by rw [ehH]; rfl) ?_
                    refine ww_aastS (t := 5) (E := "java/util/HashMap$Node") C dJ22_resize_346 (by decide) rfl  u5_h47 (rc_J26 (Cx.ok C) (Or.inl (hNd47.1 hdH lH))) (by omega) (by omega) ?_
                    refine ww_gen (fun h48 hE48 => ?_)
                    have m5_h48 : h48 mp = some (.inr (27, [.null, .null, .ref tb2, .null, .int (nI k), .int mc, .int (nI (2 * nt * 3 / 4)), .float lf])) := by rw [hE48, up_n nm2]; exact m5_h47
                    have t5_h48 : h48 tb = some (.inl (gA (xG X) 5, (nt, refs (va_up T1 j none)))) := by rw [hE48, up_n n12]; exact t5_h47
                    have u5_h48 : h48 tb2 = some (.inl (gA (xG X) 5, (2 * nt, refs (va_up (va_up T2 j (some (nA E hdL))) (j + nt) (some (nA E hdH)))))) := by rw [hE48]; exact up_s
                    have hNd48 : NdA h48 n E p47 := by rw [hE48]; exact hNd47.ot nt2
                    have hFq48 : FrM h h48 mp tb n E := by rw [hE48]; exact hFq47.w (Or.inr (Or.inr (Or.inr t2n)))
                    refine ww_iinc (lv' := [(7, .int (nI (j + 1))), (9, va_rf ((lo.head?).map (nA E))), (10, .ref (nA E a9)), (11, va_rf (((hi9 ++ [x9]).head?).map (nA E))), (12, .ref (nA E c9)), (6, .ref tb2), (4, .int (nI (2 * nt))), (2, .int (nI nt)), (1, .ref tb), (0, .ref mp)]) C dJ22_resize_347 4 rfl (inc_n _) (by decide) rfl ?_
                    refine ww_goto (tgt := 151) C dJ22_resize_350 (by decide) ?_
                    refine ww_sub [0, 5, 6, 7, 8, 9] rfl ?_
                    exact ih _ _ _ _ (hI.st hi hmem m5_h48 t5_h48 u5_h48 hNd48 hFq48 hou3 (fun b hb9 => va_ne hb9) (fun b m1 m2 => by rw [va_ne m2]; rw [va_ne m1]) (by rw [pL]; refine ⟨?_, cL2⟩; rw [va_ne (by omega), va_eq, ehL]; rfl) (by rw [pH]; refine ⟨?_, cH2⟩; rw [va_eq, ehH]; rfl))
              · skip
                show WW X (RzP (xG X) z h mp n nt tb E B (fun tb2 => .inr (27, [.null, .null, .ref tb2, .null, .int (nI k), .int mc, .int (nI (2 * nt * 3 / 4)), .float lf]))) z h5 (1 - 1) (2 * nt - 2 * nt) 280 [(13, .null), (8, .ref (nA E x9)), (9, va_rf ((lo.head?).map (nA E))), (10, va_rf ((lo.getLast?).map (nA E))), (11, va_rf ((hi9.head?).map (nA E))), (12, .ref (nA E t9)), (7, .int (nI j)), (6, .ref tb2), (4, .int (nI (2 * nt))), (2, .int (nI nt)), (1, .ref tb), (0, .ref mp)] [.ref (nA E t9)]
                have gt : t9 ∈ hi9 := List.mem_of_getLast? h_t9
                have lt9 := hlt t9 (sl1 t9 (shi t9 gt))
                have nt9 : t9 ≠ x9 := fun e9 => nx1 (by rw [← e9]; exact shi t9 gt)
                refine ww_ifnonnull_t (tgt := 290) C dJ22_resize_280 (by decide) ?_
                refine ww_aload C dJ22_resize_290 5 rfl rfl ?_
                refine ww_aload C dJ22_resize_292 1 rfl rfl ?_
                refine pf_J22_177_J26 (fs' := [.int (nH E t9), .ref (nK E t9), .ref (nV E t9), .ref (nA E x9)]) C dJ22_resize_294 (hN5.1 t9 lt9) rfl rfl (Nat.le_of_ble_eq_true rfl) rfl ?_
                refine ww_gen (fun h49 hE49 => ?_)
                obtain ⟨p49, ep49⟩ : ∃ Q9, Q9 = pst p5 0 t9 (some x9) := ⟨_, rfl⟩
                have hNd49 : NdA h49 n E p49 := by rw [ep49, hE49]; exact hN5.put (o := (some x9)) lt9
                have hFq49 : FrM h h49 mp tb n E := by rw [hE49]; exact hF5.w (Or.inr (Or.inr (Or.inl ⟨t9, lt9, rfl⟩)))
                have m5_h49 : h49 mp = some (.inr (27, [.null, .null, .ref tb2, .null, .int (nI k), .int mc, .int (nI (2 * nt * 3 / 4)), .float lf])) := by rw [hE49, up_n (nmp t9 lt9)]; exact m5
                have t5_h49 : h49 tb = some (.inl (gA (xG X) 5, (nt, refs (va_up T1 j none)))) := by rw [hE49, up_n (ntb t9 lt9)]; exact t5
                have u5_h49 : h49 tb2 = some (.inl (gA (xG X) 5, (2 * nt, refs T2))) := by rw [hE49, up_n (nt2 t9 lt9)]; exact u5
                have hnm : NxO p49 (hi9 ++ [x9]) := by rw [ep49]; exact o2.sn h_t9 ndhi
                have hot : NxO p49 lo := by rw [ep49]; exact o1.cg (fun i q9 => pst_i (fun e9 => dlh i (List.dropLast_subset _ q9) (by rw [e9]; exact gt)))
                have hhd : (hi9 ++ [x9]).head? = hi9.head? := by cases hi9 with | nil => cases h_t9 | cons a8 b8 => rfl
                refine ww_aload C dJ22_resize_297 1 rfl rfl ?_
                refine ww_astore (lv' := [(12, .ref (nA E x9)), (13, .null), (8, .ref (nA E x9)), (9, va_rf ((lo.head?).map (nA E))), (10, va_rf ((lo.getLast?).map (nA E))), (11, va_rf ((hi9.head?).map (nA E))), (7, .int (nI j)), (6, .ref tb2), (4, .int (nI (2 * nt))), (2, .int (nI nt)), (1, .ref tb), (0, .ref mp)]) C dJ22_resize_299 (by decide) rfl (by first | (simp [va_rf_cat]; done) | (simp [va_rf_cat]; simp only [Value.category]; decide)) ?_
                refine ww_aload C dJ22_resize_301 1 rfl rfl ?_
                refine ww_dup C dJ22_resize_303 rfl ?_
                refine ww_astore (lv' := [(8, .null), (12, .ref (nA E x9)), (13, .null), (9, va_rf ((lo.head?).map (nA E))), (10, va_rf ((lo.getLast?).map (nA E))), (11, va_rf ((hi9.head?).map (nA E))), (7, .int (nI j)), (6, .ref tb2), (4, .int (nI (2 * nt))), (2, .int (nI nt)), (1, .ref tb), (0, .ref mp)]) C dJ22_resize_304 (by decide) rfl rfl ?_
                have hlo2 : hi9 ++ [x9] = (l1 ++ [x9]).filter (fun i => !decide (nH E i &&& nI nt = 0)) := by rw [List.filter_append, ← hhi]; congr 1; simp only [List.filter]; rw [hP]; try rfl
                have hhi2 : lo = (l1 ++ [x9]).filter (fun i => decide (nH E i &&& nI nt = 0)) := by rw [List.filter_append, ← hlo]; simp only [List.filter]; rw [hP]; simp
                refine ww_ifnonnull_f C dJ22_resize_306 ?_
                refine ww_sub [3, 4, 5, 1, 6, 7, 8, 9, 10, 11] rfl ?_
                refine ww_lv (lv' := [(9, va_rf ((lo.head?).map (nA E))), (10, va_rf ((lo.getLast?).map (nA E))), (11, va_rf (((hi9 ++ [x9]).head?).map (nA E))), (12, va_rf (((hi9 ++ [x9]).getLast?).map (nA E))), (7, .int (nI j)), (6, .ref tb2), (4, .int (nI (2 * nt))), (2, .int (nI nt)), (1, .ref tb), (0, .ref mp)]) (by rw [hhd, List.getLast?_concat]; first | rfl | (rw [h_t9]; rfl) | (rw [h_t9])) ?_
                have eB : B j = l1 ++ [x9] := hl
                have pL : spB E nt B j = lo := by rw [hspl, hl]; exact hhi2.symm
                have pH : spB E nt B (j + nt) = (hi9 ++ [x9]) := by rw [hsph, hl]; exact hlo2.symm
                have nL : (lo).Nodup := by rw [hhi2, ← hl]; exact (hnd j hi).filter _
                have nH9 : ((hi9 ++ [x9])).Nodup := by rw [hlo2, ← hl]; exact (hnd j hi).filter _
                have sL : ∀ i, i ∈ lo → i ∈ B j := fun i q9 => by rw [hhi2, ← hl] at q9; exact (List.mem_filter.mp q9).1
                have sH : ∀ i, i ∈ (hi9 ++ [x9]) → i ∈ B j := fun i q9 => by rw [hlo2, ← hl] at q9; exact (List.mem_filter.mp q9).1
                have dLH : ∀ i, i ∈ lo → i ∉ (hi9 ++ [x9]) := fun i q8 q9 => by rw [hhi2] at q8; rw [hlo2] at q9; have a8 := (List.mem_filter.mp q8).2; have a9 := (List.mem_filter.mp q9).2; rw [a8] at a9; cases a9
                have hou : ∀ i, i ∉ B j → p49 0 i = p1 0 i := fun i q9 => by rw [ep49, pst_i (fun e9 => q9 (by rw [e9]; exact sl1 t9 (shi t9 gt)))]; exact ho i q9
                have oL := hot
                have oH := hnm
                refine ww_aload C dJ22_resize_309 1 rfl (va_rf_isRef _) ?_
                rcases h_a9 : lo.getLast? with _ | a9
                · skip
                  show WW X (RzP (xG X) z h mp n nt tb E B (fun tb2 => .inr (27, [.null, .null, .ref tb2, .null, .int (nI k), .int mc, .int (nI (2 * nt * 3 / 4)), .float lf]))) z h49 (1 - 1) (2 * nt - 2 * nt) 311 [(9, va_rf ((lo.head?).map (nA E))), (10, .null), (11, va_rf (((hi9 ++ [x9]).head?).map (nA E))), (12, va_rf (((hi9 ++ [x9]).getLast?).map (nA E))), (7, .int (nI j)), (6, .ref tb2), (4, .int (nI (2 * nt))), (2, .int (nI nt)), (1, .ref tb), (0, .ref mp)] [.null]
                  have eL : lo = [] := last_none h_a9
                  refine ww_ifnull_t (tgt := 327) C dJ22_resize_311 (by decide) ?_
                  have cL : NxL p49 lo := by rw [eL]; trivial
                  have cH := oH
                  have hou2 := hou
                  refine ww_aload C dJ22_resize_327 3 rfl (va_rf_isRef _) ?_
                  rcases h_c9 : (hi9 ++ [x9]).getLast? with _ | c9
                  · skip
                    show WW X (RzP (xG X) z h mp n nt tb E B (fun tb2 => .inr (27, [.null, .null, .ref tb2, .null, .int (nI k), .int mc, .int (nI (2 * nt * 3 / 4)), .float lf]))) z h49 (1 - 1) (2 * nt - 2 * nt) 329 [(9, va_rf ((lo.head?).map (nA E))), (10, .null), (11, va_rf (((hi9 ++ [x9]).head?).map (nA E))), (12, .null), (7, .int (nI j)), (6, .ref tb2), (4, .int (nI (2 * nt))), (2, .int (nI nt)), (1, .ref tb), (0, .ref mp)] [.null]
                    have eH : (hi9 ++ [x9]) = [] := last_none h_c9
                    refine ww_ifnull_t (tgt := 347) C dJ22_resize_329 (by decide) ?_
                    have cH2 : NxL p49 (hi9 ++ [x9]) := by rw [eH]; trivial
                    have cL2 := cL
                    have hou3 := hou2
                    refine ww_iinc (lv' := [(7, .int (nI (j + 1))), (9, va_rf ((lo.head?).map (nA E))), (10, .null), (11, va_rf (((hi9 ++ [x9]).head?).map (nA E))), (12, .null), (6, .ref tb2), (4, .int (nI (2 * nt))), (2, .int (nI nt)), (1, .ref tb), (0, .ref mp)]) C dJ22_resize_347 4 rfl (inc_n _) (by decide) rfl ?_
                    refine ww_goto (tgt := 151) C dJ22_resize_350 (by decide) ?_
                    refine ww_sub [0, 5, 6, 7, 8, 9] rfl ?_
                    exact ih _ _ _ _ (hI.st hi hmem m5_h49 t5_h49 u5_h49 hNd49 hFq49 hou3 (fun b hb9 => va_ne hb9) (fun b m1 m2 => by rfl) (by rw [pL]; refine ⟨?_, cL2⟩; rw [eL]; exact z1) (by rw [pH]; refine ⟨?_, cH2⟩; rw [eH]; exact z2))
                  · skip
                    show WW X (RzP (xG X) z h mp n nt tb E B (fun tb2 => .inr (27, [.null, .null, .ref tb2, .null, .int (nI k), .int mc, .int (nI (2 * nt * 3 / 4)), .float lf]))) z h49 (1 - 1) (2 * nt - 2 * nt) 329 [(9, va_rf ((lo.head?).map (nA E))), (10, .null), (11, va_rf (((hi9 ++ [x9]).head?).map (nA E))), (12, .ref (nA E c9)), (7, .int (nI j)), (6, .ref tb2), (4, .int (nI (2 * nt))), (2, .int (nI nt)), (1, .ref tb), (0, .ref mp)] [.ref (nA E c9)]
                    have gc := sH c9 (List.mem_of_getLast? h_c9)
                    have lc9 := hlt c9 gc
                    refine ww_ifnull_f C dJ22_resize_329 ?_
                    refine ww_aload C dJ22_resize_332 3 rfl rfl ?_
                    refine ww_null C dJ22_resize_334 ?_
                    refine pf_J22_177_J26 (fs' := [.int (nH E c9), .ref (nK E c9), .ref (nV E c9), .null]) C dJ22_resize_335 (hNd49.1 c9 lc9) rfl rfl (Nat.le_of_ble_eq_true rfl) rfl ?_
                    refine ww_gen (fun h50 hE50 => ?_)
                    obtain ⟨p50, ep50⟩ : ∃ Q9, Q9 = pst p49 0 c9 none := ⟨_, rfl⟩
                    have hNd50 : NdA h50 n E p50 := by rw [ep50, hE50]; exact hNd49.put (o := none) lc9
                    have hFq50 : FrM h h50 mp tb n E := by rw [hE50]; exact hFq49.w (Or.inr (Or.inr (Or.inl ⟨c9, lc9, rfl⟩)))
                    have m5_h50 : h50 mp = some (.inr (27, [.null, .null, .ref tb2, .null, .int (nI k), .int mc, .int (nI (2 * nt * 3 / 4)), .float lf])) := by rw [hE50, up_n (nmp c9 lc9)]; exact m5_h49
                    have t5_h50 : h50 tb = some (.inl (gA (xG X) 5, (nt, refs (va_up T1 j none)))) := by rw [hE50, up_n (ntb c9 lc9)]; exact t5_h49
                    have u5_h50 : h50 tb2 = some (.inl (gA (xG X) 5, (2 * nt, refs T2))) := by rw [hE50, up_n (nt2 c9 lc9)]; exact u5_h49
                    obtain ⟨hdH, ehH⟩ := hd_some h_c9
                    have gH := sH hdH (List.mem_of_head? ehH)
                    have lH := hlt hdH gH
                    have cH2 : NxL p50 (hi9 ++ [x9]) := by rw [ep50]; exact cH.fi h_c9 nH9
                    have cL2 : NxL p50 lo := by rw [ep50]; exact cL.cg (fun i q9 => pst_i (fun e9 => dLH i q9 (by rw [e9]; exact List.mem_of_getLast? h_c9)))
                    have hou3 : ∀ i, i ∉ B j → p50 0 i = p1 0 i := fun i q9 => by rw [ep50, pst_i (fun e9 => q9 (by rw [e9]; exact gc))]; exact hou2 i q9
                    refine ww_aload C dJ22_resize_338 5 rfl rfl ?_
                    refine ww_iload C dJ22_resize_340 4 rfl ?_
                    refine ww_iload_n C dJ22_resize_342 rfl 7 rfl ?_
                    refine ww_iaddn C dJ22_resize_343 ?_
                    refine ww_aload C dJ22_resize_344 2 rfl (va_rf_isRef _) ?_
                    refine ww_st (st' := [.ref (nA E hdH), .int (nI (j + nt)), .ref tb2]) (by rw [ehH]; rfl) ?_
                    refine ww_aastS (t := 5) (E := "java/util/HashMap$Node") C dJ22_resize_346 (by decide) rfl  u5_h50 (rc_J26 (Cx.ok C) (Or.inl (hNd50.1 hdH lH))) (by omega) (by omega) ?_
                    refine ww_gen (fun h51 hE51 => ?_)
                    have m5_h51 : h51 mp = some (.inr (27, [.null, .null, .ref tb2, .null, .int (nI k), .int mc, .int (nI (2 * nt * 3 / 4)), .float lf])) := by rw [hE51, up_n nm2]; exact m5_h50
                    have t5_h51 : h51 tb = some (.inl (gA (xG X) 5, (nt, refs (va_up T1 j none)))) := by rw [hE51, up_n n12]; exact t5_h50
                    have u5_h51 : h51 tb2 = some (.inl (gA (xG X) 5, (2 * nt, refs (va_up T2 (j + nt) (some (nA E hdH)))))) := by rw [hE51]; exact up_s
                    have hNd51 : NdA h51 n E p50 := by rw [hE51]; exact hNd50.ot nt2
                    have hFq51 : FrM h h51 mp tb n E := by rw [hE51]; exact hFq50.w (Or.inr (Or.inr (Or.inr t2n)))
                    refine ww_iinc (lv' := [(7, .int (nI (j + 1))), (9, va_rf ((lo.head?).map (nA E))), (10, .null), (11, va_rf (((hi9 ++ [x9]).head?).map (nA E))), (12, .ref (nA E c9)), (6, .ref tb2), (4, .int (nI (2 * nt))), (2, .int (nI nt)), (1, .ref tb), (0, .ref mp)]) C dJ22_resize_347 4 rfl (inc_n _) (by decide) rfl ?_
                    refine ww_goto (tgt := 151) C dJ22_resize_350 (by decide) ?_
                    refine ww_sub [0, 5, 6, 7, 8, 9] rfl ?_
                    exact ih _ _ _ _ (hI.st hi hmem m5_h51 t5_h51 u5_h51 hNd51 hFq51 hou3 (fun b hb9 => va_ne hb9) (fun b m1 m2 => by rw [va_ne m2]) (by rw [pL]; refine ⟨?_, cL2⟩; rw [va_ne (by omega), eL]; exact z1) (by rw [pH]; refine ⟨?_, cH2⟩; rw [va_eq, ehH]; rfl))
                · skip
                  show WW X (RzP (xG X) z h mp n nt tb E B (fun tb2 => .inr (27, [.null, .null, .ref tb2, .null, .int (nI k), .int mc, .int (nI (2 * nt * 3 / 4)), .float lf]))) z h49 (1 - 1) (2 * nt - 2 * nt) 311 [(9, va_rf ((lo.head?).map (nA E))), (10, .ref (nA E a9)), (11, va_rf (((hi9 ++ [x9]).head?).map (nA E))), (12, va_rf (((hi9 ++ [x9]).getLast?).map (nA E))), (7, .int (nI j)), (6, .ref tb2), (4, .int (nI (2 * nt))), (2, .int (nI nt)), (1, .ref tb), (0, .ref mp)] [.ref (nA E a9)]
                  have ga := sL a9 (List.mem_of_getLast? h_a9)
                  have la := hlt a9 ga
                  refine ww_ifnull_f C dJ22_resize_311 ?_
                  refine ww_aload C dJ22_resize_314 1 rfl rfl ?_
                  refine ww_null C dJ22_resize_316 ?_
                  refine pf_J22_177_J26 (fs' := [.int (nH E a9), .ref (nK E a9), .ref (nV E a9), .null]) C dJ22_resize_317 (hNd49.1 a9 la) rfl rfl (Nat.le_of_ble_eq_true rfl) rfl ?_
                  refine ww_gen (fun h52 hE52 => ?_)
                  obtain ⟨p52, ep52⟩ : ∃ Q9, Q9 = pst p49 0 a9 none := ⟨_, rfl⟩
                  have hNd52 : NdA h52 n E p52 := by rw [ep52, hE52]; exact hNd49.put (o := none) la
                  have hFq52 : FrM h h52 mp tb n E := by rw [hE52]; exact hFq49.w (Or.inr (Or.inr (Or.inl ⟨a9, la, rfl⟩)))
                  have m5_h52 : h52 mp = some (.inr (27, [.null, .null, .ref tb2, .null, .int (nI k), .int mc, .int (nI (2 * nt * 3 / 4)), .float lf])) := by rw [hE52, up_n (nmp a9 la)]; exact m5_h49
                  have t5_h52 : h52 tb = some (.inl (gA (xG X) 5, (nt, refs (va_up T1 j none)))) := by rw [hE52, up_n (ntb a9 la)]; exact t5_h49
                  have u5_h52 : h52 tb2 = some (.inl (gA (xG X) 5, (2 * nt, refs T2))) := by rw [hE52, up_n (nt2 a9 la)]; exact u5_h49
                  obtain ⟨hdL, ehL⟩ := hd_some h_a9
                  have gL := sL hdL (List.mem_of_head? ehL)
                  have lL := hlt hdL gL
                  have cL : NxL p52 lo := by rw [ep52]; exact oL.fi h_a9 nL
                  have cH : NxO p52 (hi9 ++ [x9]) := by rw [ep52]; exact oH.cg (fun i q9 => pst_i (fun e9 => dLH a9 (List.mem_of_getLast? h_a9) (by rw [← e9]; exact List.dropLast_subset _ q9)))
                  have hou2 : ∀ i, i ∉ B j → p52 0 i = p1 0 i := fun i q9 => by rw [ep52, pst_i (fun e9 => q9 (by rw [e9]; exact ga))]; exact hou i q9
                  refine ww_aload C dJ22_resize_320 5 rfl rfl ?_
                  refine ww_iload C dJ22_resize_322 4 rfl ?_
                  refine ww_aload C dJ22_resize_324 0 rfl (va_rf_isRef _) ?_
                  refine ww_st (st' := [.ref (nA E hdL), .int (nI j), .ref tb2]) (by rw [ehL]; rfl) ?_
                  refine ww_aastS (t := 5) (E := "java/util/HashMap$Node") C dJ22_resize_326 (by decide) rfl  u5_h52 (rc_J26 (Cx.ok C) (Or.inl (hNd52.1 hdL lL))) (by omega) (by omega) ?_
                  refine ww_gen (fun h53 hE53 => ?_)
                  have m5_h53 : h53 mp = some (.inr (27, [.null, .null, .ref tb2, .null, .int (nI k), .int mc, .int (nI (2 * nt * 3 / 4)), .float lf])) := by rw [hE53, up_n nm2]; exact m5_h52
                  have t5_h53 : h53 tb = some (.inl (gA (xG X) 5, (nt, refs (va_up T1 j none)))) := by rw [hE53, up_n n12]; exact t5_h52
                  have u5_h53 : h53 tb2 = some (.inl (gA (xG X) 5, (2 * nt, refs (va_up T2 j (some (nA E hdL)))))) := by rw [hE53]; exact up_s
                  have hNd53 : NdA h53 n E p52 := by rw [hE53]; exact hNd52.ot nt2
                  have hFq53 : FrM h h53 mp tb n E := by rw [hE53]; exact hFq52.w (Or.inr (Or.inr (Or.inr t2n)))
                  refine ww_aload C dJ22_resize_327 3 rfl (va_rf_isRef _) ?_
                  rcases h_c9 : (hi9 ++ [x9]).getLast? with _ | c9
                  · skip
                    show WW X (RzP (xG X) z h mp n nt tb E B (fun tb2 => .inr (27, [.null, .null, .ref tb2, .null, .int (nI k), .int mc, .int (nI (2 * nt * 3 / 4)), .float lf]))) z h53 (1 - 1) (2 * nt - 2 * nt) 329 [(9, va_rf ((lo.head?).map (nA E))), (10, .ref (nA E a9)), (11, va_rf (((hi9 ++ [x9]).head?).map (nA E))), (12, .null), (7, .int (nI j)), (6, .ref tb2), (4, .int (nI (2 * nt))), (2, .int (nI nt)), (1, .ref tb), (0, .ref mp)] [.null]
                    have eH : (hi9 ++ [x9]) = [] := last_none h_c9
                    refine ww_ifnull_t (tgt := 347) C dJ22_resize_329 (by decide) ?_
                    have cH2 : NxL p52 (hi9 ++ [x9]) := by rw [eH]; trivial
                    have cL2 := cL
                    have hou3 := hou2
                    refine ww_iinc (lv' := [(7, .int (nI (j + 1))), (9, va_rf ((lo.head?).map (nA E))), (10, .ref (nA E a9)), (11, va_rf (((hi9 ++ [x9]).head?).map (nA E))), (12, .null), (6, .ref tb2), (4, .int (nI (2 * nt))), (2, .int (nI nt)), (1, .ref tb), (0, .ref mp)]) C dJ22_resize_347 4 rfl (inc_n _) (by decide) rfl ?_
                    refine ww_goto (tgt := 151) C dJ22_resize_350 (by decide) ?_
                    refine ww_sub [0, 5, 6, 7, 8, 9] rfl ?_
                    exact ih _ _ _ _ (hI.st hi hmem m5_h53 t5_h53 u5_h53 hNd53 hFq53 hou3 (fun b hb9 => va_ne hb9) (fun b m1 m2 => by rw [va_ne m1]) (by rw [pL]; refine ⟨?_, cL2⟩; rw [va_eq, ehL]; rfl) (by rw [pH]; refine ⟨?_, cH2⟩; rw [va_ne (by omega), eH]; exact z2))
                  · skip
                    show WW X (RzP (xG X) z h mp n nt tb E B (fun tb2 => .inr (27, [.null, .null, .ref tb2, .null, .int (nI k), .int mc, .int (nI (2 * nt * 3 / 4)), .float lf]))) z h53 (1 - 1) (2 * nt - 2 * nt) 329 [(9, va_rf ((lo.head?).map (nA E))), (10, .ref (nA E a9)), (11, va_rf (((hi9 ++ [x9]).head?).map (nA E))), (12, .ref (nA E c9)), (7, .int (nI j)), (6, .ref tb2), (4, .int (nI (2 * nt))), (2, .int (nI nt)), (1, .ref tb), (0, .ref mp)] [.ref (nA E c9)]
                    have gc := sH c9 (List.mem_of_getLast? h_c9)
                    have lc9 := hlt c9 gc
                    refine ww_ifnull_f C dJ22_resize_329 ?_
                    refine ww_aload C dJ22_resize_332 3 rfl rfl ?_
                    refine ww_null C dJ22_resize_334 ?_
                    refine pf_J22_177_J26 (fs' := [.int (nH E c9), .ref (nK E c9), .ref (nV E c9), .null]) C dJ22_resize_335 (hNd53.1 c9 lc9) rfl rfl (Nat.le_of_ble_eq_true rfl) rfl ?_
                    refine ww_gen (fun h54 hE54 => ?_)
                    obtain ⟨p54, ep54⟩ : ∃ Q9, Q9 = pst p52 0 c9 none := ⟨_, rfl⟩
                    have hNd54 : NdA h54 n E p54 := by rw [ep54, hE54]; exact hNd53.put (o := none) lc9
                    have hFq54 : FrM h h54 mp tb n E := by rw [hE54]; exact hFq53.w (Or.inr (Or.inr (Or.inl ⟨c9, lc9, rfl⟩)))
                    have m5_h54 : h54 mp = some (.inr (27, [.null, .null, .ref tb2, .null, .int (nI k), .int mc, .int (nI (2 * nt * 3 / 4)), .float lf])) := by rw [hE54, up_n (nmp c9 lc9)]; exact m5_h53
                    have t5_h54 : h54 tb = some (.inl (gA (xG X) 5, (nt, refs (va_up T1 j none)))) := by rw [hE54, up_n (ntb c9 lc9)]; exact t5_h53
                    have u5_h54 : h54 tb2 = some (.inl (gA (xG X) 5, (2 * nt, refs (va_up T2 j (some (nA E hdL)))))) := by rw [hE54, up_n (nt2 c9 lc9)]; exact u5_h53
                    obtain ⟨hdH, ehH⟩ := hd_some h_c9
                    have gH := sH hdH (List.mem_of_head? ehH)
                    have lH := hlt hdH gH
                    have cH2 : NxL p54 (hi9 ++ [x9]) := by rw [ep54]; exact cH.fi h_c9 nH9
                    have cL2 : NxL p54 lo := by rw [ep54]; exact cL.cg (fun i q9 => pst_i (fun e9 => dLH i q9 (by rw [e9]; exact List.mem_of_getLast? h_c9)))
                    have hou3 : ∀ i, i ∉ B j → p54 0 i = p1 0 i := fun i q9 => by rw [ep54, pst_i (fun e9 => q9 (by rw [e9]; exact gc))]; exact hou2 i q9
                    refine ww_aload C dJ22_resize_338 5 rfl rfl ?_
                    refine ww_iload C dJ22_resize_340 4 rfl ?_
                    refine ww_iload_n C dJ22_resize_342 rfl 7 rfl ?_
                    refine ww_iaddn C dJ22_resize_343 ?_
                    refine ww_aload C dJ22_resize_344 2 rfl (va_rf_isRef _) ?_
                    refine ww_st (st' := [.ref (nA E hdH), .int (nI (j + nt)), .ref tb2]) (by rw [ehH]; rfl) ?_
                    refine ww_aastS (t := 5) (E := "java/util/HashMap$Node") C dJ22_resize_346 (by decide) rfl  u5_h54 (rc_J26 (Cx.ok C) (Or.inl (hNd54.1 hdH lH))) (by omega) (by omega) ?_
                    refine ww_gen (fun h55 hE55 => ?_)
                    have m5_h55 : h55 mp = some (.inr (27, [.null, .null, .ref tb2, .null, .int (nI k), .int mc, .int (nI (2 * nt * 3 / 4)), .float lf])) := by rw [hE55, up_n nm2]; exact m5_h54
                    have t5_h55 : h55 tb = some (.inl (gA (xG X) 5, (nt, refs (va_up T1 j none)))) := by rw [hE55, up_n n12]; exact t5_h54
                    have u5_h55 : h55 tb2 = some (.inl (gA (xG X) 5, (2 * nt, refs (va_up (va_up T2 j (some (nA E hdL))) (j + nt) (some (nA E hdH)))))) := by rw [hE55]; exact up_s
                    have hNd55 : NdA h55 n E p54 := by rw [hE55]; exact hNd54.ot nt2
                    have hFq55 : FrM h h55 mp tb n E := by rw [hE55]; exact hFq54.w (Or.inr (Or.inr (Or.inr t2n)))
                    refine ww_iinc (lv' := [(7, .int (nI (j + 1))), (9, va_rf ((lo.head?).map (nA E))), (10, .ref (nA E a9)), (11, va_rf (((hi9 ++ [x9]).head?).map (nA E))), (12, .ref (nA E c9)), (6, .ref tb2), (4, .int (nI (2 * nt))), (2, .int (nI nt)), (1, .ref tb), (0, .ref mp)]) C dJ22_resize_347 4 rfl (inc_n _) (by decide) rfl ?_
                    refine ww_goto (tgt := 151) C dJ22_resize_350 (by decide) ?_
                    refine ww_sub [0, 5, 6, 7, 8, 9] rfl ?_
                    exact ih _ _ _ _ (hI.st hi hmem m5_h55 t5_h55 u5_h55 hNd55 hFq55 hou3 (fun b hb9 => va_ne hb9) (fun b m1 m2 => by rw [va_ne m2]; rw [va_ne m1]) (by rw [pL]; refine ⟨?_, cL2⟩; rw [va_ne (by omega), va_eq, ehL]; rfl) (by rw [pH]; refine ⟨?_, cH2⟩; rw [va_eq, ehH]; rfl))
            · skip
              have hP : decide (nH E x9 &&& nI nt = 0) = true := decide_eq_true c_249
              refine ww_aload C dJ22_resize_252 3 rfl (va_rf_isRef _) ?_
              rcases h_t9 : lo.getLast? with _ | t9
              · skip
                show WW X (RzP (xG X) z h mp n nt tb E B (fun tb2 => .inr (27, [.null, .null, .ref tb2, .null, .int (nI k), .int mc, .int (nI (2 * nt * 3 / 4)), .float lf]))) z h5 (1 - 1) (2 * nt - 2 * nt) 254 [(13, .null), (8, .ref (nA E x9)), (9, va_rf ((lo.head?).map (nA E))), (10, .null), (11, va_rf ((hi9.head?).map (nA E))), (12, va_rf ((hi9.getLast?).map (nA E))), (7, .int (nI j)), (6, .ref tb2), (4, .int (nI (2 * nt))), (2, .int (nI nt)), (1, .ref tb), (0, .ref mp)] [.null]
                have hemp : lo = [] := by cases h9 : lo with | nil => rfl | cons a8 b8 => (rw [h9] at h_t9; simp [List.getLast?_cons] at h_t9)
                refine ww_ifnonnull_f C dJ22_resize_254 ?_
                refine ww_aload C dJ22_resize_257 1 rfl rfl ?_
                refine ww_astore (lv' := [(9, .ref (nA E x9)), (13, .null), (8, .ref (nA E x9)), (10, .null), (11, va_rf ((hi9.head?).map (nA E))), (12, va_rf ((hi9.getLast?).map (nA E))), (7, .int (nI j)), (6, .ref tb2), (4, .int (nI (2 * nt))), (2, .int (nI nt)), (1, .ref tb), (0, .ref mp)]) C dJ22_resize_259 (by decide) rfl rfl ?_
                refine ww_goto (tgt := 271) C dJ22_resize_261 (by decide) ?_
                have hnm : NxO p5 (lo ++ [x9]) := by rw [hemp]; trivial
                have hot : NxO p5 hi9 := o2
                have hhd : (lo ++ [x9]).head? = some x9 := by rw [hemp]; rfl
                refine ww_aload C dJ22_resize_271 2 rfl rfl ?_
                refine ww_astore (lv' := [(10, .ref (nA E x9)), (9, .ref (nA E x9)), (13, .null), (8, .ref (nA E x9)), (11, va_rf ((hi9.head?).map (nA E))), (12, va_rf ((hi9.getLast?).map (nA E))), (7, .int (nI j)), (6, .ref tb2), (4, .int (nI (2 * nt))), (2, .int (nI nt)), (1, .ref tb), (0, .ref mp)]) C dJ22_resize_273 (by decide) rfl rfl ?_
                refine ww_goto (tgt := 301) C dJ22_resize_275 (by decide) ?_
                refine ww_aload C dJ22_resize_301 2 rfl rfl ?_
                refine ww_dup C dJ22_resize_303 rfl ?_
                refine ww_astore (lv' := [(8, .null), (10, .ref (nA E x9)), (9, .ref (nA E x9)), (13, .null), (11, va_rf ((hi9.head?).map (nA E))), (12, va_rf ((hi9.getLast?).map (nA E))), (7, .int (nI j)), (6, .ref tb2), (4, .int (nI (2 * nt))), (2, .int (nI nt)), (1, .ref tb), (0, .ref mp)]) C dJ22_resize_304 (by decide) rfl rfl ?_
                have hlo2 : lo ++ [x9] = (l1 ++ [x9]).filter (fun i => decide (nH E i &&& nI nt = 0)) := by rw [List.filter_append, ← hlo]; congr 1; simp only [List.filter]; rw [hP]; try rfl
                have hhi2 : hi9 = (l1 ++ [x9]).filter (fun i => !decide (nH E i &&& nI nt = 0)) := by rw [List.filter_append, ← hhi]; simp only [List.filter]; rw [hP]; simp
                refine ww_ifnonnull_f C dJ22_resize_306 ?_
                refine ww_sub [2, 1, 4, 5, 6, 7, 8, 9, 10, 11] rfl ?_
                refine ww_lv (lv' := [(9, va_rf (((lo ++ [x9]).head?).map (nA E))), (10, va_rf (((lo ++ [x9]).getLast?).map (nA E))), (11, va_rf ((hi9.head?).map (nA E))), (12, va_rf ((hi9.getLast?).map (nA E))), (7, .int (nI j)), (6, .ref tb2), (4, .int (nI (2 * nt))), (2, .int (nI nt)), (1, .ref tb), (0, .ref mp)]) (by rw [hhd, List.getLast?_concat]; first | rfl | (rw [h_t9]; rfl) | (rw [h_t9])) ?_
                have eB : B j = l1 ++ [x9] := hl
                have pL : spB E nt B j = (lo ++ [x9]) := by rw [hspl, hl]; exact hlo2.symm
                have pH : spB E nt B (j + nt) = hi9 := by rw [hsph, hl]; exact hhi2.symm
                have nL : ((lo ++ [x9])).Nodup := by rw [hlo2, ← hl]; exact (hnd j hi).filter _
                have nH9 : (hi9).Nodup := by rw [hhi2, ← hl]; exact (hnd j hi).filter _
                have sL : ∀ i, i ∈ (lo ++ [x9]) → i ∈ B j := fun i q9 => by rw [hlo2, ← hl] at q9; exact (List.mem_filter.mp q9).1
                have sH : ∀ i, i ∈ hi9 → i ∈ B j := fun i q9 => by rw [hhi2, ← hl] at q9; exact (List.mem_filter.mp q9).1
                have dLH : ∀ i, i ∈ (lo ++ [x9]) → i ∉ hi9 := fun i q8 q9 => by rw [hlo2] at q8; rw [hhi2] at q9; have a8 := (List.mem_filter.mp q8).2; have a9 := (List.mem_filter.mp q9).2; rw [a8] at a9; cases a9
                have hou : ∀ i, i ∉ B j → p5 0 i = p1 0 i := ho
                have oL := hnm
                have oH := hot
                refine ww_aload C dJ22_resize_309 1 rfl (va_rf_isRef _) ?_
                rcases h_a9 : (lo ++ [x9]).getLast? with _ | a9
                · skip
                  show WW X (RzP (xG X) z h mp n nt tb E B (fun tb2 => .inr (27, [.null, .null, .ref tb2, .null, .int (nI k), .int mc, .int (nI (2 * nt * 3 / 4)), .float lf]))) z h5 (1 - 1) (2 * nt - 2 * nt) 311 [(9, va_rf (((lo ++ [x9]).head?).map (nA E))), (10, .null), (11, va_rf ((hi9.head?).map (nA E))), (12, va_rf ((hi9.getLast?).map (nA E))), (7, .int (nI j)), (6, .ref tb2), (4, .int (nI (2 * nt))), (2, .int (nI nt)), (1, .ref tb), (0, .ref mp)] [.null]
                  have eL : (lo ++ [x9]) = [] := last_none h_a9
                  refine ww_ifnull_t (tgt := 327) C dJ22_resize_311 (by decide) ?_
                  have cL : NxL p5 (lo ++ [x9]) := by rw [eL]; trivial
                  have cH := oH
                  have hou2 := hou
                  refine ww_aload C dJ22_resize_327 3 rfl (va_rf_isRef _) ?_
                  rcases h_c9 : hi9.getLast? with _ | c9
                  · skip
                    show WW X (RzP (xG X) z h mp n nt tb E B (fun tb2 => .inr (27, [.null, .null, .ref tb2, .null, .int (nI k), .int mc, .int (nI (2 * nt * 3 / 4)), .float lf]))) z h5 (1 - 1) (2 * nt - 2 * nt) 329 [(9, va_rf (((lo ++ [x9]).head?).map (nA E))), (10, .null), (11, va_rf ((hi9.head?).map (nA E))), (12, .null), (7, .int (nI j)), (6, .ref tb2), (4, .int (nI (2 * nt))), (2, .int (nI nt)), (1, .ref tb), (0, .ref mp)] [.null]
                    have eH : hi9 = [] := last_none h_c9
                    refine ww_ifnull_t (tgt := 347) C dJ22_resize_329 (by decide) ?_
                    have cH2 : NxL p5 hi9 := by rw [eH]; trivial
                    have cL2 := cL
                    have hou3 := hou2
                    refine ww_iinc (lv' := [(7, .int (nI (j + 1))), (9, va_rf (((lo ++ [x9]).head?).map (nA E))), (10, .null), (11, va_rf ((hi9.head?).map (nA E))), (12, .null), (6, .ref tb2), (4, .int (nI (2 * nt))), (2, .int (nI nt)), (1, .ref tb), (0, .ref mp)]) C dJ22_resize_347 4 rfl (inc_n _) (by decide) rfl ?_
                    refine ww_goto (tgt := 151) C dJ22_resize_350 (by decide) ?_
                    refine ww_sub [0, 5, 6, 7, 8, 9] rfl ?_
                    exact ih _ _ _ _ (hI.st hi hmem m5 t5 u5 hN5 hF5 hou3 (fun b hb9 => va_ne hb9) (fun b m1 m2 => by rfl) (by rw [pL]; refine ⟨?_, cL2⟩; rw [eL]; exact z1) (by rw [pH]; refine ⟨?_, cH2⟩; rw [eH]; exact z2))
                  · skip
                    show WW X (RzP (xG X) z h mp n nt tb E B (fun tb2 => .inr (27, [.null, .null, .ref tb2, .null, .int (nI k), .int mc, .int (nI (2 * nt * 3 / 4)), .float lf]))) z h5 (1 - 1) (2 * nt - 2 * nt) 329 [(9, va_rf (((lo ++ [x9]).head?).map (nA E))), (10, .null), (11, va_rf ((hi9.head?).map (nA E))), (12, .ref (nA E c9)), (7, .int (nI j)), (6, .ref tb2), (4, .int (nI (2 * nt))), (2, .int (nI nt)), (1, .ref tb), (0, .ref mp)] [.ref (nA E c9)]
                    have gc := sH c9 (List.mem_of_getLast? h_c9)
                    have lc9 := hlt c9 gc
                    refine ww_ifnull_f C dJ22_resize_329 ?_
                    refine ww_aload C dJ22_resize_332 3 rfl rfl ?_
                    refine ww_null C dJ22_resize_334 ?_
                    refine pf_J22_177_J26 (fs' := [.int (nH E c9), .ref (nK E c9), .ref (nV E c9), .null]) C dJ22_resize_335 (hN5.1 c9 lc9) rfl rfl (Nat.le_of_ble_eq_true rfl) rfl ?_
                    refine ww_gen (fun h56 hE56 => ?_)
                    obtain ⟨p56, ep56⟩ : ∃ Q9, Q9 = pst p5 0 c9 none := ⟨_, rfl⟩
                    have hNd56 : NdA h56 n E p56 := by rw [ep56, hE56]; exact hN5.put (o := none) lc9
                    have hFq56 : FrM h h56 mp tb n E := by rw [hE56]; exact hF5.w (Or.inr (Or.inr (Or.inl ⟨c9, lc9, rfl⟩)))
                    have m5_h56 : h56 mp = some (.inr (27, [.null, .null, .ref tb2, .null, .int (nI k), .int mc, .int (nI (2 * nt * 3 / 4)), .float lf])) := by rw [hE56, up_n (nmp c9 lc9)]; exact m5
                    have t5_h56 : h56 tb = some (.inl (gA (xG X) 5, (nt, refs (va_up T1 j none)))) := by rw [hE56, up_n (ntb c9 lc9)]; exact t5
                    have u5_h56 : h56 tb2 = some (.inl (gA (xG X) 5, (2 * nt, refs T2))) := by rw [hE56, up_n (nt2 c9 lc9)]; exact u5
                    obtain ⟨hdH, ehH⟩ := hd_some h_c9
                    have gH := sH hdH (List.mem_of_head? ehH)
                    have lH := hlt hdH gH
                    have cH2 : NxL p56 hi9 := by rw [ep56]; exact cH.fi h_c9 nH9
                    have cL2 : NxL p56 (lo ++ [x9]) := by rw [ep56]; exact cL.cg (fun i q9 => pst_i (fun e9 => dLH i q9 (by rw [e9]; exact List.mem_of_getLast? h_c9)))
                    have hou3 : ∀ i, i ∉ B j → p56 0 i = p1 0 i := fun i q9 => by rw [ep56, pst_i (fun e9 => q9 (by rw [e9]; exact gc))]; exact hou2 i q9
                    refine ww_aload C dJ22_resize_338 5 rfl rfl ?_
                    refine ww_iload C dJ22_resize_340 4 rfl ?_
                    refine ww_iload_n C dJ22_resize_342 rfl 7 rfl ?_
                    refine ww_iaddn C dJ22_resize_343 ?_
                    refine ww_aload C dJ22_resize_344 2 rfl (va_rf_isRef _) ?_
                    refine ww_st (st' := [.ref (nA E hdH), .int (nI (j + nt)), .ref tb2]) (by rw [ehH]; rfl) ?_
                    refine ww_aastS (t := 5) (E := "java/util/HashMap$Node") C dJ22_resize_346 (by decide) rfl  u5_h56 (rc_J26 (Cx.ok C) (Or.inl (hNd56.1 hdH lH))) (by omega) (by omega) ?_
                    refine ww_gen (fun h57 hE57 => ?_)
                    have m5_h57 : h57 mp = some (.inr (27, [.null, .null, .ref tb2, .null, .int (nI k), .int mc, .int (nI (2 * nt * 3 / 4)), .float lf])) := by rw [hE57, up_n nm2]; exact m5_h56
                    have t5_h57 : h57 tb = some (.inl (gA (xG X) 5, (nt, refs (va_up T1 j none)))) := by rw [hE57, up_n n12]; exact t5_h56
                    have u5_h57 : h57 tb2 = some (.inl (gA (xG X) 5, (2 * nt, refs (va_up T2 (j + nt) (some (nA E hdH)))))) := by rw [hE57]; exact up_s
                    have hNd57 : NdA h57 n E p56 := by rw [hE57]; exact hNd56.ot nt2
                    have hFq57 : FrM h h57 mp tb n E := by rw [hE57]; exact hFq56.w (Or.inr (Or.inr (Or.inr t2n)))
                    refine ww_iinc (lv' := [(7, .int (nI (j + 1))), (9, va_rf (((lo ++ [x9]).head?).map (nA E))), (10, .null), (11, va_rf ((hi9.head?).map (nA E))), (12, .ref (nA E c9)), (6, .ref tb2), (4, .int (nI (2 * nt))), (2, .int (nI nt)), (1, .ref tb), (0, .ref mp)]) C dJ22_resize_347 4 rfl (inc_n _) (by decide) rfl ?_
                    refine ww_goto (tgt := 151) C dJ22_resize_350 (by decide) ?_
                    refine ww_sub [0, 5, 6, 7, 8, 9] rfl ?_
                    exact ih _ _ _ _ (hI.st hi hmem m5_h57 t5_h57 u5_h57 hNd57 hFq57 hou3 (fun b hb9 => va_ne hb9) (fun b m1 m2 => by rw [va_ne m2]) (by rw [pL]; refine ⟨?_, cL2⟩; rw [va_ne (by omega), eL]; exact z1) (by rw [pH]; refine ⟨?_, cH2⟩; rw [va_eq, ehH]; rfl))
                · skip
                  show WW X (RzP (xG X) z h mp n nt tb E B (fun tb2 => .inr (27, [.null, .null, .ref tb2, .null, .int (nI k), .int mc, .int (nI (2 * nt * 3 / 4)), .float lf]))) z h5 (1 - 1) (2 * nt - 2 * nt) 311 [(9, va_rf (((lo ++ [x9]).head?).map (nA E))), (10, .ref (nA E a9)), (11, va_rf ((hi9.head?).map (nA E))), (12, va_rf ((hi9.getLast?).map (nA E))), (7, .int (nI j)), (6, .ref tb2), (4, .int (nI (2 * nt))), (2, .int (nI nt)), (1, .ref tb), (0, .ref mp)] [.ref (nA E a9)]
                  have ga := sL a9 (List.mem_of_getLast? h_a9)
                  have la := hlt a9 ga
                  refine ww_ifnull_f C dJ22_resize_311 ?_
                  refine ww_aload C dJ22_resize_314 1 rfl rfl ?_
                  refine ww_null C dJ22_resize_316 ?_
                  refine pf_J22_177_J26 (fs' := [.int (nH E a9), .ref (nK E a9), .ref (nV E a9), .null]) C dJ22_resize_317 (hN5.1 a9 la) rfl rfl (Nat.le_of_ble_eq_true rfl) rfl ?_
                  refine ww_gen (fun h58 hE58 => ?_)
                  obtain ⟨p58, ep58⟩ : ∃ Q9, Q9 = pst p5 0 a9 none := ⟨_, rfl⟩
                  have hNd58 : NdA h58 n E p58 := by rw [ep58, hE58]; exact hN5.put (o := none) la
                  have hFq58 : FrM h h58 mp tb n E := by rw [hE58]; exact hF5.w (Or.inr (Or.inr (Or.inl ⟨a9, la, rfl⟩)))
                  have m5_h58 : h58 mp = some (.inr (27, [.null, .null, .ref tb2, .null, .int (nI k), .int mc, .int (nI (2 * nt * 3 / 4)), .float lf])) := by rw [hE58, up_n (nmp a9 la)]; exact m5
                  have t5_h58 : h58 tb = some (.inl (gA (xG X) 5, (nt, refs (va_up T1 j none)))) := by rw [hE58, up_n (ntb a9 la)]; exact t5
                  have u5_h58 : h58 tb2 = some (.inl (gA (xG X) 5, (2 * nt, refs T2))) := by rw [hE58, up_n (nt2 a9 la)]; exact u5
                  obtain ⟨hdL, ehL⟩ := hd_some h_a9
                  have gL := sL hdL (List.mem_of_head? ehL)
                  have lL := hlt hdL gL
                  have cL : NxL p58 (lo ++ [x9]) := by rw [ep58]; exact oL.fi h_a9 nL
                  have cH : NxO p58 hi9 := by rw [ep58]; exact oH.cg (fun i q9 => pst_i (fun e9 => dLH a9 (List.mem_of_getLast? h_a9) (by rw [← e9]; exact List.dropLast_subset _ q9)))
                  have hou2 : ∀ i, i ∉ B j → p58 0 i = p1 0 i := fun i q9 => by rw [ep58, pst_i (fun e9 => q9 (by rw [e9]; exact ga))]; exact hou i q9
                  refine ww_aload C dJ22_resize_320 5 rfl rfl ?_
                  refine ww_iload C dJ22_resize_322 4 rfl ?_
                  refine ww_aload C dJ22_resize_324 0 rfl (va_rf_isRef _) ?_
                  refine ww_st (st' := [.ref (nA E hdL), .int (nI j), .ref tb2]) (by rw [ehL]; rfl) ?_
                  refine ww_aastS (t := 5) (E := "java/util/HashMap$Node") C dJ22_resize_326 (by decide) rfl  u5_h58 (rc_J26 (Cx.ok C) (Or.inl (hNd58.1 hdL lL))) (by omega) (by omega) ?_
                  refine ww_gen (fun h59 hE59 => ?_)
                  have m5_h59 : h59 mp = some (.inr (27, [.null, .null, .ref tb2, .null, .int (nI k), .int mc, .int (nI (2 * nt * 3 / 4)), .float lf])) := by rw [hE59, up_n nm2]; exact m5_h58
                  have t5_h59 : h59 tb = some (.inl (gA (xG X) 5, (nt, refs (va_up T1 j none)))) := by rw [hE59, up_n n12]; exact t5_h58
                  have u5_h59 : h59 tb2 = some (.inl (gA (xG X) 5, (2 * nt, refs (va_up T2 j (some (nA E hdL)))))) := by rw [hE59]; exact up_s
                  have hNd59 : NdA h59 n E p58 := by rw [hE59]; exact hNd58.ot nt2
                  have hFq59 : FrM h h59 mp tb n E := by rw [hE59]; exact hFq58.w (Or.inr (Or.inr (Or.inr t2n)))
                  refine ww_aload C dJ22_resize_327 3 rfl (va_rf_isRef _) ?_
                  rcases h_c9 : hi9.getLast? with _ | c9
                  · skip
                    show WW X (RzP (xG X) z h mp n nt tb E B (fun tb2 => .inr (27, [.null, .null, .ref tb2, .null, .int (nI k), .int mc, .int (nI (2 * nt * 3 / 4)), .float lf]))) z h59 (1 - 1) (2 * nt - 2 * nt) 329 [(9, va_rf (((lo ++ [x9]).head?).map (nA E))), (10, .ref (nA E a9)), (11, va_rf ((hi9.head?).map (nA E))), (12, .null), (7, .int (nI j)), (6, .ref tb2), (4, .int (nI (2 * nt))), (2, .int (nI nt)), (1, .ref tb), (0, .ref mp)] [.null]
                    have eH : hi9 = [] := last_none h_c9
                    refine ww_ifnull_t (tgt := 347) C dJ22_resize_329 (by decide) ?_
                    have cH2 : NxL p58 hi9 := by rw [eH]; trivial
                    have cL2 := cL
                    have hou3 := hou2
                    refine ww_iinc (lv' := [(7, .int (nI (j + 1))), (9, va_rf (((lo ++ [x9]).head?).map (nA E))), (10, .ref (nA E a9)), (11, va_rf ((hi9.head?).map (nA E))), (12, .null), (6, .ref tb2), (4, .int (nI (2 * nt))), (2, .int (nI nt)), (1, .ref tb), (0, .ref mp)]) C dJ22_resize_347 4 rfl (inc_n _) (by decide) rfl ?_
                    refine ww_goto (tgt := 151) C dJ22_resize_350 (by decide) ?_
                    refine ww_sub [0, 5, 6, 7, 8, 9] rfl ?_
                    exact ih _ _ _ _ (hI.st hi hmem m5_h59 t5_h59 u5_h59 hNd59 hFq59 hou3 (fun b hb9 => va_ne hb9) (fun b m1 m2 => by rw [va_ne m1]) (by rw [pL]; refine ⟨?_, cL2⟩; rw [va_eq, ehL]; rfl) (by rw [pH]; refine ⟨?_, cH2⟩; rw [va_ne (by omega), eH]; exact z2))
                  · skip
                    show WW X (RzP (xG X) z h mp n nt tb E B (fun tb2 => .inr (27, [.null, .null, .ref tb2, .null, .int (nI k), .int mc, .int (nI (2 * nt * 3 / 4)), .float lf]))) z h59 (1 - 1) (2 * nt - 2 * nt) 329 [(9, va_rf (((lo ++ [x9]).head?).map (nA E))), (10, .ref (nA E a9)), (11, va_rf ((hi9.head?).map (nA E))), (12, .ref (nA E c9)), (7, .int (nI j)), (6, .ref tb2), (4, .int (nI (2 * nt))), (2, .int (nI nt)), (1, .ref tb), (0, .ref mp)] [.ref (nA E c9)]
                    have gc := sH c9 (List.mem_of_getLast? h_c9)
                    have lc9 := hlt c9 gc
                    refine ww_ifnull_f C dJ22_resize_329 ?_
                    refine ww_aload C dJ22_resize_332 3 rfl rfl ?_
                    refine ww_null C dJ22_resize_334 ?_
                    refine pf_J22_177_J26 (fs' := [.int (nH E c9), .ref (nK E c9), .ref (nV E c9), .null]) C dJ22_resize_335 (hNd59.1 c9 lc9) rfl rfl (Nat.le_of_ble_eq_true rfl) rfl ?_
                    refine ww_gen (fun h60 hE60 => ?_)
                    obtain ⟨p60, ep60⟩ : ∃ Q9, Q9 = pst p58 0 c9 none := ⟨_, rfl⟩
                    have hNd60 : NdA h60 n E p60 := by rw [ep60, hE60]; exact hNd59.put (o := none) lc9
                    have hFq60 : FrM h h60 mp tb n E := by rw [hE60]; exact hFq59.w (Or.inr (Or.inr (Or.inl ⟨c9, lc9, rfl⟩)))
                    have m5_h60 : h60 mp = some (.inr (27, [.null, .null, .ref tb2, .null, .int (nI k), .int mc, .int (nI (2 * nt * 3 / 4)), .float lf])) := by rw [hE60, up_n (nmp c9 lc9)]; exact m5_h59
                    have t5_h60 : h60 tb = some (.inl (gA (xG X) 5, (nt, refs (va_up T1 j none)))) := by rw [hE60, up_n (ntb c9 lc9)]; exact t5_h59
                    have u5_h60 : h60 tb2 = some (.inl (gA (xG X) 5, (2 * nt, refs (va_up T2 j (some (nA E hdL)))))) := by rw [hE60, up_n (nt2 c9 lc9)]; exact u5_h59
                    obtain ⟨hdH, ehH⟩ := hd_some h_c9
                    have gH := sH hdH (List.mem_of_head? ehH)
                    have lH := hlt hdH gH
                    have cH2 : NxL p60 hi9 := by rw [ep60]; exact cH.fi h_c9 nH9
                    have cL2 : NxL p60 (lo ++ [x9]) := by rw [ep60]; exact cL.cg (fun i q9 => pst_i (fun e9 => dLH i q9 (by rw [e9]; exact List.mem_of_getLast? h_c9)))
                    have hou3 : ∀ i, i ∉ B j → p60 0 i = p1 0 i := fun i q9 => by rw [ep60, pst_i (fun e9 => q9 (by rw [e9]; exact gc))]; exact hou2 i q9
                    refine ww_aload C dJ22_resize_338 5 rfl rfl ?_
                    refine ww_iload C dJ22_resize_340 4 rfl ?_
                    refine ww_iload_n C dJ22_resize_342 rfl 7 rfl ?_
                    refine ww_iaddn C dJ22_resize_343 ?_
                    refine ww_aload C dJ22_resize_344 2 rfl (va_rf_isRef _) ?_
                    refine ww_st (st' := [.ref (nA E hdH), .int (nI (j + nt)), .ref tb2]) (by rw [ehH]; rfl) ?_
                    refine ww_aastS (t := 5) (E := "java/util/HashMap$Node") C dJ22_resize_346 (by decide) rfl  u5_h60 (rc_J26 (Cx.ok C) (Or.inl (hNd60.1 hdH lH))) (by omega) (by omega) ?_
                    refine ww_gen (fun h61 hE61 => ?_)
                    have m5_h61 : h61 mp = some (.inr (27, [.null, .null, .ref tb2, .null, .int (nI k), .int mc, .int (nI (2 * nt * 3 / 4)), .float lf])) := by rw [hE61, up_n nm2]; exact m5_h60
                    have t5_h61 : h61 tb = some (.inl (gA (xG X) 5, (nt, refs (va_up T1 j none)))) := by rw [hE61, up_n n12]; exact t5_h60
                    have u5_h61 : h61 tb2 = some (.inl (gA (xG X) 5, (2 * nt, refs (va_up (va_up T2 j (some (nA E hdL))) (j + nt) (some (nA E hdH)))))) := by rw [hE61]; exact up_s
                    have hNd61 : NdA h61 n E p60 := by rw [hE61]; exact hNd60.ot nt2
                    have hFq61 : FrM h h61 mp tb n E := by rw [hE61]; exact hFq60.w (Or.inr (Or.inr (Or.inr t2n)))
                    refine ww_iinc (lv' := [(7, .int (nI (j + 1))), (9, va_rf (((lo ++ [x9]).head?).map (nA E))), (10, .ref (nA E a9)), (11, va_rf ((hi9.head?).map (nA E))), (12, .ref (nA E c9)), (6, .ref tb2), (4, .int (nI (2 * nt))), (2, .int (nI nt)), (1, .ref tb), (0, .ref mp)]) C dJ22_resize_347 4 rfl (inc_n _) (by decide) rfl ?_
                    refine ww_goto (tgt := 151) C dJ22_resize_350 (by decide) ?_
                    refine ww_sub [0, 5, 6, 7, 8, 9] rfl ?_
                    exact ih _ _ _ _ (hI.st hi hmem m5_h61 t5_h61 u5_h61 hNd61 hFq61 hou3 (fun b hb9 => va_ne hb9) (fun b m1 m2 => by rw [va_ne m2]; rw [va_ne m1]) (by rw [pL]; refine ⟨?_, cL2⟩; rw [va_ne (by omega), va_eq, ehL]; rfl) (by rw [pH]; refine ⟨?_, cH2⟩; rw [va_eq, ehH]; rfl))
              · skip
                show WW X (RzP (xG X) z h mp n nt tb E B (fun tb2 => .inr (27, [.null, .null, .ref tb2, .null, .int (nI k), .int mc, .int (nI (2 * nt * 3 / 4)), .float lf]))) z h5 (1 - 1) (2 * nt - 2 * nt) 254 [(13, .null), (8, .ref (nA E x9)), (9, va_rf ((lo.head?).map (nA E))), (10, .ref (nA E t9)), (11, va_rf ((hi9.head?).map (nA E))), (12, va_rf ((hi9.getLast?).map (nA E))), (7, .int (nI j)), (6, .ref tb2), (4, .int (nI (2 * nt))), (2, .int (nI nt)), (1, .ref tb), (0, .ref mp)] [.ref (nA E t9)]
                have gt : t9 ∈ lo := List.mem_of_getLast? h_t9
                have lt9 := hlt t9 (sl1 t9 (slo t9 gt))
                have nt9 : t9 ≠ x9 := fun e9 => nx1 (by rw [← e9]; exact slo t9 gt)
                refine ww_ifnonnull_t (tgt := 264) C dJ22_resize_254 (by decide) ?_
                refine ww_aload C dJ22_resize_264 3 rfl rfl ?_
                refine ww_aload C dJ22_resize_266 1 rfl rfl ?_
                refine pf_J22_177_J26 (fs' := [.int (nH E t9), .ref (nK E t9), .ref (nV E t9), .ref (nA E x9)]) C dJ22_resize_268 (hN5.1 t9 lt9) rfl rfl (Nat.le_of_ble_eq_true rfl) rfl ?_
                refine ww_gen (fun h62 hE62 => ?_)
                obtain ⟨p62, ep62⟩ : ∃ Q9, Q9 = pst p5 0 t9 (some x9) := ⟨_, rfl⟩
                have hNd62 : NdA h62 n E p62 := by rw [ep62, hE62]; exact hN5.put (o := (some x9)) lt9
                have hFq62 : FrM h h62 mp tb n E := by rw [hE62]; exact hF5.w (Or.inr (Or.inr (Or.inl ⟨t9, lt9, rfl⟩)))
                have m5_h62 : h62 mp = some (.inr (27, [.null, .null, .ref tb2, .null, .int (nI k), .int mc, .int (nI (2 * nt * 3 / 4)), .float lf])) := by rw [hE62, up_n (nmp t9 lt9)]; exact m5
                have t5_h62 : h62 tb = some (.inl (gA (xG X) 5, (nt, refs (va_up T1 j none)))) := by rw [hE62, up_n (ntb t9 lt9)]; exact t5
                have u5_h62 : h62 tb2 = some (.inl (gA (xG X) 5, (2 * nt, refs T2))) := by rw [hE62, up_n (nt2 t9 lt9)]; exact u5
                have hnm : NxO p62 (lo ++ [x9]) := by rw [ep62]; exact o1.sn h_t9 ndlo
                have hot : NxO p62 hi9 := by rw [ep62]; exact o2.cg (fun i q9 => pst_i (fun e9 => dlh t9 gt (by rw [← e9]; exact List.dropLast_subset _ q9)))
                have hhd : (lo ++ [x9]).head? = lo.head? := by cases lo with | nil => cases h_t9 | cons a8 b8 => rfl
                refine ww_aload C dJ22_resize_271 1 rfl rfl ?_
                refine ww_astore (lv' := [(10, .ref (nA E x9)), (13, .null), (8, .ref (nA E x9)), (9, va_rf ((lo.head?).map (nA E))), (11, va_rf ((hi9.head?).map (nA E))), (12, va_rf ((hi9.getLast?).map (nA E))), (7, .int (nI j)), (6, .ref tb2), (4, .int (nI (2 * nt))), (2, .int (nI nt)), (1, .ref tb), (0, .ref mp)]) C dJ22_resize_273 (by decide) rfl (by first | (simp [va_rf_cat]; done) | (simp [va_rf_cat]; simp only [Value.category]; decide)) ?_
                refine ww_goto (tgt := 301) C dJ22_resize_275 (by decide) ?_
                refine ww_aload C dJ22_resize_301 1 rfl rfl ?_
                refine ww_dup C dJ22_resize_303 rfl ?_
                refine ww_astore (lv' := [(8, .null), (10, .ref (nA E x9)), (13, .null), (9, va_rf ((lo.head?).map (nA E))), (11, va_rf ((hi9.head?).map (nA E))), (12, va_rf ((hi9.getLast?).map (nA E))), (7, .int (nI j)), (6, .ref tb2), (4, .int (nI (2 * nt))), (2, .int (nI nt)), (1, .ref tb), (0, .ref mp)]) C dJ22_resize_304 (by decide) rfl rfl ?_
                have hlo2 : lo ++ [x9] = (l1 ++ [x9]).filter (fun i => decide (nH E i &&& nI nt = 0)) := by rw [List.filter_append, ← hlo]; congr 1; simp only [List.filter]; rw [hP]; try rfl
                have hhi2 : hi9 = (l1 ++ [x9]).filter (fun i => !decide (nH E i &&& nI nt = 0)) := by rw [List.filter_append, ← hhi]; simp only [List.filter]; rw [hP]; simp
                refine ww_ifnonnull_f C dJ22_resize_306 ?_
                refine ww_sub [3, 1, 4, 5, 6, 7, 8, 9, 10, 11] rfl ?_
                refine ww_lv (lv' := [(9, va_rf (((lo ++ [x9]).head?).map (nA E))), (10, va_rf (((lo ++ [x9]).getLast?).map (nA E))), (11, va_rf ((hi9.head?).map (nA E))), (12, va_rf ((hi9.getLast?).map (nA E))), (7, .int (nI j)), (6, .ref tb2), (4, .int (nI (2 * nt))), (2, .int (nI nt)), (1, .ref tb), (0, .ref mp)]) (by rw [hhd, List.getLast?_concat]; first | rfl | (rw [h_t9]; rfl) | (rw [h_t9])) ?_
                have eB : B j = l1 ++ [x9] := hl
                have pL : spB E nt B j = (lo ++ [x9]) := by rw [hspl, hl]; exact hlo2.symm
                have pH : spB E nt B (j + nt) = hi9 := by rw [hsph, hl]; exact hhi2.symm
                have nL : ((lo ++ [x9])).Nodup := by rw [hlo2, ← hl]; exact (hnd j hi).filter _
                have nH9 : (hi9).Nodup := by rw [hhi2, ← hl]; exact (hnd j hi).filter _
                have sL : ∀ i, i ∈ (lo ++ [x9]) → i ∈ B j := fun i q9 => by rw [hlo2, ← hl] at q9; exact (List.mem_filter.mp q9).1
                have sH : ∀ i, i ∈ hi9 → i ∈ B j := fun i q9 => by rw [hhi2, ← hl] at q9; exact (List.mem_filter.mp q9).1
                have dLH : ∀ i, i ∈ (lo ++ [x9]) → i ∉ hi9 := fun i q8 q9 => by rw [hlo2] at q8; rw [hhi2] at q9; have a8 := (List.mem_filter.mp q8).2; have a9 := (List.mem_filter.mp q9).2; rw [a8] at a9; cases a9
                have hou : ∀ i, i ∉ B j → p62 0 i = p1 0 i := fun i q9 => by rw [ep62, pst_i (fun e9 => q9 (by rw [e9]; exact sl1 t9 (slo t9 gt)))]; exact ho i q9
                have oL := hnm
                have oH := hot
                refine ww_aload C dJ22_resize_309 1 rfl (va_rf_isRef _) ?_
                rcases h_a9 : (lo ++ [x9]).getLast? with _ | a9
                · skip
                  show WW X (RzP (xG X) z h mp n nt tb E B (fun tb2 => .inr (27, [.null, .null, .ref tb2, .null, .int (nI k), .int mc, .int (nI (2 * nt * 3 / 4)), .float lf]))) z h62 (1 - 1) (2 * nt - 2 * nt) 311 [(9, va_rf (((lo ++ [x9]).head?).map (nA E))), (10, .null), (11, va_rf ((hi9.head?).map (nA E))), (12, va_rf ((hi9.getLast?).map (nA E))), (7, .int (nI j)), (6, .ref tb2), (4, .int (nI (2 * nt))), (2, .int (nI nt)), (1, .ref tb), (0, .ref mp)] [.null]
                  have eL : (lo ++ [x9]) = [] := last_none h_a9
                  refine ww_ifnull_t (tgt := 327) C dJ22_resize_311 (by decide) ?_
                  have cL : NxL p62 (lo ++ [x9]) := by rw [eL]; trivial
                  have cH := oH
                  have hou2 := hou
                  refine ww_aload C dJ22_resize_327 3 rfl (va_rf_isRef _) ?_
                  rcases h_c9 : hi9.getLast? with _ | c9
                  · skip
                    show WW X (RzP (xG X) z h mp n nt tb E B (fun tb2 => .inr (27, [.null, .null, .ref tb2, .null, .int (nI k), .int mc, .int (nI (2 * nt * 3 / 4)), .float lf]))) z h62 (1 - 1) (2 * nt - 2 * nt) 329 [(9, va_rf (((lo ++ [x9]).head?).map (nA E))), (10, .null), (11, va_rf ((hi9.head?).map (nA E))), (12, .null), (7, .int (nI j)), (6, .ref tb2), (4, .int (nI (2 * nt))), (2, .int (nI nt)), (1, .ref tb), (0, .ref mp)] [.null]
                    have eH : hi9 = [] := last_none h_c9
                    refine ww_ifnull_t (tgt := 347) C dJ22_resize_329 (by decide) ?_
                    have cH2 : NxL p62 hi9 := by rw [eH]; trivial
                    have cL2 := cL
                    have hou3 := hou2
                    refine ww_iinc (lv' := [(7, .int (nI (j + 1))), (9, va_rf (((lo ++ [x9]).head?).map (nA E))), (10, .null), (11, va_rf ((hi9.head?).map (nA E))), (12, .null), (6, .ref tb2), (4, .int (nI (2 * nt))), (2, .int (nI nt)), (1, .ref tb), (0, .ref mp)]) C dJ22_resize_347 4 rfl (inc_n _) (by decide) rfl ?_
                    refine ww_goto (tgt := 151) C dJ22_resize_350 (by decide) ?_
                    refine ww_sub [0, 5, 6, 7, 8, 9] rfl ?_
                    exact ih _ _ _ _ (hI.st hi hmem m5_h62 t5_h62 u5_h62 hNd62 hFq62 hou3 (fun b hb9 => va_ne hb9) (fun b m1 m2 => by rfl) (by rw [pL]; refine ⟨?_, cL2⟩; rw [eL]; exact z1) (by rw [pH]; refine ⟨?_, cH2⟩; rw [eH]; exact z2))
                  · skip
                    show WW X (RzP (xG X) z h mp n nt tb E B (fun tb2 => .inr (27, [.null, .null, .ref tb2, .null, .int (nI k), .int mc, .int (nI (2 * nt * 3 / 4)), .float lf]))) z h62 (1 - 1) (2 * nt - 2 * nt) 329 [(9, va_rf (((lo ++ [x9]).head?).map (nA E))), (10, .null), (11, va_rf ((hi9.head?).map (nA E))), (12, .ref (nA E c9)), (7, .int (nI j)), (6, .ref tb2), (4, .int (nI (2 * nt))), (2, .int (nI nt)), (1, .ref tb), (0, .ref mp)] [.ref (nA E c9)]
                    have gc := sH c9 (List.mem_of_getLast? h_c9)
                    have lc9 := hlt c9 gc
                    refine ww_ifnull_f C dJ22_resize_329 ?_
                    refine ww_aload C dJ22_resize_332 3 rfl rfl ?_
                    refine ww_null C dJ22_resize_334 ?_
                    refine pf_J22_177_J26 (fs' := [.int (nH E c9), .ref (nK E c9), .ref (nV E c9), .null]) C dJ22_resize_335 (hNd62.1 c9 lc9) rfl rfl (Nat.le_of_ble_eq_true rfl) rfl ?_
                    refine ww_gen (fun h63 hE63 => ?_)
                    obtain ⟨p63, ep63⟩ : ∃ Q9, Q9 = pst p62 0 c9 none := ⟨_, rfl⟩
                    have hNd63 : NdA h63 n E p63 := by rw [ep63, hE63]; exact hNd62.put (o := none) lc9
                    have hFq63 : FrM h h63 mp tb n E := by rw [hE63]; exact hFq62.w (Or.inr (Or.inr (Or.inl ⟨c9, lc9, rfl⟩)))
                    have m5_h63 : h63 mp = some (.inr (27, [.null, .null, .ref tb2, .null, .int (nI k), .int mc, .int (nI (2 * nt * 3 / 4)), .float lf])) := by rw [hE63, up_n (nmp c9 lc9)]; exact m5_h62
                    have t5_h63 : h63 tb = some (.inl (gA (xG X) 5, (nt, refs (va_up T1 j none)))) := by rw [hE63, up_n (ntb c9 lc9)]; exact t5_h62
                    have u5_h63 : h63 tb2 = some (.inl (gA (xG X) 5, (2 * nt, refs T2))) := by rw [hE63, up_n (nt2 c9 lc9)]; exact u5_h62
                    obtain ⟨hdH, ehH⟩ := hd_some h_c9
                    have gH := sH hdH (List.mem_of_head? ehH)
                    have lH := hlt hdH gH
                    have cH2 : NxL p63 hi9 := by rw [ep63]; exact cH.fi h_c9 nH9
                    have cL2 : NxL p63 (lo ++ [x9]) := by rw [ep63]; exact cL.cg (fun i q9 => pst_i (fun e9 => dLH i q9 (by rw [e9]; exact List.mem_of_getLast? h_c9)))
                    have hou3 : ∀ i, i ∉ B j → p63 0 i = p1 0 i := fun i q9 => by rw [ep63, pst_i (fun e9 => q9 (by rw [e9]; exact gc))]; exact hou2 i q9
                    refine ww_aload C dJ22_resize_338 5 rfl rfl ?_
                    refine ww_iload C dJ22_resize_340 4 rfl ?_
                    refine ww_iload_n C dJ22_resize_342 rfl 7 rfl ?_
                    refine ww_iaddn C dJ22_resize_343 ?_
                    refine ww_aload C dJ22_resize_344 2 rfl (va_rf_isRef _) ?_
                    refine ww_st (st' := [.ref (nA E hdH), .int (nI (j + nt)), .ref tb2]) (by rw [ehH]; rfl) ?_
                    refine ww_aastS (t := 5) (E := "java/util/HashMap$Node") C dJ22_resize_346 (by decide) rfl  u5_h63 (rc_J26 (Cx.ok C) (Or.inl (hNd63.1 hdH lH))) (by omega) (by omega) ?_
                    refine ww_gen (fun h64 hE64 => ?_)
                    have m5_h64 : h64 mp = some (.inr (27, [.null, .null, .ref tb2, .null, .int (nI k), .int mc, .int (nI (2 * nt * 3 / 4)), .float lf])) := by rw [hE64, up_n nm2]; exact m5_h63
                    have t5_h64 : h64 tb = some (.inl (gA (xG X) 5, (nt, refs (va_up T1 j none)))) := by rw [hE64, up_n n12]; exact t5_h63
                    have u5_h64 : h64 tb2 = some (.inl (gA (xG X) 5, (2 * nt, refs (va_up T2 (j + nt) (some (nA E hdH)))))) := by rw [hE64]; exact up_s
                    have hNd64 : NdA h64 n E p63 := by rw [hE64]; exact hNd63.ot nt2
                    have hFq64 : FrM h h64 mp tb n E := by rw [hE64]; exact hFq63.w (Or.inr (Or.inr (Or.inr t2n)))
                    refine ww_iinc (lv' := [(7, .int (nI (j + 1))), (9, va_rf (((lo ++ [x9]).head?).map (nA E))), (10, .null), (11, va_rf ((hi9.head?).map (nA E))), (12, .ref (nA E c9)), (6, .ref tb2), (4, .int (nI (2 * nt))), (2, .int (nI nt)), (1, .ref tb), (0, .ref mp)]) C dJ22_resize_347 4 rfl (inc_n _) (by decide) rfl ?_
                    refine ww_goto (tgt := 151) C dJ22_resize_350 (by decide) ?_
                    refine ww_sub [0, 5, 6, 7, 8, 9] rfl ?_
                    exact ih _ _ _ _ (hI.st hi hmem m5_h64 t5_h64 u5_h64 hNd64 hFq64 hou3 (fun b hb9 => va_ne hb9) (fun b m1 m2 => by rw [va_ne m2]) (by rw [pL]; refine ⟨?_, cL2⟩; rw [va_ne (by omega), eL]; exact z1) (by rw [pH]; refine ⟨?_, cH2⟩; rw [va_eq, ehH]; rfl))
                · skip
                  show WW X (RzP (xG X) z h mp n nt tb E B (fun tb2 => .inr (27, [.null, .null, .ref tb2, .null, .int (nI k), .int mc, .int (nI (2 * nt * 3 / 4)), .float lf]))) z h62 (1 - 1) (2 * nt - 2 * nt) 311 [(9, va_rf (((lo ++ [x9]).head?).map (nA E))), (10, .ref (nA E a9)), (11, va_rf ((hi9.head?).map (nA E))), (12, va_rf ((hi9.getLast?).map (nA E))), (7, .int (nI j)), (6, .ref tb2), (4, .int (nI (2 * nt))), (2, .int (nI nt)), (1, .ref tb), (0, .ref mp)] [.ref (nA E a9)]
                  have ga := sL a9 (List.mem_of_getLast? h_a9)
                  have la := hlt a9 ga
                  refine ww_ifnull_f C dJ22_resize_311 ?_
                  refine ww_aload C dJ22_resize_314 1 rfl rfl ?_
                  refine ww_null C dJ22_resize_316 ?_
                  refine pf_J22_177_J26 (fs' := [.int (nH E a9), .ref (nK E a9), .ref (nV E a9), .null]) C dJ22_resize_317 (hNd62.1 a9 la) rfl rfl (Nat.le_of_ble_eq_true rfl) rfl ?_
                  refine ww_gen (fun h65 hE65 => ?_)
                  obtain ⟨p65, ep65⟩ : ∃ Q9, Q9 = pst p62 0 a9 none := ⟨_, rfl⟩
                  have hNd65 : NdA h65 n E p65 := by rw [ep65, hE65]; exact hNd62.put (o := none) la
                  have hFq65 : FrM h h65 mp tb n E := by rw [hE65]; exact hFq62.w (Or.inr (Or.inr (Or.inl ⟨a9, la, rfl⟩)))
                  have m5_h65 : h65 mp = some (.inr (27, [.null, .null, .ref tb2, .null, .int (nI k), .int mc, .int (nI (2 * nt * 3 / 4)), .float lf])) := by rw [hE65, up_n (nmp a9 la)]; exact m5_h62
                  have t5_h65 : h65 tb = some (.inl (gA (xG X) 5, (nt, refs (va_up T1 j none)))) := by rw [hE65, up_n (ntb a9 la)]; exact t5_h62
                  have u5_h65 : h65 tb2 = some (.inl (gA (xG X) 5, (2 * nt, refs T2))) := by rw [hE65, up_n (nt2 a9 la)]; exact u5_h62
                  obtain ⟨hdL, ehL⟩ := hd_some h_a9
                  have gL := sL hdL (List.mem_of_head? ehL)
                  have lL := hlt hdL gL
                  have cL : NxL p65 (lo ++ [x9]) := by rw [ep65]; exact oL.fi h_a9 nL
                  have cH : NxO p65 hi9 := by rw [ep65]; exact oH.cg (fun i q9 => pst_i (fun e9 => dLH a9 (List.mem_of_getLast? h_a9) (by rw [← e9]; exact List.dropLast_subset _ q9)))
                  have hou2 : ∀ i, i ∉ B j → p65 0 i = p1 0 i := fun i q9 => by rw [ep65, pst_i (fun e9 => q9 (by rw [e9]; exact ga))]; exact hou i q9
                  refine ww_aload C dJ22_resize_320 5 rfl rfl ?_
                  refine ww_iload C dJ22_resize_322 4 rfl ?_
                  refine ww_aload C dJ22_resize_324 0 rfl (va_rf_isRef _) ?_
                  refine ww_st (st' := [.ref (nA E hdL), .int (nI j), .ref tb2]) (by rw [ehL]; rfl) ?_
                  refine ww_aastS (t := 5) (E := "java/util/HashMap$Node") C dJ22_resize_326 (by decide) rfl  u5_h65 (rc_J26 (Cx.ok C) (Or.inl (hNd65.1 hdL lL))) (by omega) (by omega) ?_
                  refine ww_gen (fun h66 hE66 => ?_)
                  have m5_h66 : h66 mp = some (.inr (27, [.null, .null, .ref tb2, .null, .int (nI k), .int mc, .int (nI (2 * nt * 3 / 4)), .float lf])) := by rw [hE66, up_n nm2]; exact m5_h65
                  have t5_h66 : h66 tb = some (.inl (gA (xG X) 5, (nt, refs (va_up T1 j none)))) := by rw [hE66, up_n n12]; exact t5_h65
                  have u5_h66 : h66 tb2 = some (.inl (gA (xG X) 5, (2 * nt, refs (va_up T2 j (some (nA E hdL)))))) := by rw [hE66]; exact up_s
                  have hNd66 : NdA h66 n E p65 := by rw [hE66]; exact hNd65.ot nt2
                  have hFq66 : FrM h h66 mp tb n E := by rw [hE66]; exact hFq65.w (Or.inr (Or.inr (Or.inr t2n)))
                  refine ww_aload C dJ22_resize_327 3 rfl (va_rf_isRef _) ?_
                  rcases h_c9 : hi9.getLast? with _ | c9
                  · skip
                    show WW X (RzP (xG X) z h mp n nt tb E B (fun tb2 => .inr (27, [.null, .null, .ref tb2, .null, .int (nI k), .int mc, .int (nI (2 * nt * 3 / 4)), .float lf]))) z h66 (1 - 1) (2 * nt - 2 * nt) 329 [(9, va_rf (((lo ++ [x9]).head?).map (nA E))), (10, .ref (nA E a9)), (11, va_rf ((hi9.head?).map (nA E))), (12, .null), (7, .int (nI j)), (6, .ref tb2), (4, .int (nI (2 * nt))), (2, .int (nI nt)), (1, .ref tb), (0, .ref mp)] [.null]
                    have eH : hi9 = [] := last_none h_c9
                    refine ww_ifnull_t (tgt := 347) C dJ22_resize_329 (by decide) ?_
                    have cH2 : NxL p65 hi9 := by rw [eH]; trivial
                    have cL2 := cL
                    have hou3 := hou2
                    refine ww_iinc (lv' := [(7, .int (nI (j + 1))), (9, va_rf (((lo ++ [x9]).head?).map (nA E))), (10, .ref (nA E a9)), (11, va_rf ((hi9.head?).map (nA E))), (12, .null), (6, .ref tb2), (4, .int (nI (2 * nt))), (2, .int (nI nt)), (1, .ref tb), (0, .ref mp)]) C dJ22_resize_347 4 rfl (inc_n _) (by decide) rfl ?_
                    refine ww_goto (tgt := 151) C dJ22_resize_350 (by decide) ?_
                    refine ww_sub [0, 5, 6, 7, 8, 9] rfl ?_
                    exact ih _ _ _ _ (hI.st hi hmem m5_h66 t5_h66 u5_h66 hNd66 hFq66 hou3 (fun b hb9 => va_ne hb9) (fun b m1 m2 => by rw [va_ne m1]) (by rw [pL]; refine ⟨?_, cL2⟩; rw [va_eq, ehL]; rfl) (by rw [pH]; refine ⟨?_, cH2⟩; rw [va_ne (by omega), eH]; exact z2))
                  · skip
                    show WW X (RzP (xG X) z h mp n nt tb E B (fun tb2 => .inr (27, [.null, .null, .ref tb2, .null, .int (nI k), .int mc, .int (nI (2 * nt * 3 / 4)), .float lf]))) z h66 (1 - 1) (2 * nt - 2 * nt) 329 [(9, va_rf (((lo ++ [x9]).head?).map (nA E))), (10, .ref (nA E a9)), (11, va_rf ((hi9.head?).map (nA E))), (12, .ref (nA E c9)), (7, .int (nI j)), (6, .ref tb2), (4, .int (nI (2 * nt))), (2, .int (nI nt)), (1, .ref tb), (0, .ref mp)] [.ref (nA E c9)]
                    have gc := sH c9 (List.mem_of_getLast? h_c9)
                    have lc9 := hlt c9 gc
                    refine ww_ifnull_f C dJ22_resize_329 ?_
                    refine ww_aload C dJ22_resize_332 3 rfl rfl ?_
                    refine ww_null C dJ22_resize_334 ?_
                    refine pf_J22_177_J26 (fs' := [.int (nH E c9), .ref (nK E c9), .ref (nV E c9), .null]) C dJ22_resize_335 (hNd66.1 c9 lc9) rfl rfl (Nat.le_of_ble_eq_true rfl) rfl ?_
                    refine ww_gen (fun h67 hE67 => ?_)
                    obtain ⟨p67, ep67⟩ : ∃ Q9, Q9 = pst p65 0 c9 none := ⟨_, rfl⟩
                    have hNd67 : NdA h67 n E p67 := by rw [ep67, hE67]; exact hNd66.put (o := none) lc9
                    have hFq67 : FrM h h67 mp tb n E := by rw [hE67]; exact hFq66.w (Or.inr (Or.inr (Or.inl ⟨c9, lc9, rfl⟩)))
                    have m5_h67 : h67 mp = some (.inr (27, [.null, .null, .ref tb2, .null, .int (nI k), .int mc, .int (nI (2 * nt * 3 / 4)), .float lf])) := by rw [hE67, up_n (nmp c9 lc9)]; exact m5_h66
                    have t5_h67 : h67 tb = some (.inl (gA (xG X) 5, (nt, refs (va_up T1 j none)))) := by rw [hE67, up_n (ntb c9 lc9)]; exact t5_h66
                    have u5_h67 : h67 tb2 = some (.inl (gA (xG X) 5, (2 * nt, refs (va_up T2 j (some (nA E hdL)))))) := by rw [hE67, up_n (nt2 c9 lc9)]; exact u5_h66
                    obtain ⟨hdH, ehH⟩ := hd_some h_c9
                    have gH := sH hdH (List.mem_of_head? ehH)
                    have lH := hlt hdH gH
                    have cH2 : NxL p67 hi9 := by rw [ep67]; exact cH.fi h_c9 nH9
                    have cL2 : NxL p67 (lo ++ [x9]) := by rw [ep67]; exact cL.cg (fun i q9 => pst_i (fun e9 => dLH i q9 (by rw [e9]; exact List.mem_of_getLast? h_c9)))
                    have hou3 : ∀ i, i ∉ B j → p67 0 i = p1 0 i := fun i q9 => by rw [ep67, pst_i (fun e9 => q9 (by rw [e9]; exact gc))]; exact hou2 i q9
                    refine ww_aload C dJ22_resize_338 5 rfl rfl ?_
                    refine ww_iload C dJ22_resize_340 4 rfl ?_
                    refine ww_iload_n C dJ22_resize_342 rfl 7 rfl ?_
                    refine ww_iaddn C dJ22_resize_343 ?_
                    refine ww_aload C dJ22_resize_344 2 rfl (va_rf_isRef _) ?_
                    refine ww_st (st' := [.ref (nA E hdH), .int (nI (j + nt)), .ref tb2]) (by rw [ehH]; rfl) ?_
                    refine ww_aastS (t := 5) (E := "java/util/HashMap$Node") C dJ22_resize_346 (by decide) rfl  u5_h67 (rc_J26 (Cx.ok C) (Or.inl (hNd67.1 hdH lH))) (by omega) (by omega) ?_
                    refine ww_gen (fun h68 hE68 => ?_)
                    have m5_h68 : h68 mp = some (.inr (27, [.null, .null, .ref tb2, .null, .int (nI k), .int mc, .int (nI (2 * nt * 3 / 4)), .float lf])) := by rw [hE68, up_n nm2]; exact m5_h67
                    have t5_h68 : h68 tb = some (.inl (gA (xG X) 5, (nt, refs (va_up T1 j none)))) := by rw [hE68, up_n n12]; exact t5_h67
                    have u5_h68 : h68 tb2 = some (.inl (gA (xG X) 5, (2 * nt, refs (va_up (va_up T2 j (some (nA E hdL))) (j + nt) (some (nA E hdH)))))) := by rw [hE68]; exact up_s
                    have hNd68 : NdA h68 n E p67 := by rw [hE68]; exact hNd67.ot nt2
                    have hFq68 : FrM h h68 mp tb n E := by rw [hE68]; exact hFq67.w (Or.inr (Or.inr (Or.inr t2n)))
                    refine ww_iinc (lv' := [(7, .int (nI (j + 1))), (9, va_rf (((lo ++ [x9]).head?).map (nA E))), (10, .ref (nA E a9)), (11, va_rf ((hi9.head?).map (nA E))), (12, .ref (nA E c9)), (6, .ref tb2), (4, .int (nI (2 * nt))), (2, .int (nI nt)), (1, .ref tb), (0, .ref mp)]) C dJ22_resize_347 4 rfl (inc_n _) (by decide) rfl ?_
                    refine ww_goto (tgt := 151) C dJ22_resize_350 (by decide) ?_
                    refine ww_sub [0, 5, 6, 7, 8, 9] rfl ?_
                    exact ih _ _ _ _ (hI.st hi hmem m5_h68 t5_h68 u5_h68 hNd68 hFq68 hou3 (fun b hb9 => va_ne hb9) (fun b m1 m2 => by rw [va_ne m2]; rw [va_ne m1]) (by rw [pL]; refine ⟨?_, cL2⟩; rw [va_ne (by omega), va_eq, ehL]; rfl) (by rw [pH]; refine ⟨?_, cH2⟩; rw [va_eq, ehH]; rfl))
          | cons x8 r6 ih9 =>
            intro x9 l1 lo hi9 h5 p5 hl hlo hhi hN5 hF5 m5 t5 u5 o1 o2 hx5 ho
            have gx : x9 ∈ B j := by rw [hl]; simp
            have lx := hlt x9 gx
            have hnd9 : (B j).Nodup := hnd j hi
            rw [hl] at hnd9
            have nx1 : x9 ∉ l1 := fun e9 => (List.nodup_append.mp hnd9).2.2 x9 e9 x9 List.mem_cons_self rfl
            have ndl : l1.Nodup := (List.nodup_append.mp hnd9).1
            have ndlo : lo.Nodup := by rw [hlo]; exact ndl.filter _
            have ndhi : hi9.Nodup := by rw [hhi]; exact ndl.filter _
            have slo : ∀ i, i ∈ lo → i ∈ l1 := fun i q9 => by rw [hlo] at q9; exact (List.mem_filter.mp q9).1
            have shi : ∀ i, i ∈ hi9 → i ∈ l1 := fun i q9 => by rw [hhi] at q9; exact (List.mem_filter.mp q9).1
            have sl1 : ∀ i, i ∈ l1 → i ∈ B j := fun i q9 => by rw [hl]; exact List.mem_append_left _ q9
            have nr7 : ∀ i, i ∈ x8 :: r6 → i ∉ l1 ∧ i ≠ x9 := fun i q9 => ⟨fun e9 => (List.nodup_append.mp hnd9).2.2 i e9 i (List.mem_cons_of_mem _ q9) rfl, fun e9 => (List.nodup_cons.mp (List.nodup_append.mp hnd9).2.1).1 (by rw [← e9]; exact q9)⟩
            have dlh : ∀ i, i ∈ lo → i ∉ hi9 := fun i q8 q9 => by rw [hlo] at q8; rw [hhi] at q9; have a8 := (List.mem_filter.mp q8).2; have a9 := (List.mem_filter.mp q9).2; rw [a8] at a9; cases a9
            refine ww_aload C dJ22_resize_235 0 rfl rfl ?_
            refine gf_J22_177_J26 C dJ22_resize_237 (Or.inl (hN5.1 x9 lx)) rfl ?_
            refine ww_st (st' := [.ref (nA E x8)]) (by rw [hx5.1]; rfl) ?_
            refine ww_astore (lv' := [(13, .ref (nA E x8)), (8, .ref (nA E x9)), (9, va_rf ((lo.head?).map (nA E))), (10, va_rf ((lo.getLast?).map (nA E))), (11, va_rf ((hi9.head?).map (nA E))), (12, va_rf ((hi9.getLast?).map (nA E))), (7, .int (nI j)), (6, .ref tb2), (4, .int (nI (2 * nt))), (2, .int (nI nt)), (1, .ref tb), (0, .ref mp)]) C dJ22_resize_240 (by decide) rfl (by first | (simp [va_rf_cat]; done) | (simp [va_rf_cat]; simp only [Value.category]; decide)) ?_
            refine ww_aload C dJ22_resize_242 1 rfl rfl ?_
            refine gf_J22_168_J26 C dJ22_resize_244 (Or.inl (hN5.1 x9 lx)) rfl ?_
            refine ww_iload_n C dJ22_resize_247 rfl 9 rfl ?_
            refine ww_iand C dJ22_resize_248 ?_
            refine ww_if_ne (tgt := 278) C dJ22_resize_249 (by decide) (fun c_249 => ?_) (fun c_249 => ?_)
            · skip
              have hP : decide (nH E x9 &&& nI nt = 0) = false := decide_eq_false c_249
              refine ww_aload C dJ22_resize_278 5 rfl (va_rf_isRef _) ?_
              rcases h_t9 : hi9.getLast? with _ | t9
              · skip
                show WW X (RzP (xG X) z h mp n nt tb E B (fun tb2 => .inr (27, [.null, .null, .ref tb2, .null, .int (nI k), .int mc, .int (nI (2 * nt * 3 / 4)), .float lf]))) z h5 (1 - 1) (2 * nt - 2 * nt) 280 [(13, .ref (nA E x8)), (8, .ref (nA E x9)), (9, va_rf ((lo.head?).map (nA E))), (10, va_rf ((lo.getLast?).map (nA E))), (11, va_rf ((hi9.head?).map (nA E))), (12, .null), (7, .int (nI j)), (6, .ref tb2), (4, .int (nI (2 * nt))), (2, .int (nI nt)), (1, .ref tb), (0, .ref mp)] [.null]
                have hemp : hi9 = [] := by cases h9 : hi9 with | nil => rfl | cons a8 b8 => (rw [h9] at h_t9; simp [List.getLast?_cons] at h_t9)
                refine ww_ifnonnull_f C dJ22_resize_280 ?_
                refine ww_aload C dJ22_resize_283 1 rfl rfl ?_
                refine ww_astore (lv' := [(11, .ref (nA E x9)), (13, .ref (nA E x8)), (8, .ref (nA E x9)), (9, va_rf ((lo.head?).map (nA E))), (10, va_rf ((lo.getLast?).map (nA E))), (12, .null), (7, .int (nI j)), (6, .ref tb2), (4, .int (nI (2 * nt))), (2, .int (nI nt)), (1, .ref tb), (0, .ref mp)]) C dJ22_resize_285 (by decide) rfl (by first | (simp [va_rf_cat]; done) | (simp [va_rf_cat]; simp only [Value.category]; decide)) ?_
                refine ww_goto (tgt := 297) C dJ22_resize_287 (by decide) ?_
                have hnm : NxO p5 (hi9 ++ [x9]) := by rw [hemp]; trivial
                have hot : NxO p5 lo := o1
                have hhd : (hi9 ++ [x9]).head? = some x9 := by rw [hemp]; rfl
                refine ww_aload C dJ22_resize_297 2 rfl rfl ?_
                refine ww_astore (lv' := [(12, .ref (nA E x9)), (11, .ref (nA E x9)), (13, .ref (nA E x8)), (8, .ref (nA E x9)), (9, va_rf ((lo.head?).map (nA E))), (10, va_rf ((lo.getLast?).map (nA E))), (7, .int (nI j)), (6, .ref tb2), (4, .int (nI (2 * nt))), (2, .int (nI nt)), (1, .ref tb), (0, .ref mp)]) C dJ22_resize_299 (by decide) rfl rfl ?_
                refine ww_aload C dJ22_resize_301 2 rfl rfl ?_
                refine ww_dup C dJ22_resize_303 rfl ?_
                refine ww_astore (lv' := [(8, .ref (nA E x8)), (12, .ref (nA E x9)), (11, .ref (nA E x9)), (13, .ref (nA E x8)), (9, va_rf ((lo.head?).map (nA E))), (10, va_rf ((lo.getLast?).map (nA E))), (7, .int (nI j)), (6, .ref tb2), (4, .int (nI (2 * nt))), (2, .int (nI nt)), (1, .ref tb), (0, .ref mp)]) C dJ22_resize_304 (by decide) rfl rfl ?_
                have hlo2 : hi9 ++ [x9] = (l1 ++ [x9]).filter (fun i => !decide (nH E i &&& nI nt = 0)) := by rw [List.filter_append, ← hhi]; congr 1; simp only [List.filter]; rw [hP]; try rfl
                have hhi2 : lo = (l1 ++ [x9]).filter (fun i => decide (nH E i &&& nI nt = 0)) := by rw [List.filter_append, ← hlo]; simp only [List.filter]; rw [hP]; simp
                refine ww_ifnonnull_t (tgt := 235) C dJ22_resize_306 (by decide) ?_
                refine ww_sub [0, 4, 5, 2, 1, 6, 7, 8, 9, 10, 11] rfl ?_
                refine ww_lv (lv' := [(8, .ref (nA E x8)), (9, va_rf ((lo.head?).map (nA E))), (10, va_rf ((lo.getLast?).map (nA E))), (11, va_rf (((hi9 ++ [x9]).head?).map (nA E))), (12, va_rf (((hi9 ++ [x9]).getLast?).map (nA E))), (7, .int (nI j)), (6, .ref tb2), (4, .int (nI (2 * nt))), (2, .int (nI nt)), (1, .ref tb), (0, .ref mp)]) (by rw [hhd, List.getLast?_concat]; first | rfl | (rw [h_t9]; rfl) | (rw [h_t9])) ?_
                exact ih9 x8 (l1 ++ [x9]) lo (hi9 ++ [x9]) h5 p5 (by rw [hl]; simp) hhi2 hlo2 hN5 hF5 m5 t5 u5 hot hnm (hx5.2) (ho)
              · skip
                show WW X (RzP (xG X) z h mp n nt tb E B (fun tb2 => .inr (27, [.null, .null, .ref tb2, .null, .int (nI k), .int mc, .int (nI (2 * nt * 3 / 4)), .float lf]))) z h5 (1 - 1) (2 * nt - 2 * nt) 280 [(13, .ref (nA E x8)), (8, .ref (nA E x9)), (9, va_rf ((lo.head?).map (nA E))), (10, va_rf ((lo.getLast?).map (nA E))), (11, va_rf ((hi9.head?).map (nA E))), (12, .ref (nA E t9)), (7, .int (nI j)), (6, .ref tb2), (4, .int (nI (2 * nt))), (2, .int (nI nt)), (1, .ref tb), (0, .ref mp)] [.ref (nA E t9)]
                have gt : t9 ∈ hi9 := List.mem_of_getLast? h_t9
                have lt9 := hlt t9 (sl1 t9 (shi t9 gt))
                have nt9 : t9 ≠ x9 := fun e9 => nx1 (by rw [← e9]; exact shi t9 gt)
                refine ww_ifnonnull_t (tgt := 290) C dJ22_resize_280 (by decide) ?_
                refine ww_aload C dJ22_resize_290 5 rfl rfl ?_
                refine ww_aload C dJ22_resize_292 1 rfl rfl ?_
                refine pf_J22_177_J26 (fs' := [.int (nH E t9), .ref (nK E t9), .ref (nV E t9), .ref (nA E x9)]) C dJ22_resize_294 (hN5.1 t9 lt9) rfl rfl (Nat.le_of_ble_eq_true rfl) rfl ?_
                refine ww_gen (fun h69 hE69 => ?_)
                obtain ⟨p69, ep69⟩ : ∃ Q9, Q9 = pst p5 0 t9 (some x9) := ⟨_, rfl⟩
                have hNd69 : NdA h69 n E p69 := by rw [ep69, hE69]; exact hN5.put (o := (some x9)) lt9
                have hFq69 : FrM h h69 mp tb n E := by rw [hE69]; exact hF5.w (Or.inr (Or.inr (Or.inl ⟨t9, lt9, rfl⟩)))
                have m5_h69 : h69 mp = some (.inr (27, [.null, .null, .ref tb2, .null, .int (nI k), .int mc, .int (nI (2 * nt * 3 / 4)), .float lf])) := by rw [hE69, up_n (nmp t9 lt9)]; exact m5
                have t5_h69 : h69 tb = some (.inl (gA (xG X) 5, (nt, refs (va_up T1 j none)))) := by rw [hE69, up_n (ntb t9 lt9)]; exact t5
                have u5_h69 : h69 tb2 = some (.inl (gA (xG X) 5, (2 * nt, refs T2))) := by rw [hE69, up_n (nt2 t9 lt9)]; exact u5
                have hnm : NxO p69 (hi9 ++ [x9]) := by rw [ep69]; exact o2.sn h_t9 ndhi
                have hot : NxO p69 lo := by rw [ep69]; exact o1.cg (fun i q9 => pst_i (fun e9 => dlh i (List.dropLast_subset _ q9) (by rw [e9]; exact gt)))
                have hhd : (hi9 ++ [x9]).head? = hi9.head? := by cases hi9 with | nil => cases h_t9 | cons a8 b8 => rfl
                refine ww_aload C dJ22_resize_297 1 rfl rfl ?_
                refine ww_astore (lv' := [(12, .ref (nA E x9)), (13, .ref (nA E x8)), (8, .ref (nA E x9)), (9, va_rf ((lo.head?).map (nA E))), (10, va_rf ((lo.getLast?).map (nA E))), (11, va_rf ((hi9.head?).map (nA E))), (7, .int (nI j)), (6, .ref tb2), (4, .int (nI (2 * nt))), (2, .int (nI nt)), (1, .ref tb), (0, .ref mp)]) C dJ22_resize_299 (by decide) rfl (by first | (simp [va_rf_cat]; done) | (simp [va_rf_cat]; simp only [Value.category]; decide)) ?_
                refine ww_aload C dJ22_resize_301 1 rfl rfl ?_
                refine ww_dup C dJ22_resize_303 rfl ?_
                refine ww_astore (lv' := [(8, .ref (nA E x8)), (12, .ref (nA E x9)), (13, .ref (nA E x8)), (9, va_rf ((lo.head?).map (nA E))), (10, va_rf ((lo.getLast?).map (nA E))), (11, va_rf ((hi9.head?).map (nA E))), (7, .int (nI j)), (6, .ref tb2), (4, .int (nI (2 * nt))), (2, .int (nI nt)), (1, .ref tb), (0, .ref mp)]) C dJ22_resize_304 (by decide) rfl rfl ?_
                have hlo2 : hi9 ++ [x9] = (l1 ++ [x9]).filter (fun i => !decide (nH E i &&& nI nt = 0)) := by rw [List.filter_append, ← hhi]; congr 1; simp only [List.filter]; rw [hP]; try rfl
                have hhi2 : lo = (l1 ++ [x9]).filter (fun i => decide (nH E i &&& nI nt = 0)) := by rw [List.filter_append, ← hlo]; simp only [List.filter]; rw [hP]; simp
                refine ww_ifnonnull_t (tgt := 235) C dJ22_resize_306 (by decide) ?_
                refine ww_sub [0, 3, 4, 5, 1, 6, 7, 8, 9, 10, 11] rfl ?_
                refine ww_lv (lv' := [(8, .ref (nA E x8)), (9, va_rf ((lo.head?).map (nA E))), (10, va_rf ((lo.getLast?).map (nA E))), (11, va_rf (((hi9 ++ [x9]).head?).map (nA E))), (12, va_rf (((hi9 ++ [x9]).getLast?).map (nA E))), (7, .int (nI j)), (6, .ref tb2), (4, .int (nI (2 * nt))), (2, .int (nI nt)), (1, .ref tb), (0, .ref mp)]) (by rw [hhd, List.getLast?_concat]; first | rfl | (rw [h_t9]; rfl) | (rw [h_t9])) ?_
                exact ih9 x8 (l1 ++ [x9]) lo (hi9 ++ [x9]) h69 p69 (by rw [hl]; simp) hhi2 hlo2 hNd69 hFq69 m5_h69 t5_h69 u5_h69 hot hnm (by rw [ep69]; exact hx5.2.cg (fun i q9 => pst_i (fun e9 => (nr7 i q9).1 (by rw [e9]; exact shi t9 gt)))) (fun i q9 => by rw [ep69, pst_i (fun e9 => q9 (by rw [e9]; exact sl1 t9 (shi t9 gt)))]; exact ho i q9)
            · skip
              have hP : decide (nH E x9 &&& nI nt = 0) = true := decide_eq_true c_249
              refine ww_aload C dJ22_resize_252 3 rfl (va_rf_isRef _) ?_
              rcases h_t9 : lo.getLast? with _ | t9
              · skip
                show WW X (RzP (xG X) z h mp n nt tb E B (fun tb2 => .inr (27, [.null, .null, .ref tb2, .null, .int (nI k), .int mc, .int (nI (2 * nt * 3 / 4)), .float lf]))) z h5 (1 - 1) (2 * nt - 2 * nt) 254 [(13, .ref (nA E x8)), (8, .ref (nA E x9)), (9, va_rf ((lo.head?).map (nA E))), (10, .null), (11, va_rf ((hi9.head?).map (nA E))), (12, va_rf ((hi9.getLast?).map (nA E))), (7, .int (nI j)), (6, .ref tb2), (4, .int (nI (2 * nt))), (2, .int (nI nt)), (1, .ref tb), (0, .ref mp)] [.null]
                have hemp : lo = [] := by cases h9 : lo with | nil => rfl | cons a8 b8 => (rw [h9] at h_t9; simp [List.getLast?_cons] at h_t9)
                refine ww_ifnonnull_f C dJ22_resize_254 ?_
                refine ww_aload C dJ22_resize_257 1 rfl rfl ?_
                refine ww_astore (lv' := [(9, .ref (nA E x9)), (13, .ref (nA E x8)), (8, .ref (nA E x9)), (10, .null), (11, va_rf ((hi9.head?).map (nA E))), (12, va_rf ((hi9.getLast?).map (nA E))), (7, .int (nI j)), (6, .ref tb2), (4, .int (nI (2 * nt))), (2, .int (nI nt)), (1, .ref tb), (0, .ref mp)]) C dJ22_resize_259 (by decide) rfl rfl ?_
                refine ww_goto (tgt := 271) C dJ22_resize_261 (by decide) ?_
                have hnm : NxO p5 (lo ++ [x9]) := by rw [hemp]; trivial
                have hot : NxO p5 hi9 := o2
                have hhd : (lo ++ [x9]).head? = some x9 := by rw [hemp]; rfl
                refine ww_aload C dJ22_resize_271 2 rfl rfl ?_
                refine ww_astore (lv' := [(10, .ref (nA E x9)), (9, .ref (nA E x9)), (13, .ref (nA E x8)), (8, .ref (nA E x9)), (11, va_rf ((hi9.head?).map (nA E))), (12, va_rf ((hi9.getLast?).map (nA E))), (7, .int (nI j)), (6, .ref tb2), (4, .int (nI (2 * nt))), (2, .int (nI nt)), (1, .ref tb), (0, .ref mp)]) C dJ22_resize_273 (by decide) rfl rfl ?_
                refine ww_goto (tgt := 301) C dJ22_resize_275 (by decide) ?_
                refine ww_aload C dJ22_resize_301 2 rfl rfl ?_
                refine ww_dup C dJ22_resize_303 rfl ?_
                refine ww_astore (lv' := [(8, .ref (nA E x8)), (10, .ref (nA E x9)), (9, .ref (nA E x9)), (13, .ref (nA E x8)), (11, va_rf ((hi9.head?).map (nA E))), (12, va_rf ((hi9.getLast?).map (nA E))), (7, .int (nI j)), (6, .ref tb2), (4, .int (nI (2 * nt))), (2, .int (nI nt)), (1, .ref tb), (0, .ref mp)]) C dJ22_resize_304 (by decide) rfl rfl ?_
                have hlo2 : lo ++ [x9] = (l1 ++ [x9]).filter (fun i => decide (nH E i &&& nI nt = 0)) := by rw [List.filter_append, ← hlo]; congr 1; simp only [List.filter]; rw [hP]; try rfl
                have hhi2 : hi9 = (l1 ++ [x9]).filter (fun i => !decide (nH E i &&& nI nt = 0)) := by rw [List.filter_append, ← hhi]; simp only [List.filter]; rw [hP]; simp
                refine ww_ifnonnull_t (tgt := 235) C dJ22_resize_306 (by decide) ?_
                refine ww_sub [0, 2, 1, 4, 5, 6, 7, 8, 9, 10, 11] rfl ?_
                refine ww_lv (lv' := [(8, .ref (nA E x8)), (9, va_rf (((lo ++ [x9]).head?).map (nA E))), (10, va_rf (((lo ++ [x9]).getLast?).map (nA E))), (11, va_rf ((hi9.head?).map (nA E))), (12, va_rf ((hi9.getLast?).map (nA E))), (7, .int (nI j)), (6, .ref tb2), (4, .int (nI (2 * nt))), (2, .int (nI nt)), (1, .ref tb), (0, .ref mp)]) (by rw [hhd, List.getLast?_concat]; first | rfl | (rw [h_t9]; rfl) | (rw [h_t9])) ?_
                exact ih9 x8 (l1 ++ [x9]) (lo ++ [x9]) hi9 h5 p5 (by rw [hl]; simp) hlo2 hhi2 hN5 hF5 m5 t5 u5 hnm hot (hx5.2) (ho)
              · skip
                show WW X (RzP (xG X) z h mp n nt tb E B (fun tb2 => .inr (27, [.null, .null, .ref tb2, .null, .int (nI k), .int mc, .int (nI (2 * nt * 3 / 4)), .float lf]))) z h5 (1 - 1) (2 * nt - 2 * nt) 254 [(13, .ref (nA E x8)), (8, .ref (nA E x9)), (9, va_rf ((lo.head?).map (nA E))), (10, .ref (nA E t9)), (11, va_rf ((hi9.head?).map (nA E))), (12, va_rf ((hi9.getLast?).map (nA E))), (7, .int (nI j)), (6, .ref tb2), (4, .int (nI (2 * nt))), (2, .int (nI nt)), (1, .ref tb), (0, .ref mp)] [.ref (nA E t9)]
                have gt : t9 ∈ lo := List.mem_of_getLast? h_t9
                have lt9 := hlt t9 (sl1 t9 (slo t9 gt))
                have nt9 : t9 ≠ x9 := fun e9 => nx1 (by rw [← e9]; exact slo t9 gt)
                refine ww_ifnonnull_t (tgt := 264) C dJ22_resize_254 (by decide) ?_
                refine ww_aload C dJ22_resize_264 3 rfl rfl ?_
                refine ww_aload C dJ22_resize_266 1 rfl rfl ?_
                refine pf_J22_177_J26 (fs' := [.int (nH E t9), .ref (nK E t9), .ref (nV E t9), .ref (nA E x9)]) C dJ22_resize_268 (hN5.1 t9 lt9) rfl rfl (Nat.le_of_ble_eq_true rfl) rfl ?_
                refine ww_gen (fun h70 hE70 => ?_)
                obtain ⟨p70, ep70⟩ : ∃ Q9, Q9 = pst p5 0 t9 (some x9) := ⟨_, rfl⟩
                have hNd70 : NdA h70 n E p70 := by rw [ep70, hE70]; exact hN5.put (o := (some x9)) lt9
                have hFq70 : FrM h h70 mp tb n E := by rw [hE70]; exact hF5.w (Or.inr (Or.inr (Or.inl ⟨t9, lt9, rfl⟩)))
                have m5_h70 : h70 mp = some (.inr (27, [.null, .null, .ref tb2, .null, .int (nI k), .int mc, .int (nI (2 * nt * 3 / 4)), .float lf])) := by rw [hE70, up_n (nmp t9 lt9)]; exact m5
                have t5_h70 : h70 tb = some (.inl (gA (xG X) 5, (nt, refs (va_up T1 j none)))) := by rw [hE70, up_n (ntb t9 lt9)]; exact t5
                have u5_h70 : h70 tb2 = some (.inl (gA (xG X) 5, (2 * nt, refs T2))) := by rw [hE70, up_n (nt2 t9 lt9)]; exact u5
                have hnm : NxO p70 (lo ++ [x9]) := by rw [ep70]; exact o1.sn h_t9 ndlo
                have hot : NxO p70 hi9 := by rw [ep70]; exact o2.cg (fun i q9 => pst_i (fun e9 => dlh t9 gt (by rw [← e9]; exact List.dropLast_subset _ q9)))
                have hhd : (lo ++ [x9]).head? = lo.head? := by cases lo with | nil => cases h_t9 | cons a8 b8 => rfl
                refine ww_aload C dJ22_resize_271 1 rfl rfl ?_
                refine ww_astore (lv' := [(10, .ref (nA E x9)), (13, .ref (nA E x8)), (8, .ref (nA E x9)), (9, va_rf ((lo.head?).map (nA E))), (11, va_rf ((hi9.head?).map (nA E))), (12, va_rf ((hi9.getLast?).map (nA E))), (7, .int (nI j)), (6, .ref tb2), (4, .int (nI (2 * nt))), (2, .int (nI nt)), (1, .ref tb), (0, .ref mp)]) C dJ22_resize_273 (by decide) rfl (by first | (simp [va_rf_cat]; done) | (simp [va_rf_cat]; simp only [Value.category]; decide)) ?_
                refine ww_goto (tgt := 301) C dJ22_resize_275 (by decide) ?_
                refine ww_aload C dJ22_resize_301 1 rfl rfl ?_
                refine ww_dup C dJ22_resize_303 rfl ?_
                refine ww_astore (lv' := [(8, .ref (nA E x8)), (10, .ref (nA E x9)), (13, .ref (nA E x8)), (9, va_rf ((lo.head?).map (nA E))), (11, va_rf ((hi9.head?).map (nA E))), (12, va_rf ((hi9.getLast?).map (nA E))), (7, .int (nI j)), (6, .ref tb2), (4, .int (nI (2 * nt))), (2, .int (nI nt)), (1, .ref tb), (0, .ref mp)]) C dJ22_resize_304 (by decide) rfl rfl ?_
                have hlo2 : lo ++ [x9] = (l1 ++ [x9]).filter (fun i => decide (nH E i &&& nI nt = 0)) := by rw [List.filter_append, ← hlo]; congr 1; simp only [List.filter]; rw [hP]; try rfl
                have hhi2 : hi9 = (l1 ++ [x9]).filter (fun i => !decide (nH E i &&& nI nt = 0)) := by rw [List.filter_append, ← hhi]; simp only [List.filter]; rw [hP]; simp
                refine ww_ifnonnull_t (tgt := 235) C dJ22_resize_306 (by decide) ?_
                refine ww_sub [0, 3, 1, 4, 5, 6, 7, 8, 9, 10, 11] rfl ?_
                refine ww_lv (lv' := [(8, .ref (nA E x8)), (9, va_rf (((lo ++ [x9]).head?).map (nA E))), (10, va_rf (((lo ++ [x9]).getLast?).map (nA E))), (11, va_rf ((hi9.head?).map (nA E))), (12, va_rf ((hi9.getLast?).map (nA E))), (7, .int (nI j)), (6, .ref tb2), (4, .int (nI (2 * nt))), (2, .int (nI nt)), (1, .ref tb), (0, .ref mp)]) (by rw [hhd, List.getLast?_concat]; first | rfl | (rw [h_t9]; rfl) | (rw [h_t9])) ?_
                exact ih9 x8 (l1 ++ [x9]) (lo ++ [x9]) hi9 h70 p70 (by rw [hl]; simp) hlo2 hhi2 hNd70 hFq70 m5_h70 t5_h70 u5_h70 hnm hot (by rw [ep70]; exact hx5.2.cg (fun i q9 => pst_i (fun e9 => (nr7 i q9).1 (by rw [e9]; exact slo t9 gt)))) (fun i q9 => by rw [ep70, pst_i (fun e9 => q9 (by rw [e9]; exact sl1 t9 (slo t9 gt)))]; exact ho i q9)
        refine ww_sub [4, 3, 2, 1, 0, 5, 6, 7, 8, 9, 10] rfl ?_
        refine ww_lv (lv' := [(8, .ref (nA E f)), (9, va_rf ((([] : List Nat).head?).map (nA E))), (10, va_rf ((([] : List Nat).getLast?).map (nA E))), (11, va_rf ((([] : List Nat).head?).map (nA E))), (12, va_rf ((([] : List Nat).getLast?).map (nA E))), (7, .int (nI j)), (6, .ref tb2), (4, .int (nI (2 * nt))), (2, .int (nI nt)), (1, .ref tb), (0, .ref mp)]) (by rfl) ?_
        exact key r9 f [] [] [] h41 p1 hBj rfl rfl hNd41 hFq41 i1_h41 i2_h41 i3_h41 trivial trivial k2 (fun _ _ => rfl)
end HM3
