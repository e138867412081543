section MO11
set_option maxRecDepth 100000
/-- what a node gives -/
def rkI (B : GB) (rn : Int32) (vl : Nat → Int32) (k l r : Nat) : Int32 := match k with
  | 31 => nI l
  | 9 => rn
  | 10 => nI (plN B)
  | 11 => nI (maN B)
  | 12 => nI (poN B)
  | 13 => nI (rgN B)
  | 14 => nI (Bz B - plN B)
  | 15 => nI (wyN B l)
  | 17 => bI (Bp B l).isSome
  | 18 => bI (fwN B l).isSome
  | 60 => -(vl l)
  | 19 => nI 1 - vl l
  | k => jnI k (vl l) (vl r)
def rkP (B : GB) (k l r : Nat) : Prop := (k = 9 ∨ k = 10 ∨ k = 11 ∨ k = 12 ∨ k = 13 ∨ k = 14 ∨ k = 15 ∨ k = 17 ∨ k = 18 ∨ k = 19 ∨ k = 31 ∨ k = 60 ∨ k = 20 ∨ k = 21 ∨ k = 22 ∨ k = 23 ∨ k = 40 ∨ k = 41 ∨ k = 42 ∨ k = 43 ∨ k = 44 ∨ k = 45 ∨ k = 46 ∨ k = 47 ∨ k = 48) ∧ ((k = 15 ∨ k = 17 ∨ k = 18) → l < Bt B) ∧ ((k = 19 ∨ k = 60 ∨ k = 20 ∨ k = 21 ∨ k = 22 ∨ k = 23 ∨ k = 40 ∨ k = 41 ∨ k = 42 ∨ k = 43 ∨ k = 44 ∨ k = 45 ∨ k = 46 ∨ k = 47 ∨ k = 48) → l < 800) ∧ ((k = 20 ∨ k = 21 ∨ k = 22 ∨ k = 23 ∨ k = 40 ∨ k = 41 ∨ k = 42 ∨ k = 43 ∨ k = 44 ∨ k = 45 ∨ k = 46 ∨ k = 47 ∨ k = 48) → r < 800)
set_option maxHeartbeats 2000000 in
theorem ct_X4_reckon {l : Launch} {Γ : Gm} (hl : l.flags = flags0) (hΓ : GOK Γ) {z : ZR} {h : AH} {B : GB} {M : MS} {D : Nat → Nat} {k u v : Nat} (hz : zle (cst Γ) z) (hX : Mx Γ h D M) (hb : MBd M 30 40 B) (hC : BC B) (hk : rkP B k u v) : Ct l Γ yX4_reckon cX4_reckon 5 (some .int) 8 0 0 [.ref (D 0), .ref (D 10), .int (nI k), .int (nI u), .int (nI v)] z h (RdP z h (some (.int (rkI B (M.1 31) (M.2.1 9) k u v)))) := by
  refine Ct.of hl hΓ (by decide +kernel) (Nat.le_of_ble_eq_true rfl) (fun X e1 e2 C => ?_)
  subst e1; subst e2
  have C : Cx X cX4_reckon 5 "RingDominoModel" "reckon" (some .int) [] 8 := C
  have hB := hC.1
  obtain ⟨⟨⟨c1, c2⟩, ⟨r1, r2⟩⟩, t1, bl1, bu1, bp1, bn1⟩ := id hB
  have hzz := BO.z hB
  have X0 := hX.m
  have hP : MrP (xG X) z h (D 0) (D 10) B := ⟨_, D, Or.inl X0, Mx.n hX hb⟩
  have Xs : h (D 10) = some (cSt (fun i => D (40 + i)) (M.1 30) (M.1 31)) := hX.1 10 (by decide)
  have Xv : h (D 9) = some (cI (xG X) 800 (M.2.1 9)) := hX.1 9 (by decide)
  have Xc : h (D 41) = some (cI (xG X) 16 (fun k => oI (Bp B k))) := by rw [← hb.2.2.2.2.2.2.1]; exact hX.1 41 (by decide)
  have hpl := plN_le B
  show WW X (RdP z h (some (.int (rkI B (M.1 31) (M.2.1 9) k u v)))) z h 0 0 0 [(0, .ref (D 0)), (1, .ref (D 10)), (2, .int (nI k)), (3, .int (nI u)), (4, .int (nI v))] []
  rw [hb.2.2.2.2.1] at Xs
  refine ww_iload_n C dX4_reckon_0 rfl 2 rfl ?_
  obtain ⟨hk, hk1, hk2, hk3⟩ := hk
  rcases hk with rfl | rfl | rfl | rfl | rfl | rfl | rfl | rfl | rfl | rfl | rfl | rfl | rfl | rfl | rfl | rfl | rfl | rfl | rfl | rfl | rfl | rfl | rfl | rfl | rfl
  · skip
    refine ww_look (off := 109) (tgt := 110) C dX4_reckon_1 (by decide) (by decide) (by decide) ?_
    refine ww_aload_n C dX4_reckon_110 rfl 1 rfl rfl ?_
    refine gf_X4_343_X6 C dX4_reckon_111 (Or.inl Xs) rfl ?_
    exact ww_iret C dX4_reckon_114 (RdP.i (by rfl))
  · skip
    refine ww_look (off := 114) (tgt := 115) C dX4_reckon_1 (by decide) (by decide) (by decide) ?_
    refine ww_aload_n C dX4_reckon_115 rfl 1 rfl rfl ?_
    refine gf_X4_296_X6 C dX4_reckon_116 (Or.inl Xs) rfl ?_
    exact ww_iret C dX4_reckon_119 (RdP.i (by rfl))
  · skip
    refine ww_look (off := 119) (tgt := 120) C dX4_reckon_1 (by decide) (by decide) (by decide) ?_
    refine ww_aload_n C dX4_reckon_120 rfl 0 rfl rfl ?_
    refine ww_aload_n C dX4_reckon_121 rfl 1 rfl rfl ?_
    refine cv_X4_346_r (As := [.ref (D 10)]) (rest := []) C dX4_reckon_122 (ct_X4_matches_2 (Cx.fl C) (Cx.ok C) hz hP hC) (rc_X4 (Cx.ok C) (Or.inl X0)) rfl rfl (Nat.le_of_ble_eq_true rfl) (by decide) (Nat.zero_le _) (Nat.zero_le _) ?_
    exact ww_iret C dX4_reckon_125 (RdP.i (by rfl))
  · skip
    refine ww_look (off := 125) (tgt := 126) C dX4_reckon_1 (by decide) (by decide) (by decide) ?_
    refine ww_aload_n C dX4_reckon_126 rfl 0 rfl rfl ?_
    refine ww_aload_n C dX4_reckon_127 rfl 1 rfl rfl ?_
    refine cv_X4_349_r (As := [.ref (D 10)]) (rest := []) C dX4_reckon_128 (ct_X4_points_2 (Cx.fl C) (Cx.ok C) hz hP hC) (rc_X4 (Cx.ok C) (Or.inl X0)) rfl rfl (Nat.le_of_ble_eq_true rfl) (by decide) (Nat.zero_le _) (Nat.zero_le _) ?_
    exact ww_iret C dX4_reckon_131 (RdP.i (by rfl))
  · skip
    refine ww_look (off := 131) (tgt := 132) C dX4_reckon_1 (by decide) (by decide) (by decide) ?_
    refine ww_aload_n C dX4_reckon_132 rfl 0 rfl rfl ?_
    refine ww_aload_n C dX4_reckon_133 rfl 1 rfl rfl ?_
    refine cv_X4_325_r (As := [.ref (D 10)]) (rest := []) C dX4_reckon_134 (ct_X4_rings (Cx.fl C) (Cx.ok C) hz hP hC) (rc_X4 (Cx.ok C) (Or.inl X0)) rfl rfl (Nat.le_of_ble_eq_true rfl) (by decide) (Nat.zero_le _) (Nat.zero_le _) ?_
    exact ww_iret C dX4_reckon_137 (RdP.i (by rfl))
  · skip
    refine ww_look (off := 137) (tgt := 138) C dX4_reckon_1 (by decide) (by decide) (by decide) ?_
    refine ww_aload_n C dX4_reckon_138 rfl 0 rfl rfl ?_
    refine cv_X4_307_r (As := []) (rest := []) C dX4_reckon_139 (ct_X4_cells (Cx.fl C) (Cx.ok C) hz hP hC) (rc_X4 (Cx.ok C) (Or.inl X0)) rfl rfl (Nat.le_of_ble_eq_true rfl) (by decide) (Nat.zero_le _) (Nat.zero_le _) ?_
    refine ww_aload_n C dX4_reckon_142 rfl 1 rfl rfl ?_
    refine gf_X4_296_X6 C dX4_reckon_143 (Or.inl Xs) rfl ?_
    refine ww_isubn C dX4_reckon_146 (by omega) ?_
    exact ww_iret C dX4_reckon_147 (RdP.i (by rfl))
  · skip
    refine ww_look (off := 147) (tgt := 148) C dX4_reckon_1 (by decide) (by decide) (by decide) ?_
    have hl := hk1 (by decide)
    refine ww_aload_n C dX4_reckon_148 rfl 0 rfl rfl ?_
    refine ww_aload_n C dX4_reckon_149 rfl 1 rfl rfl ?_
    refine ww_iload_n C dX4_reckon_150 rfl 3 rfl ?_
    refine cv_X4_352_r (As := [.ref (D 10), .int (nI u)]) (rest := []) C dX4_reckon_151 (ct_X4_ways (Cx.fl C) (Cx.ok C) hz hP hC hl) (rc_X4 (Cx.ok C) (Or.inl X0)) rfl rfl (Nat.le_of_ble_eq_true rfl) (by decide) (Nat.zero_le _) (Nat.zero_le _) ?_
    exact ww_iret C dX4_reckon_154 (RdP.i (by rfl))
  · skip
    refine ww_look (off := 154) (tgt := 155) C dX4_reckon_1 (by decide) (by decide) (by decide) ?_
    have hl := hk1 (by decide)
    refine ww_aload_n C dX4_reckon_155 rfl 1 rfl rfl ?_
    refine gf_X4_293_X6 C dX4_reckon_156 (Or.inl Xs) rfl ?_
    refine ww_iload_n C dX4_reckon_159 rfl 3 rfl ?_
    refine ww_iald C dX4_reckon_160 (Or.inl Xc) (by omega) (by decide) ?_
    refine ww_iconst C dX4_reckon_161 cI_m1 ?_
    refine ww_tern_icmp_eq_o C dX4_reckon_162 dX4_reckon_165 dX4_reckon_166 dX4_reckon_169 (fun y q => Nat.lt_trans (bp1 u y q) (by decide)) ?_
    exact ww_iret C dX4_reckon_170 (RdP.i (by rfl))
  · skip
    refine ww_look (off := 170) (tgt := 171) C dX4_reckon_1 (by decide) (by decide) (by decide) ?_
    have hl := hk1 (by decide)
    refine ww_aload_n C dX4_reckon_171 rfl 0 rfl rfl ?_
    refine ww_aload_n C dX4_reckon_172 rfl 1 rfl rfl ?_
    refine ww_iload_n C dX4_reckon_173 rfl 3 rfl ?_
    refine cv_X4_355_r (As := [.ref (D 10), .int (nI u)]) (rest := []) C dX4_reckon_174 (ct_X4_firstWay (Cx.fl C) (Cx.ok C) hz hP hC hl) (rc_X4 (Cx.ok C) (Or.inl X0)) rfl rfl (Nat.le_of_ble_eq_true rfl) (by decide) (Nat.zero_le _) (Nat.zero_le _) ?_
    refine ww_iconst C dX4_reckon_177 cI_m1 ?_
    refine ww_tern_icmp_eq_o C dX4_reckon_178 dX4_reckon_181 dX4_reckon_182 dX4_reckon_185 (fw_lt hB) ?_
    exact ww_iret C dX4_reckon_186 (RdP.i (by rfl))
  · skip
    refine ww_look (off := 194) (tgt := 195) C dX4_reckon_1 (by decide) (by decide) (by decide) ?_
    have hl := hk2 (by decide)
    refine ww_iconst C dX4_reckon_195 cI_1 ?_
    refine ww_aload_n C dX4_reckon_196 rfl 0 rfl rfl ?_
    refine gf_X4_42_X4 C dX4_reckon_197 (Or.inl X0) rfl ?_
    refine ww_iload_n C dX4_reckon_200 rfl 3 rfl ?_
    refine ww_iald C dX4_reckon_201 (Or.inl Xv) (by omega) (by decide) ?_
    refine ww_isub C dX4_reckon_202 ?_
    exact ww_iret C dX4_reckon_203 (RdP.i (by rfl))
  · skip
    refine ww_look (off := 107) (tgt := 108) C dX4_reckon_1 (by decide) (by decide) (by decide) ?_
    refine ww_iload_n C dX4_reckon_108 rfl 3 rfl ?_
    exact ww_iret C dX4_reckon_109 (RdP.i (by rfl))
  · skip
    refine ww_look (off := 186) (tgt := 187) C dX4_reckon_1 (by decide) (by decide) (by decide) ?_
    have hl := hk2 (by decide)
    refine ww_aload_n C dX4_reckon_187 rfl 0 rfl rfl ?_
    refine gf_X4_42_X4 C dX4_reckon_188 (Or.inl X0) rfl ?_
    refine ww_iload_n C dX4_reckon_191 rfl 3 rfl ?_
    refine ww_iald C dX4_reckon_192 (Or.inl Xv) (by omega) (by decide) ?_
    refine ww_ineg C dX4_reckon_193 ?_
    exact ww_iret C dX4_reckon_194 (RdP.i (by rfl))
  · skip
    refine ww_look (off := 203) (tgt := 204) C dX4_reckon_1 (by decide) (by decide) (by decide) ?_
    have hl := hk2 (by decide)
    have hr := hk3 (by decide)
    refine ww_iload_n C dX4_reckon_204 rfl 2 rfl ?_
    refine ww_aload_n C dX4_reckon_205 rfl 0 rfl rfl ?_
    refine gf_X4_42_X4 C dX4_reckon_206 (Or.inl X0) rfl ?_
    refine ww_iload_n C dX4_reckon_209 rfl 3 rfl ?_
    refine ww_iald C dX4_reckon_210 (Or.inl Xv) (by omega) (by decide) ?_
    refine ww_aload_n C dX4_reckon_211 rfl 0 rfl rfl ?_
    refine gf_X4_42_X4 C dX4_reckon_212 (Or.inl X0) rfl ?_
    refine ww_iload C dX4_reckon_215 4 rfl ?_
    refine ww_iald C dX4_reckon_217 (Or.inl Xv) (by omega) (by decide) ?_
    refine cs_X4_358_r (As := [.int (nI 20), .int ((M.2.1 9) u), .int ((M.2.1 9) v)]) (rest := []) C dX4_reckon_218 (ct_X4_joined (Cx.fl C) (Cx.ok C) (by decide)) rfl rfl (Nat.le_of_ble_eq_true rfl) (by decide) (Nat.zero_le _) (Nat.zero_le _) ?_
    exact ww_iret C dX4_reckon_221 (RdP.i (by rfl))
  · skip
    refine ww_look (off := 203) (tgt := 204) C dX4_reckon_1 (by decide) (by decide) (by decide) ?_
    have hl := hk2 (by decide)
    have hr := hk3 (by decide)
    refine ww_iload_n C dX4_reckon_204 rfl 2 rfl ?_
    refine ww_aload_n C dX4_reckon_205 rfl 0 rfl rfl ?_
    refine gf_X4_42_X4 C dX4_reckon_206 (Or.inl X0) rfl ?_
    refine ww_iload_n C dX4_reckon_209 rfl 3 rfl ?_
    refine ww_iald C dX4_reckon_210 (Or.inl Xv) (by omega) (by decide) ?_
    refine ww_aload_n C dX4_reckon_211 rfl 0 rfl rfl ?_
    refine gf_X4_42_X4 C dX4_reckon_212 (Or.inl X0) rfl ?_
    refine ww_iload C dX4_reckon_215 4 rfl ?_
    refine ww_iald C dX4_reckon_217 (Or.inl Xv) (by omega) (by decide) ?_
    refine cs_X4_358_r (As := [.int (nI 21), .int ((M.2.1 9) u), .int ((M.2.1 9) v)]) (rest := []) C dX4_reckon_218 (ct_X4_joined (Cx.fl C) (Cx.ok C) (by decide)) rfl rfl (Nat.le_of_ble_eq_true rfl) (by decide) (Nat.zero_le _) (Nat.zero_le _) ?_
    exact ww_iret C dX4_reckon_221 (RdP.i (by rfl))
  · skip
    refine ww_look (off := 203) (tgt := 204) C dX4_reckon_1 (by decide) (by decide) (by decide) ?_
    have hl := hk2 (by decide)
    have hr := hk3 (by decide)
    refine ww_iload_n C dX4_reckon_204 rfl 2 rfl ?_
    refine ww_aload_n C dX4_reckon_205 rfl 0 rfl rfl ?_
    refine gf_X4_42_X4 C dX4_reckon_206 (Or.inl X0) rfl ?_
    refine ww_iload_n C dX4_reckon_209 rfl 3 rfl ?_
    refine ww_iald C dX4_reckon_210 (Or.inl Xv) (by omega) (by decide) ?_
    refine ww_aload_n C dX4_reckon_211 rfl 0 rfl rfl ?_
    refine gf_X4_42_X4 C dX4_reckon_212 (Or.inl X0) rfl ?_
    refine ww_iload C dX4_reckon_215 4 rfl ?_
    refine ww_iald C dX4_reckon_217 (Or.inl Xv) (by omega) (by decide) ?_
    refine cs_X4_358_r (As := [.int (nI 22), .int ((M.2.1 9) u), .int ((M.2.1 9) v)]) (rest := []) C dX4_reckon_218 (ct_X4_joined (Cx.fl C) (Cx.ok C) (by decide)) rfl rfl (Nat.le_of_ble_eq_true rfl) (by decide) (Nat.zero_le _) (Nat.zero_le _) ?_
    exact ww_iret C dX4_reckon_221 (RdP.i (by rfl))
  · skip
    refine ww_look (off := 203) (tgt := 204) C dX4_reckon_1 (by decide) (by decide) (by decide) ?_
    have hl := hk2 (by decide)
    have hr := hk3 (by decide)
    refine ww_iload_n C dX4_reckon_204 rfl 2 rfl ?_
    refine ww_aload_n C dX4_reckon_205 rfl 0 rfl rfl ?_
    refine gf_X4_42_X4 C dX4_reckon_206 (Or.inl X0) rfl ?_
    refine ww_iload_n C dX4_reckon_209 rfl 3 rfl ?_
    refine ww_iald C dX4_reckon_210 (Or.inl Xv) (by omega) (by decide) ?_
    refine ww_aload_n C dX4_reckon_211 rfl 0 rfl rfl ?_
    refine gf_X4_42_X4 C dX4_reckon_212 (Or.inl X0) rfl ?_
    refine ww_iload C dX4_reckon_215 4 rfl ?_
    refine ww_iald C dX4_reckon_217 (Or.inl Xv) (by omega) (by decide) ?_
    refine cs_X4_358_r (As := [.int (nI 23), .int ((M.2.1 9) u), .int ((M.2.1 9) v)]) (rest := []) C dX4_reckon_218 (ct_X4_joined (Cx.fl C) (Cx.ok C) (by decide)) rfl rfl (Nat.le_of_ble_eq_true rfl) (by decide) (Nat.zero_le _) (Nat.zero_le _) ?_
    exact ww_iret C dX4_reckon_221 (RdP.i (by rfl))
  · skip
    refine ww_look (off := 203) (tgt := 204) C dX4_reckon_1 (by decide) (by decide) (by decide) ?_
    have hl := hk2 (by decide)
    have hr := hk3 (by decide)
    refine ww_iload_n C dX4_reckon_204 rfl 2 rfl ?_
    refine ww_aload_n C dX4_reckon_205 rfl 0 rfl rfl ?_
    refine gf_X4_42_X4 C dX4_reckon_206 (Or.inl X0) rfl ?_
    refine ww_iload_n C dX4_reckon_209 rfl 3 rfl ?_
    refine ww_iald C dX4_reckon_210 (Or.inl Xv) (by omega) (by decide) ?_
    refine ww_aload_n C dX4_reckon_211 rfl 0 rfl rfl ?_
    refine gf_X4_42_X4 C dX4_reckon_212 (Or.inl X0) rfl ?_
    refine ww_iload C dX4_reckon_215 4 rfl ?_
    refine ww_iald C dX4_reckon_217 (Or.inl Xv) (by omega) (by decide) ?_
    refine cs_X4_358_r (As := [.int (nI 40), .int ((M.2.1 9) u), .int ((M.2.1 9) v)]) (rest := []) C dX4_reckon_218 (ct_X4_joined (Cx.fl C) (Cx.ok C) (by decide)) rfl rfl (Nat.le_of_ble_eq_true rfl) (by decide) (Nat.zero_le _) (Nat.zero_le _) ?_
    exact ww_iret C dX4_reckon_221 (RdP.i (by rfl))
  · skip
    refine ww_look (off := 203) (tgt := 204) C dX4_reckon_1 (by decide) (by decide) (by decide) ?_
    have hl := hk2 (by decide)
    have hr := hk3 (by decide)
    refine ww_iload_n C dX4_reckon_204 rfl 2 rfl ?_
    refine ww_aload_n C dX4_reckon_205 rfl 0 rfl rfl ?_
    refine gf_X4_42_X4 C dX4_reckon_206 (Or.inl X0) rfl ?_
    refine ww_iload_n C dX4_reckon_209 rfl 3 rfl ?_
    refine ww_iald C dX4_reckon_210 (Or.inl Xv) (by omega) (by decide) ?_
    refine ww_aload_n C dX4_reckon_211 rfl 0 rfl rfl ?_
    refine gf_X4_42_X4 C dX4_reckon_212 (Or.inl X0) rfl ?_
    refine ww_iload C dX4_reckon_215 4 rfl ?_
    refine ww_iald C dX4_reckon_217 (Or.inl Xv) (by omega) (by decide) ?_
    refine cs_X4_358_r (As := [.int (nI 41), .int ((M.2.1 9) u), .int ((M.2.1 9) v)]) (rest := []) C dX4_reckon_218 (ct_X4_joined (Cx.fl C) (Cx.ok C) (by decide)) rfl rfl (Nat.le_of_ble_eq_true rfl) (by decide) (Nat.zero_le _) (Nat.zero_le _) ?_
    exact ww_iret C dX4_reckon_221 (RdP.i (by rfl))
  · skip
    refine ww_look (off := 203) (tgt := 204) C dX4_reckon_1 (by decide) (by decide) (by decide) ?_
    have hl := hk2 (by decide)
    have hr := hk3 (by decide)
    refine ww_iload_n C dX4_reckon_204 rfl 2 rfl ?_
    refine ww_aload_n C dX4_reckon_205 rfl 0 rfl rfl ?_
    refine gf_X4_42_X4 C dX4_reckon_206 (Or.inl X0) rfl ?_
    refine ww_iload_n C dX4_reckon_209 rfl 3 rfl ?_
    refine ww_iald C dX4_reckon_210 (Or.inl Xv) (by omega) (by decide) ?_
    refine ww_aload_n C dX4_reckon_211 rfl 0 rfl rfl ?_
    refine gf_X4_42_X4 C dX4_reckon_212 (Or.inl X0) rfl ?_
    refine ww_iload C dX4_reckon_215 4 rfl ?_
    refine ww_iald C dX4_reckon_217 (Or.inl Xv) (by omega) (by decide) ?_
    refine cs_X4_358_r (As := [.int (nI 42), .int ((M.2.1 9) u), .int ((M.2.1 9) v)]) (rest := []) C dX4_reckon_218 (ct_X4_joined (Cx.fl C) (Cx.ok C) (by decide)) rfl rfl (Nat.le_of_ble_eq_true rfl) (by decide) (Nat.zero_le _) (Nat.zero_le _) ?_
    exact ww_iret C dX4_reckon_221 (RdP.i (by rfl))
  · skip
    refine ww_look (off := 203) (tgt := 204) C dX4_reckon_1 (by decide) (by decide) (by decide) ?_
    have hl := hk2 (by decide)
    have hr := hk3 (by decide)
    refine ww_iload_n C dX4_reckon_204 rfl 2 rfl ?_
    refine ww_aload_n C dX4_reckon_205 rfl 0 rfl rfl ?_
    refine gf_X4_42_X4 C dX4_reckon_206 (Or.inl X0) rfl ?_
    refine ww_iload_n C dX4_reckon_209 rfl 3 rfl ?_
    refine ww_iald C dX4_reckon_210 (Or.inl Xv) (by omega) (by decide) ?_
    refine ww_aload_n C dX4_reckon_211 rfl 0 rfl rfl ?_
    refine gf_X4_42_X4 C dX4_reckon_212 (Or.inl X0) rfl ?_
    refine ww_iload C dX4_reckon_215 4 rfl ?_
    refine ww_iald C dX4_reckon_217 (Or.inl Xv) (by omega) (by decide) ?_
    refine cs_X4_358_r (As := [.int (nI 43), .int ((M.2.1 9) u), .int ((M.2.1 9) v)]) (rest := []) C dX4_reckon_218 (ct_X4_joined (Cx.fl C) (Cx.ok C) (by decide)) rfl rfl (Nat.le_of_ble_eq_true rfl) (by decide) (Nat.zero_le _) (Nat.zero_le _) ?_
    exact ww_iret C dX4_reckon_221 (RdP.i (by rfl))
  · skip
    refine ww_look (off := 203) (tgt := 204) C dX4_reckon_1 (by decide) (by decide) (by decide) ?_
    have hl := hk2 (by decide)
    have hr := hk3 (by decide)
    refine ww_iload_n C dX4_reckon_204 rfl 2 rfl ?_
    refine ww_aload_n C dX4_reckon_205 rfl 0 rfl rfl ?_
    refine gf_X4_42_X4 C dX4_reckon_206 (Or.inl X0) rfl ?_
    refine ww_iload_n C dX4_reckon_209 rfl 3 rfl ?_
    refine ww_iald C dX4_reckon_210 (Or.inl Xv) (by omega) (by decide) ?_
    refine ww_aload_n C dX4_reckon_211 rfl 0 rfl rfl ?_
    refine gf_X4_42_X4 C dX4_reckon_212 (Or.inl X0) rfl ?_
    refine ww_iload C dX4_reckon_215 4 rfl ?_
    refine ww_iald C dX4_reckon_217 (Or.inl Xv) (by omega) (by decide) ?_
    refine cs_X4_358_r (As := [.int (nI 44), .int ((M.2.1 9) u), .int ((M.2.1 9) v)]) (rest := []) C dX4_reckon_218 (ct_X4_joined (Cx.fl C) (Cx.ok C) (by decide)) rfl rfl (Nat.le_of_ble_eq_true rfl) (by decide) (Nat.zero_le _) (Nat.zero_le _) ?_
    exact ww_iret C dX4_reckon_221 (RdP.i (by rfl))
  · skip
    refine ww_look (off := 203) (tgt := 204) C dX4_reckon_1 (by decide) (by decide) (by decide) ?_
    have hl := hk2 (by decide)
    have hr := hk3 (by decide)
    refine ww_iload_n C dX4_reckon_204 rfl 2 rfl ?_
    refine ww_aload_n C dX4_reckon_205 rfl 0 rfl rfl ?_
    refine gf_X4_42_X4 C dX4_reckon_206 (Or.inl X0) rfl ?_
    refine ww_iload_n C dX4_reckon_209 rfl 3 rfl ?_
    refine ww_iald C dX4_reckon_210 (Or.inl Xv) (by omega) (by decide) ?_
    refine ww_aload_n C dX4_reckon_211 rfl 0 rfl rfl ?_
    refine gf_X4_42_X4 C dX4_reckon_212 (Or.inl X0) rfl ?_
    refine ww_iload C dX4_reckon_215 4 rfl ?_
    refine ww_iald C dX4_reckon_217 (Or.inl Xv) (by omega) (by decide) ?_
    refine cs_X4_358_r (As := [.int (nI 45), .int ((M.2.1 9) u), .int ((M.2.1 9) v)]) (rest := []) C dX4_reckon_218 (ct_X4_joined (Cx.fl C) (Cx.ok C) (by decide)) rfl rfl (Nat.le_of_ble_eq_true rfl) (by decide) (Nat.zero_le _) (Nat.zero_le _) ?_
    exact ww_iret C dX4_reckon_221 (RdP.i (by rfl))
  · skip
    refine ww_look (off := 203) (tgt := 204) C dX4_reckon_1 (by decide) (by decide) (by decide) ?_
    have hl := hk2 (by decide)
    have hr := hk3 (by decide)
    refine ww_iload_n C dX4_reckon_204 rfl 2 rfl ?_
    refine ww_aload_n C dX4_reckon_205 rfl 0 rfl rfl ?_
    refine gf_X4_42_X4 C dX4_reckon_206 (Or.inl X0) rfl ?_
    refine ww_iload_n C dX4_reckon_209 rfl 3 rfl ?_
    refine ww_iald C dX4_reckon_210 (Or.inl Xv) (by omega) (by decide) ?_
    refine ww_aload_n C dX4_reckon_211 rfl 0 rfl rfl ?_
    refine gf_X4_42_X4 C dX4_reckon_212 (Or.inl X0) rfl ?_
    refine ww_iload C dX4_reckon_215 4 rfl ?_
    refine ww_iald C dX4_reckon_217 (Or.inl Xv) (by omega) (by decide) ?_
    refine cs_X4_358_r (As := [.int (nI 46), .int ((M.2.1 9) u), .int ((M.2.1 9) v)]) (rest := []) C dX4_reckon_218 (ct_X4_joined (Cx.fl C) (Cx.ok C) (by decide)) rfl rfl (Nat.le_of_ble_eq_true rfl) (by decide) (Nat.zero_le _) (Nat.zero_le _) ?_
    exact ww_iret C dX4_reckon_221 (RdP.i (by rfl))
  · skip
    refine ww_look (off := 203) (tgt := 204) C dX4_reckon_1 (by decide) (by decide) (by decide) ?_
    have hl := hk2 (by decide)
    have hr := hk3 (by decide)
    refine ww_iload_n C dX4_reckon_204 rfl 2 rfl ?_
    refine ww_aload_n C dX4_reckon_205 rfl 0 rfl rfl ?_
    refine gf_X4_42_X4 C dX4_reckon_206 (Or.inl X0) rfl ?_
    refine ww_iload_n C dX4_reckon_209 rfl 3 rfl ?_
    refine ww_iald C dX4_reckon_210 (Or.inl Xv) (by omega) (by decide) ?_
    refine ww_aload_n C dX4_reckon_211 rfl 0 rfl rfl ?_
    refine gf_X4_42_X4 C dX4_reckon_212 (Or.inl X0) rfl ?_
    refine ww_iload C dX4_reckon_215 4 rfl ?_
    refine ww_iald C dX4_reckon_217 (Or.inl Xv) (by omega) (by decide) ?_
    refine cs_X4_358_r (As := [.int (nI 47), .int ((M.2.1 9) u), .int ((M.2.1 9) v)]) (rest := []) C dX4_reckon_218 (ct_X4_joined (Cx.fl C) (Cx.ok C) (by decide)) rfl rfl (Nat.le_of_ble_eq_true rfl) (by decide) (Nat.zero_le _) (Nat.zero_le _) ?_
    exact ww_iret C dX4_reckon_221 (RdP.i (by rfl))
  · skip
    refine ww_look (off := 203) (tgt := 204) C dX4_reckon_1 (by decide) (by decide) (by decide) ?_
    have hl := hk2 (by decide)
    have hr := hk3 (by decide)
    refine ww_iload_n C dX4_reckon_204 rfl 2 rfl ?_
    refine ww_aload_n C dX4_reckon_205 rfl 0 rfl rfl ?_
    refine gf_X4_42_X4 C dX4_reckon_206 (Or.inl X0) rfl ?_
    refine ww_iload_n C dX4_reckon_209 rfl 3 rfl ?_
    refine ww_iald C dX4_reckon_210 (Or.inl Xv) (by omega) (by decide) ?_
    refine ww_aload_n C dX4_reckon_211 rfl 0 rfl rfl ?_
    refine gf_X4_42_X4 C dX4_reckon_212 (Or.inl X0) rfl ?_
    refine ww_iload C dX4_reckon_215 4 rfl ?_
    refine ww_iald C dX4_reckon_217 (Or.inl Xv) (by omega) (by decide) ?_
    refine cs_X4_358_r (As := [.int (nI 48), .int ((M.2.1 9) u), .int ((M.2.1 9) v)]) (rest := []) C dX4_reckon_218 (ct_X4_joined (Cx.fl C) (Cx.ok C) (by decide)) rfl rfl (Nat.le_of_ble_eq_true rfl) (by decide) (Nat.zero_le _) (Nat.zero_le _) ?_
    exact ww_iret C dX4_reckon_221 (RdP.i (by rfl))
set_option maxHeartbeats 2000000 in
theorem ct_X4_reckon_a {l : Launch} {Γ : Gm} (hl : l.flags = flags0) (hΓ : GOK Γ) {z : ZR} {h : AH} {B : GB} {M : MS} {D : Nat → Nat} {k u v : Nat} (hz : zle (cst Γ) z) (hX : Mx Γ h D M) (hb : MBd M 32 43 B) (hC : BC B) (hk : rkP B k u v) : Ct l Γ yX4_reckon cX4_reckon 5 (some .int) 8 0 0 [.ref (D 0), .ref (D 11), .int (nI k), .int (nI u), .int (nI v)] z h (RdP z h (some (.int (rkI B (M.1 33) (M.2.1 9) k u v)))) := by
  refine Ct.of hl hΓ (by decide +kernel) (Nat.le_of_ble_eq_true rfl) (fun X e1 e2 C => ?_)
  subst e1; subst e2
  have C : Cx X cX4_reckon 5 "RingDominoModel" "reckon" (some .int) [] 8 := C
  have hB := hC.1
  obtain ⟨⟨⟨c1, c2⟩, ⟨r1, r2⟩⟩, t1, bl1, bu1, bp1, bn1⟩ := id hB
  have hzz := BO.z hB
  have X0 := hX.m
  have hP : MrP (xG X) z h (D 0) (D 11) B := ⟨_, D, Or.inl X0, Mx.a hX hb⟩
  have Xs : h (D 11) = some (cSt (fun i => D (43 + i)) (M.1 32) (M.1 33)) := hX.1 11 (by decide)
  have Xv : h (D 9) = some (cI (xG X) 800 (M.2.1 9)) := hX.1 9 (by decide)
  have Xc : h (D 44) = some (cI (xG X) 16 (fun k => oI (Bp B k))) := by rw [← hb.2.2.2.2.2.2.1]; exact hX.1 44 (by decide)
  have hpl := plN_le B
  show WW X (RdP z h (some (.int (rkI B (M.1 33) (M.2.1 9) k u v)))) z h 0 0 0 [(0, .ref (D 0)), (1, .ref (D 11)), (2, .int (nI k)), (3, .int (nI u)), (4, .int (nI v))] []
  rw [hb.2.2.2.2.1] at Xs
  refine ww_iload_n C dX4_reckon_0 rfl 2 rfl ?_
  obtain ⟨hk, hk1, hk2, hk3⟩ := hk
  rcases hk with rfl | rfl | rfl | rfl | rfl | rfl | rfl | rfl | rfl | rfl | rfl | rfl | rfl | rfl | rfl | rfl | rfl | rfl | rfl | rfl | rfl | rfl | rfl | rfl | rfl
  · skip
    refine ww_look (off := 109) (tgt := 110) C dX4_reckon_1 (by decide) (by decide) (by decide) ?_
    refine ww_aload_n C dX4_reckon_110 rfl 1 rfl rfl ?_
    refine gf_X4_343_X6 C dX4_reckon_111 (Or.inl Xs) rfl ?_
    exact ww_iret C dX4_reckon_114 (RdP.i (by rfl))
  · skip
    refine ww_look (off := 114) (tgt := 115) C dX4_reckon_1 (by decide) (by decide) (by decide) ?_
    refine ww_aload_n C dX4_reckon_115 rfl 1 rfl rfl ?_
    refine gf_X4_296_X6 C dX4_reckon_116 (Or.inl Xs) rfl ?_
    exact ww_iret C dX4_reckon_119 (RdP.i (by rfl))
  · skip
    refine ww_look (off := 119) (tgt := 120) C dX4_reckon_1 (by decide) (by decide) (by decide) ?_
    refine ww_aload_n C dX4_reckon_120 rfl 0 rfl rfl ?_
    refine ww_aload_n C dX4_reckon_121 rfl 1 rfl rfl ?_
    refine cv_X4_346_r (As := [.ref (D 11)]) (rest := []) C dX4_reckon_122 (ct_X4_matches_2 (Cx.fl C) (Cx.ok C) hz hP hC) (rc_X4 (Cx.ok C) (Or.inl X0)) rfl rfl (Nat.le_of_ble_eq_true rfl) (by decide) (Nat.zero_le _) (Nat.zero_le _) ?_
    exact ww_iret C dX4_reckon_125 (RdP.i (by rfl))
  · skip
    refine ww_look (off := 125) (tgt := 126) C dX4_reckon_1 (by decide) (by decide) (by decide) ?_
    refine ww_aload_n C dX4_reckon_126 rfl 0 rfl rfl ?_
    refine ww_aload_n C dX4_reckon_127 rfl 1 rfl rfl ?_
    refine cv_X4_349_r (As := [.ref (D 11)]) (rest := []) C dX4_reckon_128 (ct_X4_points_2 (Cx.fl C) (Cx.ok C) hz hP hC) (rc_X4 (Cx.ok C) (Or.inl X0)) rfl rfl (Nat.le_of_ble_eq_true rfl) (by decide) (Nat.zero_le _) (Nat.zero_le _) ?_
    exact ww_iret C dX4_reckon_131 (RdP.i (by rfl))
  · skip
    refine ww_look (off := 131) (tgt := 132) C dX4_reckon_1 (by decide) (by decide) (by decide) ?_
    refine ww_aload_n C dX4_reckon_132 rfl 0 rfl rfl ?_
    refine ww_aload_n C dX4_reckon_133 rfl 1 rfl rfl ?_
    refine cv_X4_325_r (As := [.ref (D 11)]) (rest := []) C dX4_reckon_134 (ct_X4_rings (Cx.fl C) (Cx.ok C) hz hP hC) (rc_X4 (Cx.ok C) (Or.inl X0)) rfl rfl (Nat.le_of_ble_eq_true rfl) (by decide) (Nat.zero_le _) (Nat.zero_le _) ?_
    exact ww_iret C dX4_reckon_137 (RdP.i (by rfl))
  · skip
    refine ww_look (off := 137) (tgt := 138) C dX4_reckon_1 (by decide) (by decide) (by decide) ?_
    refine ww_aload_n C dX4_reckon_138 rfl 0 rfl rfl ?_
    refine cv_X4_307_r (As := []) (rest := []) C dX4_reckon_139 (ct_X4_cells (Cx.fl C) (Cx.ok C) hz hP hC) (rc_X4 (Cx.ok C) (Or.inl X0)) rfl rfl (Nat.le_of_ble_eq_true rfl) (by decide) (Nat.zero_le _) (Nat.zero_le _) ?_
    refine ww_aload_n C dX4_reckon_142 rfl 1 rfl rfl ?_
    refine gf_X4_296_X6 C dX4_reckon_143 (Or.inl Xs) rfl ?_
    refine ww_isubn C dX4_reckon_146 (by omega) ?_
    exact ww_iret C dX4_reckon_147 (RdP.i (by rfl))
  · skip
    refine ww_look (off := 147) (tgt := 148) C dX4_reckon_1 (by decide) (by decide) (by decide) ?_
    have hl := hk1 (by decide)
    refine ww_aload_n C dX4_reckon_148 rfl 0 rfl rfl ?_
    refine ww_aload_n C dX4_reckon_149 rfl 1 rfl rfl ?_
    refine ww_iload_n C dX4_reckon_150 rfl 3 rfl ?_
    refine cv_X4_352_r (As := [.ref (D 11), .int (nI u)]) (rest := []) C dX4_reckon_151 (ct_X4_ways (Cx.fl C) (Cx.ok C) hz hP hC hl) (rc_X4 (Cx.ok C) (Or.inl X0)) rfl rfl (Nat.le_of_ble_eq_true rfl) (by decide) (Nat.zero_le _) (Nat.zero_le _) ?_
    exact ww_iret C dX4_reckon_154 (RdP.i (by rfl))
  · skip
    refine ww_look (off := 154) (tgt := 155) C dX4_reckon_1 (by decide) (by decide) (by decide) ?_
    have hl := hk1 (by decide)
    refine ww_aload_n C dX4_reckon_155 rfl 1 rfl rfl ?_
    refine gf_X4_293_X6 C dX4_reckon_156 (Or.inl Xs) rfl ?_
    refine ww_iload_n C dX4_reckon_159 rfl 3 rfl ?_
    refine ww_iald C dX4_reckon_160 (Or.inl Xc) (by omega) (by decide) ?_
    refine ww_iconst C dX4_reckon_161 cI_m1 ?_
    refine ww_tern_icmp_eq_o C dX4_reckon_162 dX4_reckon_165 dX4_reckon_166 dX4_reckon_169 (fun y q => Nat.lt_trans (bp1 u y q) (by decide)) ?_
    exact ww_iret C dX4_reckon_170 (RdP.i (by rfl))
  · skip
    refine ww_look (off := 170) (tgt := 171) C dX4_reckon_1 (by decide) (by decide) (by decide) ?_
    have hl := hk1 (by decide)
    refine ww_aload_n C dX4_reckon_171 rfl 0 rfl rfl ?_
    refine ww_aload_n C dX4_reckon_172 rfl 1 rfl rfl ?_
    refine ww_iload_n C dX4_reckon_173 rfl 3 rfl ?_
    refine cv_X4_355_r (As := [.ref (D 11), .int (nI u)]) (rest := []) C dX4_reckon_174 (ct_X4_firstWay (Cx.fl C) (Cx.ok C) hz hP hC hl) (rc_X4 (Cx.ok C) (Or.inl X0)) rfl rfl (Nat.le_of_ble_eq_true rfl) (by decide) (Nat.zero_le _) (Nat.zero_le _) ?_
    refine ww_iconst C dX4_reckon_177 cI_m1 ?_
    refine ww_tern_icmp_eq_o C dX4_reckon_178 dX4_reckon_181 dX4_reckon_182 dX4_reckon_185 (fw_lt hB) ?_
    exact ww_iret C dX4_reckon_186 (RdP.i (by rfl))
  · skip
    refine ww_look (off := 194) (tgt := 195) C dX4_reckon_1 (by decide) (by decide) (by decide) ?_
    have hl := hk2 (by decide)
    refine ww_iconst C dX4_reckon_195 cI_1 ?_
    refine ww_aload_n C dX4_reckon_196 rfl 0 rfl rfl ?_
    refine gf_X4_42_X4 C dX4_reckon_197 (Or.inl X0) rfl ?_
    refine ww_iload_n C dX4_reckon_200 rfl 3 rfl ?_
    refine ww_iald C dX4_reckon_201 (Or.inl Xv) (by omega) (by decide) ?_
    refine ww_isub C dX4_reckon_202 ?_
    exact ww_iret C dX4_reckon_203 (RdP.i (by rfl))
  · skip
    refine ww_look (off := 107) (tgt := 108) C dX4_reckon_1 (by decide) (by decide) (by decide) ?_
    refine ww_iload_n C dX4_reckon_108 rfl 3 rfl ?_
    exact ww_iret C dX4_reckon_109 (RdP.i (by rfl))
  · skip
    refine ww_look (off := 186) (tgt := 187) C dX4_reckon_1 (by decide) (by decide) (by decide) ?_
    have hl := hk2 (by decide)
    refine ww_aload_n C dX4_reckon_187 rfl 0 rfl rfl ?_
    refine gf_X4_42_X4 C dX4_reckon_188 (Or.inl X0) rfl ?_
    refine ww_iload_n C dX4_reckon_191 rfl 3 rfl ?_
    refine ww_iald C dX4_reckon_192 (Or.inl Xv) (by omega) (by decide) ?_
    refine ww_ineg C dX4_reckon_193 ?_
    exact ww_iret C dX4_reckon_194 (RdP.i (by rfl))
  · skip
    refine ww_look (off := 203) (tgt := 204) C dX4_reckon_1 (by decide) (by decide) (by decide) ?_
    have hl := hk2 (by decide)
    have hr := hk3 (by decide)
    refine ww_iload_n C dX4_reckon_204 rfl 2 rfl ?_
    refine ww_aload_n C dX4_reckon_205 rfl 0 rfl rfl ?_
    refine gf_X4_42_X4 C dX4_reckon_206 (Or.inl X0) rfl ?_
    refine ww_iload_n C dX4_reckon_209 rfl 3 rfl ?_
    refine ww_iald C dX4_reckon_210 (Or.inl Xv) (by omega) (by decide) ?_
    refine ww_aload_n C dX4_reckon_211 rfl 0 rfl rfl ?_
    refine gf_X4_42_X4 C dX4_reckon_212 (Or.inl X0) rfl ?_
    refine ww_iload C dX4_reckon_215 4 rfl ?_
    refine ww_iald C dX4_reckon_217 (Or.inl Xv) (by omega) (by decide) ?_
    refine cs_X4_358_r (As := [.int (nI 20), .int ((M.2.1 9) u), .int ((M.2.1 9) v)]) (rest := []) C dX4_reckon_218 (ct_X4_joined (Cx.fl C) (Cx.ok C) (by decide)) rfl rfl (Nat.le_of_ble_eq_true rfl) (by decide) (Nat.zero_le _) (Nat.zero_le _) ?_
    exact ww_iret C dX4_reckon_221 (RdP.i (by rfl))
  · skip
    refine ww_look (off := 203) (tgt := 204) C dX4_reckon_1 (by decide) (by decide) (by decide) ?_
    have hl := hk2 (by decide)
    have hr := hk3 (by decide)
    refine ww_iload_n C dX4_reckon_204 rfl 2 rfl ?_
    refine ww_aload_n C dX4_reckon_205 rfl 0 rfl rfl ?_
    refine gf_X4_42_X4 C dX4_reckon_206 (Or.inl X0) rfl ?_
    refine ww_iload_n C dX4_reckon_209 rfl 3 rfl ?_
    refine ww_iald C dX4_reckon_210 (Or.inl Xv) (by omega) (by decide) ?_
    refine ww_aload_n C dX4_reckon_211 rfl 0 rfl rfl ?_
    refine gf_X4_42_X4 C dX4_reckon_212 (Or.inl X0) rfl ?_
    refine ww_iload C dX4_reckon_215 4 rfl ?_
    refine ww_iald C dX4_reckon_217 (Or.inl Xv) (by omega) (by decide) ?_
    refine cs_X4_358_r (As := [.int (nI 21), .int ((M.2.1 9) u), .int ((M.2.1 9) v)]) (rest := []) C dX4_reckon_218 (ct_X4_joined (Cx.fl C) (Cx.ok C) (by decide)) rfl rfl (Nat.le_of_ble_eq_true rfl) (by decide) (Nat.zero_le _) (Nat.zero_le _) ?_
    exact ww_iret C dX4_reckon_221 (RdP.i (by rfl))
  · skip
    refine ww_look (off := 203) (tgt := 204) C dX4_reckon_1 (by decide) (by decide) (by decide) ?_
    have hl := hk2 (by decide)
    have hr := hk3 (by decide)
    refine ww_iload_n C dX4_reckon_204 rfl 2 rfl ?_
    refine ww_aload_n C dX4_reckon_205 rfl 0 rfl rfl ?_
    refine gf_X4_42_X4 C dX4_reckon_206 (Or.inl X0) rfl ?_
    refine ww_iload_n C dX4_reckon_209 rfl 3 rfl ?_
    refine ww_iald C dX4_reckon_210 (Or.inl Xv) (by omega) (by decide) ?_
    refine ww_aload_n C dX4_reckon_211 rfl 0 rfl rfl ?_
    refine gf_X4_42_X4 C dX4_reckon_212 (Or.inl X0) rfl ?_
    refine ww_iload C dX4_reckon_215 4 rfl ?_
    refine ww_iald C dX4_reckon_217 (Or.inl Xv) (by omega) (by decide) ?_
    refine cs_X4_358_r (As := [.int (nI 22), .int ((M.2.1 9) u), .int ((M.2.1 9) v)]) (rest := []) C dX4_reckon_218 (ct_X4_joined (Cx.fl C) (Cx.ok C) (by decide)) rfl rfl (Nat.le_of_ble_eq_true rfl) (by decide) (Nat.zero_le _) (Nat.zero_le _) ?_
    exact ww_iret C dX4_reckon_221 (RdP.i (by rfl))
  · skip
    refine ww_look (off := 203) (tgt := 204) C dX4_reckon_1 (by decide) (by decide) (by decide) ?_
    have hl := hk2 (by decide)
    have hr := hk3 (by decide)
    refine ww_iload_n C dX4_reckon_204 rfl 2 rfl ?_
    refine ww_aload_n C dX4_reckon_205 rfl 0 rfl rfl ?_
    refine gf_X4_42_X4 C dX4_reckon_206 (Or.inl X0) rfl ?_
    refine ww_iload_n C dX4_reckon_209 rfl 3 rfl ?_
    refine ww_iald C dX4_reckon_210 (Or.inl Xv) (by omega) (by decide) ?_
    refine ww_aload_n C dX4_reckon_211 rfl 0 rfl rfl ?_
    refine gf_X4_42_X4 C dX4_reckon_212 (Or.inl X0) rfl ?_
    refine ww_iload C dX4_reckon_215 4 rfl ?_
    refine ww_iald C dX4_reckon_217 (Or.inl Xv) (by omega) (by decide) ?_
    refine cs_X4_358_r (As := [.int (nI 23), .int ((M.2.1 9) u), .int ((M.2.1 9) v)]) (rest := []) C dX4_reckon_218 (ct_X4_joined (Cx.fl C) (Cx.ok C) (by decide)) rfl rfl (Nat.le_of_ble_eq_true rfl) (by decide) (Nat.zero_le _) (Nat.zero_le _) ?_
    exact ww_iret C dX4_reckon_221 (RdP.i (by rfl))
  · skip
    refine ww_look (off := 203) (tgt := 204) C dX4_reckon_1 (by decide) (by decide) (by decide) ?_
    have hl := hk2 (by decide)
    have hr := hk3 (by decide)
    refine ww_iload_n C dX4_reckon_204 rfl 2 rfl ?_
    refine ww_aload_n C dX4_reckon_205 rfl 0 rfl rfl ?_
    refine gf_X4_42_X4 C dX4_reckon_206 (Or.inl X0) rfl ?_
    refine ww_iload_n C dX4_reckon_209 rfl 3 rfl ?_
    refine ww_iald C dX4_reckon_210 (Or.inl Xv) (by omega) (by decide) ?_
    refine ww_aload_n C dX4_reckon_211 rfl 0 rfl rfl ?_
    refine gf_X4_42_X4 C dX4_reckon_212 (Or.inl X0) rfl ?_
    refine ww_iload C dX4_reckon_215 4 rfl ?_
    refine ww_iald C dX4_reckon_217 (Or.inl Xv) (by omega) (by decide) ?_
    refine cs_X4_358_r (As := [.int (nI 40), .int ((M.2.1 9) u), .int ((M.2.1 9) v)]) (rest := []) C dX4_reckon_218 (ct_X4_joined (Cx.fl C) (Cx.ok C) (by decide)) rfl rfl (Nat.le_of_ble_eq_true rfl) (by decide) (Nat.zero_le _) (Nat.zero_le _) ?_
    exact ww_iret C dX4_reckon_221 (RdP.i (by rfl))
  · skip
    refine ww_look (off := 203) (tgt := 204) C dX4_reckon_1 (by decide) (by decide) (by decide) ?_
    have hl := hk2 (by decide)
    have hr := hk3 (by decide)
    refine ww_iload_n C dX4_reckon_204 rfl 2 rfl ?_
    refine ww_aload_n C dX4_reckon_205 rfl 0 rfl rfl ?_
    refine gf_X4_42_X4 C dX4_reckon_206 (Or.inl X0) rfl ?_
    refine ww_iload_n C dX4_reckon_209 rfl 3 rfl ?_
    refine ww_iald C dX4_reckon_210 (Or.inl Xv) (by omega) (by decide) ?_
    refine ww_aload_n C dX4_reckon_211 rfl 0 rfl rfl ?_
    refine gf_X4_42_X4 C dX4_reckon_212 (Or.inl X0) rfl ?_
    refine ww_iload C dX4_reckon_215 4 rfl ?_
    refine ww_iald C dX4_reckon_217 (Or.inl Xv) (by omega) (by decide) ?_
    refine cs_X4_358_r (As := [.int (nI 41), .int ((M.2.1 9) u), .int ((M.2.1 9) v)]) (rest := []) C dX4_reckon_218 (ct_X4_joined (Cx.fl C) (Cx.ok C) (by decide)) rfl rfl (Nat.le_of_ble_eq_true rfl) (by decide) (Nat.zero_le _) (Nat.zero_le _) ?_
    exact ww_iret C dX4_reckon_221 (RdP.i (by rfl))
  · skip
    refine ww_look (off := 203) (tgt := 204) C dX4_reckon_1 (by decide) (by decide) (by decide) ?_
    have hl := hk2 (by decide)
    have hr := hk3 (by decide)
    refine ww_iload_n C dX4_reckon_204 rfl 2 rfl ?_
    refine ww_aload_n C dX4_reckon_205 rfl 0 rfl rfl ?_
    refine gf_X4_42_X4 C dX4_reckon_206 (Or.inl X0) rfl ?_
    refine ww_iload_n C dX4_reckon_209 rfl 3 rfl ?_
    refine ww_iald C dX4_reckon_210 (Or.inl Xv) (by omega) (by decide) ?_
    refine ww_aload_n C dX4_reckon_211 rfl 0 rfl rfl ?_
    refine gf_X4_42_X4 C dX4_reckon_212 (Or.inl X0) rfl ?_
    refine ww_iload C dX4_reckon_215 4 rfl ?_
    refine ww_iald C dX4_reckon_217 (Or.inl Xv) (by omega) (by decide) ?_
    refine cs_X4_358_r (As := [.int (nI 42), .int ((M.2.1 9) u), .int ((M.2.1 9) v)]) (rest := []) C dX4_reckon_218 (ct_X4_joined (Cx.fl C) (Cx.ok C) (by decide)) rfl rfl (Nat.le_of_ble_eq_true rfl) (by decide) (Nat.zero_le _) (Nat.zero_le _) ?_
    exact ww_iret C dX4_reckon_221 (RdP.i (by rfl))
  · skip
    refine ww_look (off := 203) (tgt := 204) C dX4_reckon_1 (by decide) (by decide) (by decide) ?_
    have hl := hk2 (by decide)
    have hr := hk3 (by decide)
    refine ww_iload_n C dX4_reckon_204 rfl 2 rfl ?_
    refine ww_aload_n C dX4_reckon_205 rfl 0 rfl rfl ?_
    refine gf_X4_42_X4 C dX4_reckon_206 (Or.inl X0) rfl ?_
    refine ww_iload_n C dX4_reckon_209 rfl 3 rfl ?_
    refine ww_iald C dX4_reckon_210 (Or.inl Xv) (by omega) (by decide) ?_
    refine ww_aload_n C dX4_reckon_211 rfl 0 rfl rfl ?_
    refine gf_X4_42_X4 C dX4_reckon_212 (Or.inl X0) rfl ?_
    refine ww_iload C dX4_reckon_215 4 rfl ?_
    refine ww_iald C dX4_reckon_217 (Or.inl Xv) (by omega) (by decide) ?_
    refine cs_X4_358_r (As := [.int (nI 43), .int ((M.2.1 9) u), .int ((M.2.1 9) v)]) (rest := []) C dX4_reckon_218 (ct_X4_joined (Cx.fl C) (Cx.ok C) (by decide)) rfl rfl (Nat.le_of_ble_eq_true rfl) (by decide) (Nat.zero_le _) (Nat.zero_le _) ?_
    exact ww_iret C dX4_reckon_221 (RdP.i (by rfl))
  · skip
    refine ww_look (off := 203) (tgt := 204) C dX4_reckon_1 (by decide) (by decide) (by decide) ?_
    have hl := hk2 (by decide)
    have hr := hk3 (by decide)
    refine ww_iload_n C dX4_reckon_204 rfl 2 rfl ?_
    refine ww_aload_n C dX4_reckon_205 rfl 0 rfl rfl ?_
    refine gf_X4_42_X4 C dX4_reckon_206 (Or.inl X0) rfl ?_
    refine ww_iload_n C dX4_reckon_209 rfl 3 rfl ?_
    refine ww_iald C dX4_reckon_210 (Or.inl Xv) (by omega) (by decide) ?_
    refine ww_aload_n C dX4_reckon_211 rfl 0 rfl rfl ?_
    refine gf_X4_42_X4 C dX4_reckon_212 (Or.inl X0) rfl ?_
    refine ww_iload C dX4_reckon_215 4 rfl ?_
    refine ww_iald C dX4_reckon_217 (Or.inl Xv) (by omega) (by decide) ?_
    refine cs_X4_358_r (As := [.int (nI 44), .int ((M.2.1 9) u), .int ((M.2.1 9) v)]) (rest := []) C dX4_reckon_218 (ct_X4_joined (Cx.fl C) (Cx.ok C) (by decide)) rfl rfl (Nat.le_of_ble_eq_true rfl) (by decide) (Nat.zero_le _) (Nat.zero_le _) ?_
    exact ww_iret C dX4_reckon_221 (RdP.i (by rfl))
  · skip
    refine ww_look (off := 203) (tgt := 204) C dX4_reckon_1 (by decide) (by decide) (by decide) ?_
    have hl := hk2 (by decide)
    have hr := hk3 (by decide)
    refine ww_iload_n C dX4_reckon_204 rfl 2 rfl ?_
    refine ww_aload_n C dX4_reckon_205 rfl 0 rfl rfl ?_
    refine gf_X4_42_X4 C dX4_reckon_206 (Or.inl X0) rfl ?_
    refine ww_iload_n C dX4_reckon_209 rfl 3 rfl ?_
    refine ww_iald C dX4_reckon_210 (Or.inl Xv) (by omega) (by decide) ?_
    refine ww_aload_n C dX4_reckon_211 rfl 0 rfl rfl ?_
    refine gf_X4_42_X4 C dX4_reckon_212 (Or.inl X0) rfl ?_
    refine ww_iload C dX4_reckon_215 4 rfl ?_
    refine ww_iald C dX4_reckon_217 (Or.inl Xv) (by omega) (by decide) ?_
    refine cs_X4_358_r (As := [.int (nI 45), .int ((M.2.1 9) u), .int ((M.2.1 9) v)]) (rest := []) C dX4_reckon_218 (ct_X4_joined (Cx.fl C) (Cx.ok C) (by decide)) rfl rfl (Nat.le_of_ble_eq_true rfl) (by decide) (Nat.zero_le _) (Nat.zero_le _) ?_
    exact ww_iret C dX4_reckon_221 (RdP.i (by rfl))
  · skip
    refine ww_look (off := 203) (tgt := 204) C dX4_reckon_1 (by decide) (by decide) (by decide) ?_
    have hl := hk2 (by decide)
    have hr := hk3 (by decide)
    refine ww_iload_n C dX4_reckon_204 rfl 2 rfl ?_
    refine ww_aload_n C dX4_reckon_205 rfl 0 rfl rfl ?_
    refine gf_X4_42_X4 C dX4_reckon_206 (Or.inl X0) rfl ?_
    refine ww_iload_n C dX4_reckon_209 rfl 3 rfl ?_
    refine ww_iald C dX4_reckon_210 (Or.inl Xv) (by omega) (by decide) ?_
    refine ww_aload_n C dX4_reckon_211 rfl 0 rfl rfl ?_
    refine gf_X4_42_X4 C dX4_reckon_212 (Or.inl X0) rfl ?_
    refine ww_iload C dX4_reckon_215 4 rfl ?_
    refine ww_iald C dX4_reckon_217 (Or.inl Xv) (by omega) (by decide) ?_
    refine cs_X4_358_r (As := [.int (nI 46), .int ((M.2.1 9) u), .int ((M.2.1 9) v)]) (rest := []) C dX4_reckon_218 (ct_X4_joined (Cx.fl C) (Cx.ok C) (by decide)) rfl rfl (Nat.le_of_ble_eq_true rfl) (by decide) (Nat.zero_le _) (Nat.zero_le _) ?_
    exact ww_iret C dX4_reckon_221 (RdP.i (by rfl))
  · skip
    refine ww_look (off := 203) (tgt := 204) C dX4_reckon_1 (by decide) (by decide) (by decide) ?_
    have hl := hk2 (by decide)
    have hr := hk3 (by decide)
    refine ww_iload_n C dX4_reckon_204 rfl 2 rfl ?_
    refine ww_aload_n C dX4_reckon_205 rfl 0 rfl rfl ?_
    refine gf_X4_42_X4 C dX4_reckon_206 (Or.inl X0) rfl ?_
    refine ww_iload_n C dX4_reckon_209 rfl 3 rfl ?_
    refine ww_iald C dX4_reckon_210 (Or.inl Xv) (by omega) (by decide) ?_
    refine ww_aload_n C dX4_reckon_211 rfl 0 rfl rfl ?_
    refine gf_X4_42_X4 C dX4_reckon_212 (Or.inl X0) rfl ?_
    refine ww_iload C dX4_reckon_215 4 rfl ?_
    refine ww_iald C dX4_reckon_217 (Or.inl Xv) (by omega) (by decide) ?_
    refine cs_X4_358_r (As := [.int (nI 47), .int ((M.2.1 9) u), .int ((M.2.1 9) v)]) (rest := []) C dX4_reckon_218 (ct_X4_joined (Cx.fl C) (Cx.ok C) (by decide)) rfl rfl (Nat.le_of_ble_eq_true rfl) (by decide) (Nat.zero_le _) (Nat.zero_le _) ?_
    exact ww_iret C dX4_reckon_221 (RdP.i (by rfl))
  · skip
    refine ww_look (off := 203) (tgt := 204) C dX4_reckon_1 (by decide) (by decide) (by decide) ?_
    have hl := hk2 (by decide)
    have hr := hk3 (by decide)
    refine ww_iload_n C dX4_reckon_204 rfl 2 rfl ?_
    refine ww_aload_n C dX4_reckon_205 rfl 0 rfl rfl ?_
    refine gf_X4_42_X4 C dX4_reckon_206 (Or.inl X0) rfl ?_
    refine ww_iload_n C dX4_reckon_209 rfl 3 rfl ?_
    refine ww_iald C dX4_reckon_210 (Or.inl Xv) (by omega) (by decide) ?_
    refine ww_aload_n C dX4_reckon_211 rfl 0 rfl rfl ?_
    refine gf_X4_42_X4 C dX4_reckon_212 (Or.inl X0) rfl ?_
    refine ww_iload C dX4_reckon_215 4 rfl ?_
    refine ww_iald C dX4_reckon_217 (Or.inl Xv) (by omega) (by decide) ?_
    refine cs_X4_358_r (As := [.int (nI 48), .int ((M.2.1 9) u), .int ((M.2.1 9) v)]) (rest := []) C dX4_reckon_218 (ct_X4_joined (Cx.fl C) (Cx.ok C) (by decide)) rfl rfl (Nat.le_of_ble_eq_true rfl) (by decide) (Nat.zero_le _) (Nat.zero_le _) ?_
    exact ww_iret C dX4_reckon_221 (RdP.i (by rfl))
end MO11
