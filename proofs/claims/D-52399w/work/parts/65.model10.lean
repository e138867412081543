section MO10
set_option maxRecDepth 100000
/-- what a node that joins two gives -/
def jnI (k : Nat) (a b : Int32) : Int32 := match k with
  | 20 => a &&& b
  | 21 => a ||| b
  | 22 => if a ≤ b then a else b
  | 23 => if b ≤ a then a else b
  | 40 => a + b
  | 41 => a - b
  | 42 => a * b
  | 43 => if b = 0 then 0 else a / b
  | 44 => bI (decide (a < b))
  | 45 => bI (decide (b < a))
  | 46 => bI (decide (a = b))
  | 47 => bI (decide (a ≤ b))
  | _ => bI (decide (b ≤ a))
set_option maxHeartbeats 2000000 in
theorem ct_J14_minI {l : Launch} {Γ : Gm} (hl : l.flags = flags0) (hΓ : GOK Γ) {z : ZR} {h : AH} {a b : Int32}  : Ct l Γ yJ14_min cJ14_min 2 (some .int) 1 0 0 [.int a, .int b] z h (RdP z h (some (.int (if a ≤ b then a else b)))) := by
  refine Ct.ofF hl hΓ (by decide +kernel) (Nat.le_of_ble_eq_true rfl) (fun X e1 e2 C => ?_)
  subst e1; subst e2
  have C : Cx X cJ14_min 2 "java/lang/Math" "min" (some .int) [] 1 := C
  show WW X (RdP z h (some (.int (if a ≤ b then a else b)))) z h 0 0 0 [(0, .int a), (1, .int b)] []
  refine ww_iload_n C dJ14_min_0 rfl 0 rfl ?_
  refine ww_iload_n C dJ14_min_1 rfl 1 rfl ?_
  refine ww_icmp_gt (tgt := 9) C dJ14_min_2 (by decide) (fun c_2 => ?_) (fun c_2 => ?_)
  · skip
    refine ww_iload_n C dJ14_min_9 rfl 1 rfl ?_
    exact ww_iret C dJ14_min_10 (RdP.i (by first | (rw [if_neg (Int32.not_le.mpr c_2)]) | simp_all))
  · skip
    refine ww_iload_n C dJ14_min_5 rfl 0 rfl ?_
    refine ww_goto (tgt := 10) C dJ14_min_6 (by decide) ?_
    exact ww_iret C dJ14_min_10 (RdP.i (by first | (rw [if_neg (Int32.not_le.mpr c_2)]) | simp_all))
set_option maxHeartbeats 2000000 in
theorem ct_J14_maxI {l : Launch} {Γ : Gm} (hl : l.flags = flags0) (hΓ : GOK Γ) {z : ZR} {h : AH} {a b : Int32}  : Ct l Γ yJ14_max cJ14_max 2 (some .int) 1 0 0 [.int a, .int b] z h (RdP z h (some (.int (if b ≤ a then a else b)))) := by
  refine Ct.ofF hl hΓ (by decide +kernel) (Nat.le_of_ble_eq_true rfl) (fun X e1 e2 C => ?_)
  subst e1; subst e2
  have C : Cx X cJ14_max 2 "java/lang/Math" "max" (some .int) [] 1 := C
  show WW X (RdP z h (some (.int (if b ≤ a then a else b)))) z h 0 0 0 [(0, .int a), (1, .int b)] []
  refine ww_iload_n C dJ14_max_0 rfl 0 rfl ?_
  refine ww_iload_n C dJ14_max_1 rfl 1 rfl ?_
  refine ww_icmp_lt (tgt := 9) C dJ14_max_2 (by decide) (fun c_2 => ?_) (fun c_2 => ?_)
  · skip
    refine ww_iload_n C dJ14_max_9 rfl 1 rfl ?_
    exact ww_iret C dJ14_max_10 (RdP.i (by first | (rw [if_neg (Int32.not_le.mpr c_2)]) | simp_all))
  · skip
    refine ww_iload_n C dJ14_max_5 rfl 0 rfl ?_
    refine ww_goto (tgt := 10) C dJ14_max_6 (by decide) ?_
    exact ww_iret C dJ14_max_10 (RdP.i (by first | (rw [if_neg (Int32.not_le.mpr c_2)]) | simp_all))
set_option maxHeartbeats 2000000 in
theorem ct_X4_joined {l : Launch} {Γ : Gm} (hl : l.flags = flags0) (hΓ : GOK Γ) {z : ZR} {h : AH} {k : Nat} {a b : Int32} (hk : k = 20 ∨ k = 21 ∨ k = 22 ∨ k = 23 ∨ k = 40 ∨ k = 41 ∨ k = 42 ∨ k = 43 ∨ k = 44 ∨ k = 45 ∨ k = 46 ∨ k = 47 ∨ k = 48) : Ct l Γ yX4_joined cX4_joined 3 (some .int) 2 0 0 [.int (nI k), .int a, .int b] z h (RdP z h (some (.int (jnI k a b)))) := by
  refine Ct.of hl hΓ (by decide +kernel) (Nat.le_of_ble_eq_true rfl) (fun X e1 e2 C => ?_)
  subst e1; subst e2
  have C : Cx X cX4_joined 3 "RingDominoModel" "joined" (some .int) [] 2 := C
  show WW X (RdP z h (some (.int (jnI k a b)))) z h 0 0 0 [(0, .int (nI k)), (1, .int a), (2, .int b)] []
  refine ww_iload_n C dX4_joined_0 rfl 0 rfl ?_
  rcases hk with rfl | rfl | rfl | rfl | rfl | rfl | rfl | rfl | rfl | rfl | rfl | rfl | rfl
  · skip
    refine ww_tin (off := 163) (tgt := 164) C dX4_joined_1 (by decide) (by decide) rfl (by decide) ?_
    refine ww_iload_n C dX4_joined_164 rfl 1 rfl ?_
    refine ww_iload_n C dX4_joined_165 rfl 2 rfl ?_
    refine ww_iand C dX4_joined_166 ?_
    exact ww_iret C dX4_joined_167 (RdP.i (by rfl))
  · skip
    refine ww_tin (off := 167) (tgt := 168) C dX4_joined_1 (by decide) (by decide) rfl (by decide) ?_
    refine ww_iload_n C dX4_joined_168 rfl 1 rfl ?_
    refine ww_iload_n C dX4_joined_169 rfl 2 rfl ?_
    refine ww_ior C dX4_joined_170 ?_
    exact ww_iret C dX4_joined_171 (RdP.i (by rfl))
  · skip
    refine ww_tin (off := 151) (tgt := 152) C dX4_joined_1 (by decide) (by decide) rfl (by decide) ?_
    refine ww_iload_n C dX4_joined_152 rfl 1 rfl ?_
    refine ww_iload_n C dX4_joined_153 rfl 2 rfl ?_
    refine cs_X4_211_r (As := [.int a, .int b]) (rest := []) C dX4_joined_154 (ct_J14_minI (Cx.fl C) (Cx.ok C)) rfl rfl (Nat.le_of_ble_eq_true rfl) (by decide) (Nat.zero_le _) (Nat.zero_le _) ?_
    exact ww_iret C dX4_joined_157 (RdP.i (by rfl))
  · skip
    refine ww_tin (off := 157) (tgt := 158) C dX4_joined_1 (by decide) (by decide) rfl (by decide) ?_
    refine ww_iload_n C dX4_joined_158 rfl 1 rfl ?_
    refine ww_iload_n C dX4_joined_159 rfl 2 rfl ?_
    refine cs_X4_167_r (As := [.int a, .int b]) (rest := []) C dX4_joined_160 (ct_J14_maxI (Cx.fl C) (Cx.ok C)) rfl rfl (Nat.le_of_ble_eq_true rfl) (by decide) (Nat.zero_le _) (Nat.zero_le _) ?_
    exact ww_iret C dX4_joined_163 (RdP.i (by rfl))
  · skip
    refine ww_tin (off := 127) (tgt := 128) C dX4_joined_1 (by decide) (by decide) rfl (by decide) ?_
    refine ww_iload_n C dX4_joined_128 rfl 1 rfl ?_
    refine ww_iload_n C dX4_joined_129 rfl 2 rfl ?_
    refine ww_iadd C dX4_joined_130 ?_
    exact ww_iret C dX4_joined_131 (RdP.i (by rfl))
  · skip
    refine ww_tin (off := 131) (tgt := 132) C dX4_joined_1 (by decide) (by decide) rfl (by decide) ?_
    refine ww_iload_n C dX4_joined_132 rfl 1 rfl ?_
    refine ww_iload_n C dX4_joined_133 rfl 2 rfl ?_
    refine ww_isub C dX4_joined_134 ?_
    exact ww_iret C dX4_joined_135 (RdP.i (by rfl))
  · skip
    refine ww_tin (off := 135) (tgt := 136) C dX4_joined_1 (by decide) (by decide) rfl (by decide) ?_
    refine ww_iload_n C dX4_joined_136 rfl 1 rfl ?_
    refine ww_iload_n C dX4_joined_137 rfl 2 rfl ?_
    refine ww_imul C dX4_joined_138 ?_
    exact ww_iret C dX4_joined_139 (RdP.i (by rfl))
  · skip
    refine ww_tin (off := 139) (tgt := 140) C dX4_joined_1 (by decide) (by decide) rfl (by decide) ?_
    refine ww_iload_n C dX4_joined_140 rfl 2 rfl ?_
    refine ww_if_ne (tgt := 148) C dX4_joined_141 (by decide) (fun c_141 => ?_) (fun c_141 => ?_)
    · skip
      refine ww_iload_n C dX4_joined_148 rfl 1 rfl ?_
      refine ww_iload_n C dX4_joined_149 rfl 2 rfl ?_
      refine ww_idiv C dX4_joined_150 c_141 ?_
      exact ww_iret C dX4_joined_151 (RdP.i (by show _ = (if b = 0 then 0 else a / b); rw [if_neg c_141]))
    · skip
      refine ww_iconst C dX4_joined_144 cI_0 ?_
      refine ww_goto (tgt := 151) C dX4_joined_145 (by decide) ?_
      exact ww_iret C dX4_joined_151 (RdP.i (by show _ = (if b = 0 then 0 else a / b); rw [if_pos c_141]; try rfl))
  · skip
    refine ww_tin (off := 171) (tgt := 172) C dX4_joined_1 (by decide) (by decide) rfl (by decide) ?_
    refine ww_iload_n C dX4_joined_172 rfl 1 rfl ?_
    refine ww_iload_n C dX4_joined_173 rfl 2 rfl ?_
    refine ww_icmp_ge (tgt := 181) C dX4_joined_174 (by decide) (fun c_174 => ?_) (fun c_174 => ?_)
    · skip
      refine ww_iconst C dX4_joined_181 cI_0 ?_
      exact ww_iret C dX4_joined_182 (RdP.i (by show _ = bI (decide (a < b)); rw [show decide (a < b) = false from by simp_all]; try rfl))
    · skip
      refine ww_iconst C dX4_joined_177 cI_1 ?_
      refine ww_goto (tgt := 182) C dX4_joined_178 (by decide) ?_
      exact ww_iret C dX4_joined_182 (RdP.i (by show _ = bI (decide (a < b)); rw [show decide (a < b) = true from by simp_all]; try rfl))
  · skip
    refine ww_tin (off := 182) (tgt := 183) C dX4_joined_1 (by decide) (by decide) rfl (by decide) ?_
    refine ww_iload_n C dX4_joined_183 rfl 1 rfl ?_
    refine ww_iload_n C dX4_joined_184 rfl 2 rfl ?_
    refine ww_icmp_le (tgt := 192) C dX4_joined_185 (by decide) (fun c_185 => ?_) (fun c_185 => ?_)
    · skip
      refine ww_iconst C dX4_joined_192 cI_0 ?_
      exact ww_iret C dX4_joined_193 (RdP.i (by show _ = bI (decide (b < a)); rw [show decide (b < a) = false from by simp_all]; try rfl))
    · skip
      refine ww_iconst C dX4_joined_188 cI_1 ?_
      refine ww_goto (tgt := 193) C dX4_joined_189 (by decide) ?_
      exact ww_iret C dX4_joined_193 (RdP.i (by show _ = bI (decide (b < a)); rw [show decide (b < a) = true from by simp_all]; try rfl))
  · skip
    refine ww_tin (off := 193) (tgt := 194) C dX4_joined_1 (by decide) (by decide) rfl (by decide) ?_
    refine ww_iload_n C dX4_joined_194 rfl 1 rfl ?_
    refine ww_iload_n C dX4_joined_195 rfl 2 rfl ?_
    refine ww_icmp_ne (tgt := 203) C dX4_joined_196 (by decide) (fun c_196 => ?_) (fun c_196 => ?_)
    · skip
      refine ww_iconst C dX4_joined_203 cI_0 ?_
      exact ww_iret C dX4_joined_204 (RdP.i (by show _ = bI (decide (a = b)); rw [show decide (a = b) = false from by simp_all]; try rfl))
    · skip
      refine ww_iconst C dX4_joined_199 cI_1 ?_
      refine ww_goto (tgt := 204) C dX4_joined_200 (by decide) ?_
      exact ww_iret C dX4_joined_204 (RdP.i (by show _ = bI (decide (a = b)); rw [show decide (a = b) = true from by simp_all]; try rfl))
  · skip
    refine ww_tin (off := 204) (tgt := 205) C dX4_joined_1 (by decide) (by decide) rfl (by decide) ?_
    refine ww_iload_n C dX4_joined_205 rfl 1 rfl ?_
    refine ww_iload_n C dX4_joined_206 rfl 2 rfl ?_
    refine ww_icmp_gt (tgt := 214) C dX4_joined_207 (by decide) (fun c_207 => ?_) (fun c_207 => ?_)
    · skip
      refine ww_iconst C dX4_joined_214 cI_0 ?_
      exact ww_iret C dX4_joined_215 (RdP.i (by show _ = bI (decide (a ≤ b)); rw [show decide (a ≤ b) = false from by simp_all]; try rfl))
    · skip
      refine ww_iconst C dX4_joined_210 cI_1 ?_
      refine ww_goto (tgt := 215) C dX4_joined_211 (by decide) ?_
      exact ww_iret C dX4_joined_215 (RdP.i (by show _ = bI (decide (a ≤ b)); rw [show decide (a ≤ b) = true from by simp_all]; try rfl))
  · skip
    refine ww_tout (tgt := 216) C dX4_joined_1 (Or.inr (by decide)) (by decide) ?_
    refine ww_iload_n C dX4_joined_216 rfl 1 rfl ?_
    refine ww_iload_n C dX4_joined_217 rfl 2 rfl ?_
    refine ww_icmp_lt (tgt := 225) C dX4_joined_218 (by decide) (fun c_218 => ?_) (fun c_218 => ?_)
    · skip
      refine ww_iconst C dX4_joined_225 cI_0 ?_
      exact ww_iret C dX4_joined_226 (RdP.i (by show _ = bI (decide (b ≤ a)); rw [show decide (b ≤ a) = false from by simp_all]; try rfl))
    · skip
      refine ww_iconst C dX4_joined_221 cI_1 ?_
      refine ww_goto (tgt := 226) C dX4_joined_222 (by decide) ?_
      exact ww_iret C dX4_joined_226 (RdP.i (by show _ = bI (decide (b ≤ a)); rw [show decide (b ≤ a) = true from by simp_all]; try rfl))
end MO10
