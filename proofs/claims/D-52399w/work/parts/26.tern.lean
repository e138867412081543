/-! ===== patterns: a condition as 0 or 1 ===== -/
section WT
set_option maxRecDepth 100000
variable {X : XT} {P : Oc → ZR → AH → Prop} {z : ZR} {h : AH} {kc ns pc nL d : Nat} {lv : List (Nat × Value)} {st : List Value} {cc : ByteArray} {own mn : String} {ret : Option FieldType} {hh : List (Nat × Nat × Nat × Nat)}
theorem ww_st {st' : List Value} (hs : st = st') (k : WW X P z h kc ns pc lv st') : WW X P z h kc ns pc lv st := by rw [hs]; exact k
theorem ww_lv {lv' : List (Nat × Value)} (hs : lv = lv') (k : WW X P z h kc ns pc lv' st) : WW X P z h kc ns pc lv st := by rw [hs]; exact k
theorem ww_h {h' : AH} (hs : h = h') (k : WW X P z h' kc ns pc lv st) : WW X P z h kc ns pc lv st := by rw [hs]; exact k
theorem ww_z {z' : ZR} (hs : z = z') (k : WW X P z' h kc ns pc lv st) : WW X P z h kc ns pc lv st := by rw [hs]; exact k
/-- less to spend than there is -/
theorem ww_le {kc' ns' : Nat} (h1 : kc' ≤ kc) (h2 : ns' ≤ ns) (k : WW X P z h kc' ns' pc lv st) : WW X P z h kc ns pc lv st := by
  intro a1 a2 H ls locs hI hl
  exact W.widen (by omega) (by omega) (k (by omega) (by omega) H ls locs hI hl)
theorem va_rf_isRef (r : Option Nat) : (va_rf r).isRef = true := by cases r <;> rfl
theorem va_rf_cat (r : Option Nat) : (va_rf r).category = 1 := by cases r <;> rfl
theorem ww_iaddb (C : Cx X cc nL own mn ret hh d) {a : Nat} {b : Bool} (hd : decode cc pc = .ok (.iadd, 1)) (k : WW X P z h kc ns (pc + 1) lv (.int (nI (a + (if b then 1 else 0))) :: st)) : WW X P z h kc ns pc lv (.int (bI b) :: .int (nI a) :: st) := ww_iadd C hd (by rw [bI_n, nI_add]; exact k)
theorem ww_tern_eq_b (C : Cx X cc nL own mn ret hh d) {b : Bool} (h1 : decode cc pc = .ok (.ifCond .eq 7, 3)) (h2 : decode cc (pc + 3) = .ok (.iconst 1, 1)) (h3 : decode cc (pc + 4) = .ok (.goto 4, 3)) (h4 : decode cc (pc + 7) = .ok (.iconst 0, 1))  (k : WW X P z h kc ns (pc + 8) lv (.int (bI b) :: st)) : WW X P z h kc ns pc lv (.int (bI b) :: st) := by
  refine ww_if_eq_b (tgt := pc + 7) C h1 (by omega) (fun q => ?_) (fun q => ?_)
  · exact ww_iconst (v := bI b) C h4 (by rw [q]; rfl) k
  · refine ww_iconst (v := bI b) C h2 (by rw [q]; rfl) ?_
    exact ww_goto (tgt := pc + 8) C h3 (by omega) k
theorem ww_tern_ne_b (C : Cx X cc nL own mn ret hh d) {b : Bool} (h1 : decode cc pc = .ok (.ifCond .ne 7, 3)) (h2 : decode cc (pc + 3) = .ok (.iconst 1, 1)) (h3 : decode cc (pc + 4) = .ok (.goto 4, 3)) (h4 : decode cc (pc + 7) = .ok (.iconst 0, 1))  (k : WW X P z h kc ns (pc + 8) lv (.int (bI (!b)) :: st)) : WW X P z h kc ns pc lv (.int (bI b) :: st) := by
  refine ww_if_ne_b (tgt := pc + 7) C h1 (by omega) (fun q => ?_) (fun q => ?_)
  · exact ww_iconst (v := bI (!b)) C h4 (by rw [q]; rfl) k
  · refine ww_iconst (v := bI (!b)) C h2 (by rw [q]; rfl) ?_
    exact ww_goto (tgt := pc + 8) C h3 (by omega) k
theorem ww_tern_icmp_eq_n (C : Cx X cc nL own mn ret hh d) {a b : Nat} (h1 : decode cc pc = .ok (.if_icmp .eq 7, 3)) (h2 : decode cc (pc + 3) = .ok (.iconst 1, 1)) (h3 : decode cc (pc + 4) = .ok (.goto 4, 3)) (h4 : decode cc (pc + 7) = .ok (.iconst 0, 1)) (ha : a < 2 ^ 31) (hb : b < 2 ^ 31) (k : WW X P z h kc ns (pc + 8) lv (.int (bI (decide (a ≠ b))) :: st)) : WW X P z h kc ns pc lv (.int (nI b) :: .int (nI a) :: st) := by
  refine ww_icmp_eq_n (tgt := pc + 7) C h1 (by omega) ha hb (fun q => ?_) (fun q => ?_)
  · exact ww_iconst (v := bI (decide (a ≠ b))) C h4 (by rw [show decide (a ≠ b) = false from decide_eq_false (by omega)]; rfl) k
  · refine ww_iconst (v := bI (decide (a ≠ b))) C h2 (by rw [show decide (a ≠ b) = true from decide_eq_true (by omega)]; rfl) ?_
    exact ww_goto (tgt := pc + 8) C h3 (by omega) k
theorem ww_tern_icmp_ne_n (C : Cx X cc nL own mn ret hh d) {a b : Nat} (h1 : decode cc pc = .ok (.if_icmp .ne 7, 3)) (h2 : decode cc (pc + 3) = .ok (.iconst 1, 1)) (h3 : decode cc (pc + 4) = .ok (.goto 4, 3)) (h4 : decode cc (pc + 7) = .ok (.iconst 0, 1)) (ha : a < 2 ^ 31) (hb : b < 2 ^ 31) (k : WW X P z h kc ns (pc + 8) lv (.int (bI (decide (a = b))) :: st)) : WW X P z h kc ns pc lv (.int (nI b) :: .int (nI a) :: st) := by
  refine ww_icmp_ne_n (tgt := pc + 7) C h1 (by omega) ha hb (fun q => ?_) (fun q => ?_)
  · exact ww_iconst (v := bI (decide (a = b))) C h4 (by rw [show decide (a = b) = false from decide_eq_false (by omega)]; rfl) k
  · refine ww_iconst (v := bI (decide (a = b))) C h2 (by rw [show decide (a = b) = true from decide_eq_true (by omega)]; rfl) ?_
    exact ww_goto (tgt := pc + 8) C h3 (by omega) k
theorem ww_tern_icmp_lt_n (C : Cx X cc nL own mn ret hh d) {a b : Nat} (h1 : decode cc pc = .ok (.if_icmp .lt 7, 3)) (h2 : decode cc (pc + 3) = .ok (.iconst 1, 1)) (h3 : decode cc (pc + 4) = .ok (.goto 4, 3)) (h4 : decode cc (pc + 7) = .ok (.iconst 0, 1)) (ha : a < 2 ^ 31) (hb : b < 2 ^ 31) (k : WW X P z h kc ns (pc + 8) lv (.int (bI (decide (b ≤ a))) :: st)) : WW X P z h kc ns pc lv (.int (nI b) :: .int (nI a) :: st) := by
  refine ww_icmp_lt_n (tgt := pc + 7) C h1 (by omega) ha hb (fun q => ?_) (fun q => ?_)
  · exact ww_iconst (v := bI (decide (b ≤ a))) C h4 (by rw [show decide (b ≤ a) = false from decide_eq_false (by omega)]; rfl) k
  · refine ww_iconst (v := bI (decide (b ≤ a))) C h2 (by rw [show decide (b ≤ a) = true from decide_eq_true (by omega)]; rfl) ?_
    exact ww_goto (tgt := pc + 8) C h3 (by omega) k
theorem ww_tern_icmp_ge_n (C : Cx X cc nL own mn ret hh d) {a b : Nat} (h1 : decode cc pc = .ok (.if_icmp .ge 7, 3)) (h2 : decode cc (pc + 3) = .ok (.iconst 1, 1)) (h3 : decode cc (pc + 4) = .ok (.goto 4, 3)) (h4 : decode cc (pc + 7) = .ok (.iconst 0, 1)) (ha : a < 2 ^ 31) (hb : b < 2 ^ 31) (k : WW X P z h kc ns (pc + 8) lv (.int (bI (decide (a < b))) :: st)) : WW X P z h kc ns pc lv (.int (nI b) :: .int (nI a) :: st) := by
  refine ww_icmp_ge_n (tgt := pc + 7) C h1 (by omega) ha hb (fun q => ?_) (fun q => ?_)
  · exact ww_iconst (v := bI (decide (a < b))) C h4 (by rw [show decide (a < b) = false from decide_eq_false (by omega)]; rfl) k
  · refine ww_iconst (v := bI (decide (a < b))) C h2 (by rw [show decide (a < b) = true from decide_eq_true (by omega)]; rfl) ?_
    exact ww_goto (tgt := pc + 8) C h3 (by omega) k
theorem ww_tern_icmp_gt_n (C : Cx X cc nL own mn ret hh d) {a b : Nat} (h1 : decode cc pc = .ok (.if_icmp .gt 7, 3)) (h2 : decode cc (pc + 3) = .ok (.iconst 1, 1)) (h3 : decode cc (pc + 4) = .ok (.goto 4, 3)) (h4 : decode cc (pc + 7) = .ok (.iconst 0, 1)) (ha : a < 2 ^ 31) (hb : b < 2 ^ 31) (k : WW X P z h kc ns (pc + 8) lv (.int (bI (decide (a ≤ b))) :: st)) : WW X P z h kc ns pc lv (.int (nI b) :: .int (nI a) :: st) := by
  refine ww_icmp_gt_n (tgt := pc + 7) C h1 (by omega) ha hb (fun q => ?_) (fun q => ?_)
  · exact ww_iconst (v := bI (decide (a ≤ b))) C h4 (by rw [show decide (a ≤ b) = false from decide_eq_false (by omega)]; rfl) k
  · refine ww_iconst (v := bI (decide (a ≤ b))) C h2 (by rw [show decide (a ≤ b) = true from decide_eq_true (by omega)]; rfl) ?_
    exact ww_goto (tgt := pc + 8) C h3 (by omega) k
theorem ww_tern_icmp_le_n (C : Cx X cc nL own mn ret hh d) {a b : Nat} (h1 : decode cc pc = .ok (.if_icmp .le 7, 3)) (h2 : decode cc (pc + 3) = .ok (.iconst 1, 1)) (h3 : decode cc (pc + 4) = .ok (.goto 4, 3)) (h4 : decode cc (pc + 7) = .ok (.iconst 0, 1)) (ha : a < 2 ^ 31) (hb : b < 2 ^ 31) (k : WW X P z h kc ns (pc + 8) lv (.int (bI (decide (b < a))) :: st)) : WW X P z h kc ns pc lv (.int (nI b) :: .int (nI a) :: st) := by
  refine ww_icmp_le_n (tgt := pc + 7) C h1 (by omega) ha hb (fun q => ?_) (fun q => ?_)
  · exact ww_iconst (v := bI (decide (b < a))) C h4 (by rw [show decide (b < a) = false from decide_eq_false (by omega)]; rfl) k
  · refine ww_iconst (v := bI (decide (b < a))) C h2 (by rw [show decide (b < a) = true from decide_eq_true (by omega)]; rfl) ?_
    exact ww_goto (tgt := pc + 8) C h3 (by omega) k
theorem ww_tern_if_eq_n (C : Cx X cc nL own mn ret hh d) {a : Nat} (h1 : decode cc pc = .ok (.ifCond .eq 7, 3)) (h2 : decode cc (pc + 3) = .ok (.iconst 1, 1)) (h3 : decode cc (pc + 4) = .ok (.goto 4, 3)) (h4 : decode cc (pc + 7) = .ok (.iconst 0, 1)) (ha : a < 2 ^ 31) (k : WW X P z h kc ns (pc + 8) lv (.int (bI (decide (0 < a))) :: st)) : WW X P z h kc ns pc lv (.int (nI a) :: st) := by
  refine ww_if_eq_n (tgt := pc + 7) C h1 (by omega) ha (fun q => ?_) (fun q => ?_)
  · exact ww_iconst (v := bI (decide (0 < a))) C h4 (by rw [show decide (0 < a) = false from decide_eq_false (by omega)]; rfl) k
  · refine ww_iconst (v := bI (decide (0 < a))) C h2 (by rw [show decide (0 < a) = true from decide_eq_true (by omega)]; rfl) ?_
    exact ww_goto (tgt := pc + 8) C h3 (by omega) k
theorem ww_tern_if_ne_n (C : Cx X cc nL own mn ret hh d) {a : Nat} (h1 : decode cc pc = .ok (.ifCond .ne 7, 3)) (h2 : decode cc (pc + 3) = .ok (.iconst 1, 1)) (h3 : decode cc (pc + 4) = .ok (.goto 4, 3)) (h4 : decode cc (pc + 7) = .ok (.iconst 0, 1)) (ha : a < 2 ^ 31) (k : WW X P z h kc ns (pc + 8) lv (.int (bI (decide (a = 0))) :: st)) : WW X P z h kc ns pc lv (.int (nI a) :: st) := by
  refine ww_if_ne_n (tgt := pc + 7) C h1 (by omega) ha (fun q => ?_) (fun q => ?_)
  · exact ww_iconst (v := bI (decide (a = 0))) C h4 (by rw [show decide (a = 0) = false from decide_eq_false (by omega)]; rfl) k
  · refine ww_iconst (v := bI (decide (a = 0))) C h2 (by rw [show decide (a = 0) = true from decide_eq_true (by omega)]; rfl) ?_
    exact ww_goto (tgt := pc + 8) C h3 (by omega) k
theorem ww_tern_if_gt_n (C : Cx X cc nL own mn ret hh d) {a : Nat} (h1 : decode cc pc = .ok (.ifCond .gt 7, 3)) (h2 : decode cc (pc + 3) = .ok (.iconst 1, 1)) (h3 : decode cc (pc + 4) = .ok (.goto 4, 3)) (h4 : decode cc (pc + 7) = .ok (.iconst 0, 1)) (ha : a < 2 ^ 31) (k : WW X P z h kc ns (pc + 8) lv (.int (bI (decide (a = 0))) :: st)) : WW X P z h kc ns pc lv (.int (nI a) :: st) := by
  refine ww_if_gt_n (tgt := pc + 7) C h1 (by omega) ha (fun q => ?_) (fun q => ?_)
  · exact ww_iconst (v := bI (decide (a = 0))) C h4 (by rw [show decide (a = 0) = false from decide_eq_false (by omega)]; rfl) k
  · refine ww_iconst (v := bI (decide (a = 0))) C h2 (by rw [show decide (a = 0) = true from decide_eq_true (by omega)]; rfl) ?_
    exact ww_goto (tgt := pc + 8) C h3 (by omega) k
theorem ww_tern_if_le_n (C : Cx X cc nL own mn ret hh d) {a : Nat} (h1 : decode cc pc = .ok (.ifCond .le 7, 3)) (h2 : decode cc (pc + 3) = .ok (.iconst 1, 1)) (h3 : decode cc (pc + 4) = .ok (.goto 4, 3)) (h4 : decode cc (pc + 7) = .ok (.iconst 0, 1)) (ha : a < 2 ^ 31) (k : WW X P z h kc ns (pc + 8) lv (.int (bI (decide (0 < a))) :: st)) : WW X P z h kc ns pc lv (.int (nI a) :: st) := by
  refine ww_if_le_n (tgt := pc + 7) C h1 (by omega) ha (fun q => ?_) (fun q => ?_)
  · exact ww_iconst (v := bI (decide (0 < a))) C h4 (by rw [show decide (0 < a) = false from decide_eq_false (by omega)]; rfl) k
  · refine ww_iconst (v := bI (decide (0 < a))) C h2 (by rw [show decide (0 < a) = true from decide_eq_true (by omega)]; rfl) ?_
    exact ww_goto (tgt := pc + 8) C h3 (by omega) k
theorem ww_tern_icmp_eq_o (C : Cx X cc nL own mn ret hh d) {o : Option Nat} (h1 : decode cc pc = .ok (.if_icmp .eq 7, 3)) (h2 : decode cc (pc + 3) = .ok (.iconst 1, 1)) (h3 : decode cc (pc + 4) = .ok (.goto 4, 3)) (h4 : decode cc (pc + 7) = .ok (.iconst 0, 1)) (ho : ∀ n, o = some n → n < 2 ^ 31) (k : WW X P z h kc ns (pc + 8) lv (.int (bI o.isSome) :: st)) : WW X P z h kc ns pc lv (.int (-1) :: .int (oI o) :: st) := by
  refine ww_icmp_eq_o (tgt := pc + 7) C h1 (by omega) ho (fun q => ?_) (fun q => ?_)
  · exact ww_iconst (v := bI o.isSome) C h4 (by rw [q]; rfl) k
  · refine ww_iconst (v := bI o.isSome) C h2 (by rw [show o.isSome = true from Option.isSome_iff_ne_none.mpr q]; rfl) ?_
    exact ww_goto (tgt := pc + 8) C h3 (by omega) k
theorem ww_tern_icmp_ne_o (C : Cx X cc nL own mn ret hh d) {o : Option Nat} (h1 : decode cc pc = .ok (.if_icmp .ne 7, 3)) (h2 : decode cc (pc + 3) = .ok (.iconst 1, 1)) (h3 : decode cc (pc + 4) = .ok (.goto 4, 3)) (h4 : decode cc (pc + 7) = .ok (.iconst 0, 1)) (ho : ∀ n, o = some n → n < 2 ^ 31) (k : WW X P z h kc ns (pc + 8) lv (.int (bI o.isNone) :: st)) : WW X P z h kc ns pc lv (.int (-1) :: .int (oI o) :: st) := by
  refine ww_icmp_ne_o (tgt := pc + 7) C h1 (by omega) ho (fun q => ?_) (fun q => ?_)
  · exact ww_iconst (v := bI o.isNone) C h4 (by rw [show o.isNone = false from by cases o; exact absurd rfl q; rfl]; rfl) k
  · refine ww_iconst (v := bI o.isNone) C h2 (by rw [q]; rfl) ?_
    exact ww_goto (tgt := pc + 8) C h3 (by omega) k
end WT
theorem rc_X1 {Γ : Gm} (hΓ : GOK Γ) {z : ZR} {h : AH} {b : Nat} {fs : List Value} (hr : rd z h b (.inr (0, fs))) : rcv Γ z h b "RingDomino" := rcv.of hΓ (ci := 0) (T := TX1) (N := 4) rfl hr
theorem rc_X2 {Γ : Gm} (hΓ : GOK Γ) {z : ZR} {h : AH} {b : Nat} {fs : List Value} (hr : rd z h b (.inr (1, fs))) : rcv Γ z h b "RingDomino$Tape" := rcv.of hΓ (ci := 1) (T := TX2) (N := 2) rfl hr
theorem rc_X3 {Γ : Gm} (hΓ : GOK Γ) {z : ZR} {h : AH} {b : Nat} {fs : List Value} (hr : rd z h b (.inr (2, fs))) : rcv Γ z h b "RingDomino$Game" := rcv.of hΓ (ci := 2) (T := TX3) (N := 9) rfl hr
theorem rc_X4 {Γ : Gm} (hΓ : GOK Γ) {z : ZR} {h : AH} {b : Nat} {fs : List Value} (hr : rd z h b (.inr (3, fs))) : rcv Γ z h b "RingDominoModel" := rcv.of hΓ (ci := 3) (T := TX4) (N := 24) rfl hr
theorem rc_X5 {Γ : Gm} (hΓ : GOK Γ) {z : ZR} {h : AH} {b : Nat} {fs : List Value} (hr : rd z h b (.inr (4, fs))) : rcv Γ z h b "RingDominoModel$Told" := rcv.of hΓ (ci := 4) (T := TX5) (N := 15) rfl hr
theorem rc_X6 {Γ : Gm} (hΓ : GOK Γ) {z : ZR} {h : AH} {b : Nat} {fs : List Value} (hr : rd z h b (.inr (5, fs))) : rcv Γ z h b "RingDominoModel$State" := rcv.of hΓ (ci := 5) (T := TX6) (N := 5) rfl hr
theorem rc_X7 {Γ : Gm} (hΓ : GOK Γ) {z : ZR} {h : AH} {b : Nat} {fs : List Value} (hr : rd z h b (.inr (6, fs))) : rcv Γ z h b "RingDomino$Reader" := rcv.of hΓ (ci := 6) (T := TX7) (N := 6) rfl hr
theorem rc_X8 {Γ : Gm} (hΓ : GOK Γ) {z : ZR} {h : AH} {b : Nat} {fs : List Value} (hr : rd z h b (.inr (7, fs))) : rcv Γ z h b "RingDomino$Scanner" := rcv.of hΓ (ci := 7) (T := TX8) (N := 2) rfl hr
theorem rc_X9 {Γ : Gm} (hΓ : GOK Γ) {z : ZR} {h : AH} {b : Nat} {fs : List Value} (hr : rd z h b (.inr (8, fs))) : rcv Γ z h b "RingDomino$Token" := rcv.of hΓ (ci := 8) (T := TX9) (N := 3) rfl hr
theorem rc_X10 {Γ : Gm} (hΓ : GOK Γ) {z : ZR} {h : AH} {b : Nat} {fs : List Value} (hr : rd z h b (.inr (9, fs))) : rcv Γ z h b "RingDomino$Fault" := rcv.of hΓ (ci := 9) (T := TX10) (N := 8) rfl hr
theorem rc_X11 {Γ : Gm} (hΓ : GOK Γ) {z : ZR} {h : AH} {b : Nat} {fs : List Value} (hr : rd z h b (.inr (10, fs))) : rcv Γ z h b "RingDomino$Tile" := rcv.of hΓ (ci := 10) (T := TX11) (N := 1) rfl hr
theorem rc_X13 {Γ : Gm} (hΓ : GOK Γ) {z : ZR} {h : AH} {b : Nat} {fs : List Value} (hr : rd z h b (.inr (11, fs))) : rcv Γ z h b "RingDomino$Plain" := rcv.of hΓ (ci := 11) (T := TX13) (N := 1) rfl hr
theorem rc_X14 {Γ : Gm} (hΓ : GOK Γ) {z : ZR} {h : AH} {b : Nat} {fs : List Value} (hr : rd z h b (.inr (12, fs))) : rcv Γ z h b "RingDomino$Asked" := rcv.of hΓ (ci := 12) (T := TX14) (N := 2) rfl hr
theorem rc_X15 {Γ : Gm} (hΓ : GOK Γ) {z : ZR} {h : AH} {b : Nat} {fs : List Value} (hr : rd z h b (.inr (13, fs))) : rcv Γ z h b "RingDomino$Turned" := rcv.of hΓ (ci := 13) (T := TX15) (N := 1) rfl hr
theorem rc_X16 {Γ : Gm} (hΓ : GOK Γ) {z : ZR} {h : AH} {b : Nat} {fs : List Value} (hr : rd z h b (.inr (14, fs))) : rcv Γ z h b "RingDomino$Joined" := rcv.of hΓ (ci := 14) (T := TX16) (N := 3) rfl hr
theorem rc_X17 {Γ : Gm} (hΓ : GOK Γ) {z : ZR} {h : AH} {b : Nat} {fs : List Value} (hr : rd z h b (.inr (15, fs))) : rcv Γ z h b "RingDomino$Order" := rcv.of hΓ (ci := 15) (T := TX17) (N := 6) rfl hr
theorem rc_X18 {Γ : Gm} (hΓ : GOK Γ) {z : ZR} {h : AH} {b : Nat} {fs : List Value} (hr : rd z h b (.inr (16, fs))) : rcv Γ z h b "RingDomino$Several" := rcv.of hΓ (ci := 16) (T := TX18) (N := 2) rfl hr
theorem rc_X19 {Γ : Gm} (hΓ : GOK Γ) {z : ZR} {h : AH} {b : Nat} {fs : List Value} (hr : rd z h b (.inr (17, fs))) : rcv Γ z h b "RingDomino$Denied" := rcv.of hΓ (ci := 17) (T := TX19) (N := 1) rfl hr
theorem rc_X20 {Γ : Gm} (hΓ : GOK Γ) {z : ZR} {h : AH} {b : Nat} {fs : List Value} (hr : rd z h b (.inr (18, fs))) : rcv Γ z h b "RingDomino$On" := rcv.of hΓ (ci := 18) (T := TX20) (N := 1) rfl hr
theorem rc_X21 {Γ : Gm} (hΓ : GOK Γ) {z : ZR} {h : AH} {b : Nat} {fs : List Value} (hr : rd z h b (.inr (19, fs))) : rcv Γ z h b "RingDomino$Fitting" := rcv.of hΓ (ci := 19) (T := TX21) (N := 1) rfl hr
theorem rc_X22 {Γ : Gm} (hΓ : GOK Γ) {z : ZR} {h : AH} {b : Nat} {fs : List Value} (hr : rd z h b (.inr (20, fs))) : rcv Γ z h b "RingDomino$Compared" := rcv.of hΓ (ci := 20) (T := TX22) (N := 3) rfl hr
theorem rc_X24 {Γ : Gm} (hΓ : GOK Γ) {z : ZR} {h : AH} {b : Nat} {fs : List Value} (hr : rd z h b (.inr (21, fs))) : rcv Γ z h b "RingDomino$Test$1" := rcv.of hΓ (ci := 21) (T := TX24) (N := 0) rfl hr
theorem rc_X25 {Γ : Gm} (hΓ : GOK Γ) {z : ZR} {h : AH} {b : Nat} {fs : List Value} (hr : rd z h b (.inr (22, fs))) : rcv Γ z h b "RingDomino$Way" := rcv.of hΓ (ci := 22) (T := TX25) (N := 2) rfl hr
theorem rc_J2 {Γ : Gm} (hΓ : GOK Γ) {z : ZR} {h : AH} {b : Nat} {fs : List Value} (hr : rd z h b (.inr (23, fs))) : rcv Γ z h b "java/util/ArrayList" := rcv.of hΓ (ci := 23) (T := TJ2) (N := 3) rfl hr
theorem rc_J10 {Γ : Gm} (hΓ : GOK Γ) {z : ZR} {h : AH} {b : Nat} {fs : List Value} (hr : rd z h b (.inr (24, fs))) : rcv Γ z h b "java/lang/StringBuilder" := rcv.of hΓ (ci := 24) (T := TJ10) (N := 4) rfl hr
theorem rc_J11 {Γ : Gm} (hΓ : GOK Γ) {z : ZR} {h : AH} {b : Nat} {fs : List Value} (hr : rd z h b (.inr (25, fs))) : rcv Γ z h b "java/lang/String" := rcv.of hΓ (ci := 25) (T := TJ11) (N := 4) rfl hr
theorem rc_J19 {Γ : Gm} (hΓ : GOK Γ) {z : ZR} {h : AH} {b : Nat} {fs : List Value} (hr : rd z h b (.inr (26, fs))) : rcv Γ z h b "java/lang/Integer" := rcv.of hΓ (ci := 26) (T := TJ19) (N := 1) rfl hr
theorem rc_J22 {Γ : Gm} (hΓ : GOK Γ) {z : ZR} {h : AH} {b : Nat} {fs : List Value} (hr : rd z h b (.inr (27, fs))) : rcv Γ z h b "java/util/HashMap" := rcv.of hΓ (ci := 27) (T := TJ22) (N := 8) rfl hr
theorem rc_J26 {Γ : Gm} (hΓ : GOK Γ) {z : ZR} {h : AH} {b : Nat} {fs : List Value} (hr : rd z h b (.inr (28, fs))) : rcv Γ z h b "java/util/HashMap$Node" := rcv.of hΓ (ci := 28) (T := TJ26) (N := 4) rfl hr
theorem rc_J28 {Γ : Gm} (hΓ : GOK Γ) {z : ZR} {h : AH} {b : Nat} {fs : List Value} (hr : rd z h b (.inr (29, fs))) : rcv Γ z h b "java/util/HashMap$TreeNode" := rcv.of hΓ (ci := 29) (T := TJ28) (N := 11) rfl hr
theorem rc_J31 {Γ : Gm} (hΓ : GOK Γ) {z : ZR} {h : AH} {b : Nat} {fs : List Value} (hr : rd z h b (.inr (30, fs))) : rcv Γ z h b "java/util/Optional" := rcv.of hΓ (ci := 30) (T := TJ31) (N := 1) rfl hr
theorem rc_J32 {Γ : Gm} (hΓ : GOK Γ) {z : ZR} {h : AH} {b : Nat} {fs : List Value} (hr : rd z h b (.inr (31, fs))) : rcv Γ z h b "java/util/ArrayList$Itr" := rcv.of hΓ (ci := 31) (T := TJ32) (N := 4) rfl hr
