section REQ
set_option maxRecDepth 100000
/-- a demand: it holds and nothing happens, or the exception is thrown -/
def RqP (z : ZR) (h : AH) (b : Bool) (cls : String) : Oc → ZR → AH → Prop := Rnx (fun z' h' => z' = z ∧ h' = h ∧ b = true) (fun E _ z' h' => E = cls ∧ z' = z ∧ h' = h ∧ b = false)
theorem thr_U : Cond.isRef (.static Bundle.tN "UNASSIGNED_STACK" Bundle.steD) ∈ flatL := by decide +kernel
theorem thr_N : Cond.isRef (.static Bundle.tN "SUPPRESSED_SENTINEL" Bundle.listD) ∈ flatL := by decide +kernel
theorem at_IAE : (∀ w ∈ vx_at0 "RingDomino" 3 "java/lang/IllegalArgumentException" ["java/lang/RuntimeException", "java/lang/Exception"], w ∈ lw_all ∨ (w ∈ lw_tbl ∧ dcW w = true)) ∧ ∀ w ∈ Cond.classLink "RingDomino" 1 "java/lang/IllegalArgumentException" :: Cond.initialized "java/lang/IllegalArgumentException" :: vx_at0 "RingDomino" 3 "java/lang/IllegalArgumentException" ["java/lang/RuntimeException", "java/lang/Exception"], vx_ot w = true := by decide +kernel
theorem at_ISE : (∀ w ∈ vx_at0 "RingDomino" 9 "java/lang/IllegalStateException" ["java/lang/RuntimeException", "java/lang/Exception"], w ∈ lw_all ∨ (w ∈ lw_tbl ∧ dcW w = true)) ∧ ∀ w ∈ Cond.classLink "RingDomino" 7 "java/lang/IllegalStateException" :: Cond.initialized "java/lang/IllegalStateException" :: vx_at0 "RingDomino" 9 "java/lang/IllegalStateException" ["java/lang/RuntimeException", "java/lang/Exception"], vx_ot w = true := by decide +kernel
set_option maxHeartbeats 2000000 in
theorem ct_X1_require {l : Launch} {Γ : Gm} (hl : l.flags = flags0) (hΓ : GOK Γ) {z : ZR} {h : AH} {b : Bool}  : Ct l Γ yX1_require cX1_require 1 none 6 1 6 [.int (bI b)] z h (RqP z h b "java/lang/IllegalArgumentException") := by
  refine Ct.of hl hΓ (by decide +kernel) (Nat.le_of_ble_eq_true rfl) (fun X e1 e2 C => ?_)
  subst e1; subst e2
  have C : Cx X cX1_require 1 "RingDomino" "require" none [] 6 := C
  show WW X (RqP z h b "java/lang/IllegalArgumentException") z h 1 6 0 [(0, .int (bI b))] []
  refine ww_iload_n C dX1_require_0 rfl 0 rfl ?_
  refine ww_if_ne_b (tgt := 12) C dX1_require_1 (by decide) (fun c_1 => ?_) (fun c_1 => ?_)
  · skip
    exact ww_vret C dX1_require_12 ⟨rfl, rfl, by first | assumption | exact c_1⟩
  · skip
    exact ww_throw0 C (cls := "java/lang/IllegalArgumentException") (names := ["java/lang/RuntimeException", "java/lang/Exception"]) thr_U thr_N q546 q548 q109 (by decide) (by decide) q2534 q113 at_IAE.1 at_IAE.2 dX1_require_4 dX1_require_7 dX1_require_8 dX1_require_11 (fun x hx => nomatch hx) (by decide) (by decide) (by decide) (by decide) (fun q => ⟨rfl, rfl, rfl, by first | assumption | exact c_1⟩)
set_option maxHeartbeats 2000000 in
theorem ct_X1_requireState {l : Launch} {Γ : Gm} (hl : l.flags = flags0) (hΓ : GOK Γ) {z : ZR} {h : AH} {b : Bool}  : Ct l Γ yX1_requireState cX1_requireState 1 none 6 1 6 [.int (bI b)] z h (RqP z h b "java/lang/IllegalStateException") := by
  refine Ct.of hl hΓ (by decide +kernel) (Nat.le_of_ble_eq_true rfl) (fun X e1 e2 C => ?_)
  subst e1; subst e2
  have C : Cx X cX1_requireState 1 "RingDomino" "requireState" none [] 6 := C
  show WW X (RqP z h b "java/lang/IllegalStateException") z h 1 6 0 [(0, .int (bI b))] []
  refine ww_iload_n C dX1_requireState_0 rfl 0 rfl ?_
  refine ww_if_ne_b (tgt := 12) C dX1_requireState_1 (by decide) (fun c_1 => ?_) (fun c_1 => ?_)
  · skip
    exact ww_vret C dX1_requireState_12 ⟨rfl, rfl, by first | assumption | exact c_1⟩
  · skip
    exact ww_throw0 C (cls := "java/lang/IllegalStateException") (names := ["java/lang/RuntimeException", "java/lang/Exception"]) thr_U thr_N q546 q548 q109 (by decide) (by decide) q2501 q112 at_ISE.1 at_ISE.2 dX1_requireState_4 dX1_requireState_7 dX1_requireState_8 dX1_requireState_11 (fun x hx => nomatch hx) (by decide) (by decide) (by decide) (by decide) (fun q => ⟨rfl, rfl, rfl, by first | assumption | exact c_1⟩)
end REQ
