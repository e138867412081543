section LAW4
set_option maxRecDepth 100000
set_option maxHeartbeats 2000000 in
theorem lwc_3 {X : XT} {P : Oc → ZR → AH → Prop} {z : ZR} {h : AH} {kc ns d : Nat} {a m o b L i : Nat} {xs : Nat → Int32} (C : Cx X cL_law 9 "RingDominoLaw" "law" (some .boolean) [] d) (hd0 : 2100 ≤ d) (hz : zle (cst (xG X)) z) (hI : LwI (xG X) z h a m o) (hs : va_X b L xs (gS (xG X)) (gS (xG X)).heap) (hbs : b < gN (xG X)) (hi : i + 6 ≤ L) (hL : L ≤ 384) (hk : 9390 ≤ kc) (hn : 113000 ≤ ns) (kk : ∀ z' h', zle (cst (xG X)) z' → LwI (xG X) z' h' a m o → WW X P z' h' (kc - 9390) (ns - 113000) 1827 [(4, .int (nI i)), (3, .ref o), (2, .ref m), (1, .ref a), (0, .ref b)] []) : WW X P z h kc ns 377 [(4, .int (nI i)), (3, .ref o), (2, .ref m), (1, .ref a), (0, .ref b)] [] := by
  obtain ⟨tp, ba, g, ah, A, D, er, t, B, rn, T, Dm, M, f, hCo, hm, hX, hb, hT, hrn, hV, her, Ho, hdj, hno⟩ := hI
  subst hm
  obtain ⟨fb, G, dn, N, Ha, hTp, hTo, hM, hC, hS, hR, hG2, hN, hO, hAh, hd2, hd3⟩ := id hCo
  have hB := hC.1
  have hG := GmM.p hz hM
  have Ho : h o = some (.inl (gA (xG X) 2, (1, .inr (.inl f)))) := Ho
  have hzz := BO.z hB
  have hbt := hB.2.1
  have hto : ∀ q, fpC (xG X) a tp ba g ah A D q → q ≠ o := fun q f e => hno (e ▸ f)
  have fa : fpC (xG X) a tp ba g ah A D a := Or.inl rfl
  have fg : ∀ q, fpG (xG X) g A q → fpC (xG X) a tp ba g ah A D q := fun q f => Or.inr (Or.inr (Or.inr (Or.inl f)))
  have f4 : fpG (xG X) g A (A 4) := Or.inr (Or.inr (Or.inr (Or.inl rfl)))
  have na4 : a ≠ A 4 := fun e => (hd3 a (Or.inl rfl)).1 (e ▸ f4)
  have nag : a ≠ g := fun e => (hd3 a (Or.inl rfl)).1 (Or.inl e)
  have no4 : o ≠ A 4 := fun e => hno (fg _ (e ▸ f4))
  have nog : o ≠ g := fun e => hno (fg _ (Or.inl e))
  refine ww_ow0 hz (fun ow0 => ?_)
  have na6 : a ≠ A 6 := fun e => (hd3 a (Or.inl rfl)).1 (Or.inr (Or.inr (Or.inr (Or.inr (Or.inr (Or.inr ⟨Or.inr (Or.inr (Or.inl e)), ow0 _ _ Ha⟩))))))
  have no6 : o ≠ A 6 := fun e => hno (fg _ (Or.inr (Or.inr (Or.inr (Or.inr (Or.inr (Or.inr ⟨Or.inr (Or.inr (Or.inl e)), ow0 _ _ Ho⟩)))))))
  have na8 : a ≠ A 8 := fun e => (hd3 a (Or.inl rfl)).1 (Or.inr (Or.inr (Or.inr (Or.inr (Or.inr (Or.inr ⟨Or.inr (Or.inr (Or.inr e)), ow0 _ _ Ha⟩))))))
  have no8 : o ≠ A 8 := fun e => hno (fg _ (Or.inr (Or.inr (Or.inr (Or.inr (Or.inr (Or.inr ⟨Or.inr (Or.inr (Or.inr e)), ow0 _ _ Ho⟩)))))))
  refine ww_lv (lv' := [(4, .int (nI i)), (3, .ref o), (2, .ref (Dm 0)), (1, .ref a), (0, .ref b)]) rfl ?_
  show WW X P z h kc ns 377 [(4, .int (nI i)), (3, .ref o), (2, .ref (Dm 0)), (1, .ref a), (0, .ref b)] []
  refine ww_aload_n C dL_law_377 rfl 3 rfl rfl ?_
  refine cv_X0_109_r (As := []) (rest := []) C dL_law_378 (ct_X1_errorAt (Cx.fl C) (Cx.ok C) hz (Or.inl Ha) hG hB) (rc_X1 (Cx.ok C) (Or.inl Ha)) rfl rfl (Nat.le_of_ble_eq_true rfl) (by omega) (by omega) (by omega) ?_
  refine ww_le (kc' := kc - 9390) (ns' := ns - 113000) (by omega) (by omega) ?_
  have hFo : ∀ q, q ≠ o → h q = h q := fun _ _ => rfl
  refine ww_aload_n C dL_law_381 rfl 2 rfl rfl ?_
  have hXa : Mx (xG X) h Dm M := ⟨fun j hj => by rw [hFo _ (hdj j hj).2]; exact hX.1 j hj, hX.2⟩
  refine cv_X0_112_q (As := []) (rest := [.int er]) C dL_law_382 (ct_X4_errorAt (Cx.fl C) (Cx.ok C) hz hXa hb hC) (rc_X4 (Cx.ok C) (Or.inl hXa.m)) rfl rfl (Nat.le_of_ble_eq_true rfl) (by omega) (Nat.zero_le _) (Nat.zero_le _) (fun v8 z8 k8 q8 => ?_)
  obtain ⟨hv8, hz8, M8, hg8, ht8, hX8, hF8⟩ := q8; replace hz8 := hz8.symm; subst hz8; subst hv8
  have hI8 : LwI (xG X) z k8 a (Dm 0) o := LwI.rd hCo hb hT hrn hV her hdj hno hFo Ho hg8 hX8 hF8
  refine ww_icmp_eq_t (tgt := 1827) C dL_law_385 (by decide) her.symm ?_
  exact ww_le (by omega) (by omega) (kk _ _ hz hI8)
set_option maxHeartbeats 2000000 in
theorem lwc_4 {X : XT} {P : Oc → ZR → AH → Prop} {z : ZR} {h : AH} {kc ns d : Nat} {a m o b L i : Nat} {xs : Nat → Int32} (C : Cx X cL_law 9 "RingDominoLaw" "law" (some .boolean) [] d) (hd0 : 2100 ≤ d) (hz : zle (cst (xG X)) z) (hI : LwI (xG X) z h a m o) (hs : va_X b L xs (gS (xG X)) (gS (xG X)).heap) (hbs : b < gN (xG X)) (hi : i + 6 ≤ L) (hL : L ≤ 384) (hk : 9390 ≤ kc) (hn : 113000 ≤ ns) (kk : ∀ z' h', zle (cst (xG X)) z' → LwI (xG X) z' h' a m o → WW X P z' h' (kc - 9390) (ns - 113000) 1827 [(4, .int (nI i)), (3, .ref o), (2, .ref m), (1, .ref a), (0, .ref b)] []) : WW X P z h kc ns 390 [(4, .int (nI i)), (3, .ref o), (2, .ref m), (1, .ref a), (0, .ref b)] [] := by
  obtain ⟨tp, ba, g, ah, A, D, er, t, B, rn, T, Dm, M, f, hCo, hm, hX, hb, hT, hrn, hV, her, Ho, hdj, hno⟩ := hI
  subst hm
  obtain ⟨fb, G, dn, N, Ha, hTp, hTo, hM, hC, hS, hR, hG2, hN, hO, hAh, hd2, hd3⟩ := id hCo
  have hB := hC.1
  have hG := GmM.p hz hM
  have Ho : h o = some (.inl (gA (xG X) 2, (1, .inr (.inl f)))) := Ho
  have hzz := BO.z hB
  have hbt := hB.2.1
  have hto : ∀ q, fpC (xG X) a tp ba g ah A D q → q ≠ o := fun q f e => hno (e ▸ f)
  have fa : fpC (xG X) a tp ba g ah A D a := Or.inl rfl
  have fg : ∀ q, fpG (xG X) g A q → fpC (xG X) a tp ba g ah A D q := fun q f => Or.inr (Or.inr (Or.inr (Or.inl f)))
  have f4 : fpG (xG X) g A (A 4) := Or.inr (Or.inr (Or.inr (Or.inl rfl)))
  have na4 : a ≠ A 4 := fun e => (hd3 a (Or.inl rfl)).1 (e ▸ f4)
  have nag : a ≠ g := fun e => (hd3 a (Or.inl rfl)).1 (Or.inl e)
  have no4 : o ≠ A 4 := fun e => hno (fg _ (e ▸ f4))
  have nog : o ≠ g := fun e => hno (fg _ (Or.inl e))
  refine ww_ow0 hz (fun ow0 => ?_)
  have na6 : a ≠ A 6 := fun e => (hd3 a (Or.inl rfl)).1 (Or.inr (Or.inr (Or.inr (Or.inr (Or.inr (Or.inr ⟨Or.inr (Or.inr (Or.inl e)), ow0 _ _ Ha⟩))))))
  have no6 : o ≠ A 6 := fun e => hno (fg _ (Or.inr (Or.inr (Or.inr (Or.inr (Or.inr (Or.inr ⟨Or.inr (Or.inr (Or.inl e)), ow0 _ _ Ho⟩)))))))
  have na8 : a ≠ A 8 := fun e => (hd3 a (Or.inl rfl)).1 (Or.inr (Or.inr (Or.inr (Or.inr (Or.inr (Or.inr ⟨Or.inr (Or.inr (Or.inr e)), ow0 _ _ Ha⟩))))))
  have no8 : o ≠ A 8 := fun e => hno (fg _ (Or.inr (Or.inr (Or.inr (Or.inr (Or.inr (Or.inr ⟨Or.inr (Or.inr (Or.inr e)), ow0 _ _ Ho⟩)))))))
  refine ww_lv (lv' := [(4, .int (nI i)), (3, .ref o), (2, .ref (Dm 0)), (1, .ref a), (0, .ref b)]) rfl ?_
  show WW X P z h kc ns 390 [(4, .int (nI i)), (3, .ref o), (2, .ref (Dm 0)), (1, .ref a), (0, .ref b)] []
  refine ww_aload_n C dL_law_390 rfl 3 rfl rfl ?_
  refine cv_X0_113_r (As := []) (rest := []) C dL_law_391 (ct_X1_columns (Cx.fl C) (Cx.ok C) hz (Or.inl Ha) hG hB) (rc_X1 (Cx.ok C) (Or.inl Ha)) rfl rfl (Nat.le_of_ble_eq_true rfl) (by omega) (by omega) (by omega) ?_
  refine ww_le (kc' := kc - 9390) (ns' := ns - 113000) (by omega) (by omega) ?_
  have hFo : ∀ q, q ≠ o → h q = h q := fun _ _ => rfl
  refine ww_aload_n C dL_law_394 rfl 2 rfl rfl ?_
  have hXa : Mx (xG X) h Dm M := ⟨fun j hj => by rw [hFo _ (hdj j hj).2]; exact hX.1 j hj, hX.2⟩
  refine cv_X0_116_q (As := []) (rest := [.int (nI (Bc B))]) C dL_law_395 (ct_X4_columns (Cx.fl C) (Cx.ok C) hz hXa hb hC) (rc_X4 (Cx.ok C) (Or.inl hXa.m)) rfl rfl (Nat.le_of_ble_eq_true rfl) (by omega) (Nat.zero_le _) (Nat.zero_le _) (fun v8 z8 k8 q8 => ?_)
  obtain ⟨hv8, hz8, M8, hg8, ht8, hX8, hF8⟩ := q8; replace hz8 := hz8.symm; subst hz8; subst hv8
  have hI8 : LwI (xG X) z k8 a (Dm 0) o := LwI.rd hCo hb hT hrn hV her hdj hno hFo Ho hg8 hX8 hF8
  refine ww_icmp_eq_t (tgt := 1827) C dL_law_398 (by decide) rfl ?_
  exact ww_le (by omega) (by omega) (kk _ _ hz hI8)
set_option maxHeartbeats 2000000 in
theorem lwc_5 {X : XT} {P : Oc → ZR → AH → Prop} {z : ZR} {h : AH} {kc ns d : Nat} {a m o b L i : Nat} {xs : Nat → Int32} (C : Cx X cL_law 9 "RingDominoLaw" "law" (some .boolean) [] d) (hd0 : 2100 ≤ d) (hz : zle (cst (xG X)) z) (hI : LwI (xG X) z h a m o) (hs : va_X b L xs (gS (xG X)) (gS (xG X)).heap) (hbs : b < gN (xG X)) (hi : i + 6 ≤ L) (hL : L ≤ 384) (hk : 9390 ≤ kc) (hn : 113000 ≤ ns) (kk : ∀ z' h', zle (cst (xG X)) z' → LwI (xG X) z' h' a m o → WW X P z' h' (kc - 9390) (ns - 113000) 1827 [(4, .int (nI i)), (3, .ref o), (2, .ref m), (1, .ref a), (0, .ref b)] []) : WW X P z h kc ns 403 [(4, .int (nI i)), (3, .ref o), (2, .ref m), (1, .ref a), (0, .ref b)] [] := by
  obtain ⟨tp, ba, g, ah, A, D, er, t, B, rn, T, Dm, M, f, hCo, hm, hX, hb, hT, hrn, hV, her, Ho, hdj, hno⟩ := hI
  subst hm
  obtain ⟨fb, G, dn, N, Ha, hTp, hTo, hM, hC, hS, hR, hG2, hN, hO, hAh, hd2, hd3⟩ := id hCo
  have hB := hC.1
  have hG := GmM.p hz hM
  have Ho : h o = some (.inl (gA (xG X) 2, (1, .inr (.inl f)))) := Ho
  have hzz := BO.z hB
  have hbt := hB.2.1
  have hto : ∀ q, fpC (xG X) a tp ba g ah A D q → q ≠ o := fun q f e => hno (e ▸ f)
  have fa : fpC (xG X) a tp ba g ah A D a := Or.inl rfl
  have fg : ∀ q, fpG (xG X) g A q → fpC (xG X) a tp ba g ah A D q := fun q f => Or.inr (Or.inr (Or.inr (Or.inl f)))
  have f4 : fpG (xG X) g A (A 4) := Or.inr (Or.inr (Or.inr (Or.inl rfl)))
  have na4 : a ≠ A 4 := fun e => (hd3 a (Or.inl rfl)).1 (e ▸ f4)
  have nag : a ≠ g := fun e => (hd3 a (Or.inl rfl)).1 (Or.inl e)
  have no4 : o ≠ A 4 := fun e => hno (fg _ (e ▸ f4))
  have nog : o ≠ g := fun e => hno (fg _ (Or.inl e))
  refine ww_ow0 hz (fun ow0 => ?_)
  have na6 : a ≠ A 6 := fun e => (hd3 a (Or.inl rfl)).1 (Or.inr (Or.inr (Or.inr (Or.inr (Or.inr (Or.inr ⟨Or.inr (Or.inr (Or.inl e)), ow0 _ _ Ha⟩))))))
  have no6 : o ≠ A 6 := fun e => hno (fg _ (Or.inr (Or.inr (Or.inr (Or.inr (Or.inr (Or.inr ⟨Or.inr (Or.inr (Or.inl e)), ow0 _ _ Ho⟩)))))))
  have na8 : a ≠ A 8 := fun e => (hd3 a (Or.inl rfl)).1 (Or.inr (Or.inr (Or.inr (Or.inr (Or.inr (Or.inr ⟨Or.inr (Or.inr (Or.inr e)), ow0 _ _ Ha⟩))))))
  have no8 : o ≠ A 8 := fun e => hno (fg _ (Or.inr (Or.inr (Or.inr (Or.inr (Or.inr (Or.inr ⟨Or.inr (Or.inr (Or.inr e)), ow0 _ _ Ho⟩)))))))
  refine ww_lv (lv' := [(4, .int (nI i)), (3, .ref o), (2, .ref (Dm 0)), (1, .ref a), (0, .ref b)]) rfl ?_
  show WW X P z h kc ns 403 [(4, .int (nI i)), (3, .ref o), (2, .ref (Dm 0)), (1, .ref a), (0, .ref b)] []
  refine ww_aload_n C dL_law_403 rfl 3 rfl rfl ?_
  refine cv_X0_117_r (As := []) (rest := []) C dL_law_404 (ct_X1_rows (Cx.fl C) (Cx.ok C) hz (Or.inl Ha) hG hB) (rc_X1 (Cx.ok C) (Or.inl Ha)) rfl rfl (Nat.le_of_ble_eq_true rfl) (by omega) (by omega) (by omega) ?_
  refine ww_le (kc' := kc - 9390) (ns' := ns - 113000) (by omega) (by omega) ?_
  have hFo : ∀ q, q ≠ o → h q = h q := fun _ _ => rfl
  refine ww_aload_n C dL_law_407 rfl 2 rfl rfl ?_
  have hXa : Mx (xG X) h Dm M := ⟨fun j hj => by rw [hFo _ (hdj j hj).2]; exact hX.1 j hj, hX.2⟩
  refine cv_X0_120_q (As := []) (rest := [.int (nI (Br B))]) C dL_law_408 (ct_X4_rows (Cx.fl C) (Cx.ok C) hz hXa hb hC) (rc_X4 (Cx.ok C) (Or.inl hXa.m)) rfl rfl (Nat.le_of_ble_eq_true rfl) (by omega) (Nat.zero_le _) (Nat.zero_le _) (fun v8 z8 k8 q8 => ?_)
  obtain ⟨hv8, hz8, M8, hg8, ht8, hX8, hF8⟩ := q8; replace hz8 := hz8.symm; subst hz8; subst hv8
  have hI8 : LwI (xG X) z k8 a (Dm 0) o := LwI.rd hCo hb hT hrn hV her hdj hno hFo Ho hg8 hX8 hF8
  refine ww_icmp_eq_t (tgt := 1827) C dL_law_411 (by decide) rfl ?_
  exact ww_le (by omega) (by omega) (kk _ _ hz hI8)
set_option maxHeartbeats 2000000 in
theorem lwc_6 {X : XT} {P : Oc → ZR → AH → Prop} {z : ZR} {h : AH} {kc ns d : Nat} {a m o b L i : Nat} {xs : Nat → Int32} (C : Cx X cL_law 9 "RingDominoLaw" "law" (some .boolean) [] d) (hd0 : 2100 ≤ d) (hz : zle (cst (xG X)) z) (hI : LwI (xG X) z h a m o) (hs : va_X b L xs (gS (xG X)) (gS (xG X)).heap) (hbs : b < gN (xG X)) (hi : i + 6 ≤ L) (hL : L ≤ 384) (hk : 9390 ≤ kc) (hn : 113000 ≤ ns) (kk : ∀ z' h', zle (cst (xG X)) z' → LwI (xG X) z' h' a m o → WW X P z' h' (kc - 9390) (ns - 113000) 1827 [(4, .int (nI i)), (3, .ref o), (2, .ref m), (1, .ref a), (0, .ref b)] []) : WW X P z h kc ns 416 [(4, .int (nI i)), (3, .ref o), (2, .ref m), (1, .ref a), (0, .ref b)] [] := by
  obtain ⟨tp, ba, g, ah, A, D, er, t, B, rn, T, Dm, M, f, hCo, hm, hX, hb, hT, hrn, hV, her, Ho, hdj, hno⟩ := hI
  subst hm
  obtain ⟨fb, G, dn, N, Ha, hTp, hTo, hM, hC, hS, hR, hG2, hN, hO, hAh, hd2, hd3⟩ := id hCo
  have hB := hC.1
  have hG := GmM.p hz hM
  have Ho : h o = some (.inl (gA (xG X) 2, (1, .inr (.inl f)))) := Ho
  have hzz := BO.z hB
  have hbt := hB.2.1
  have hto : ∀ q, fpC (xG X) a tp ba g ah A D q → q ≠ o := fun q f e => hno (e ▸ f)
  have fa : fpC (xG X) a tp ba g ah A D a := Or.inl rfl
  have fg : ∀ q, fpG (xG X) g A q → fpC (xG X) a tp ba g ah A D q := fun q f => Or.inr (Or.inr (Or.inr (Or.inl f)))
  have f4 : fpG (xG X) g A (A 4) := Or.inr (Or.inr (Or.inr (Or.inl rfl)))
  have na4 : a ≠ A 4 := fun e => (hd3 a (Or.inl rfl)).1 (e ▸ f4)
  have nag : a ≠ g := fun e => (hd3 a (Or.inl rfl)).1 (Or.inl e)
  have no4 : o ≠ A 4 := fun e => hno (fg _ (e ▸ f4))
  have nog : o ≠ g := fun e => hno (fg _ (Or.inl e))
  refine ww_ow0 hz (fun ow0 => ?_)
  have na6 : a ≠ A 6 := fun e => (hd3 a (Or.inl rfl)).1 (Or.inr (Or.inr (Or.inr (Or.inr (Or.inr (Or.inr ⟨Or.inr (Or.inr (Or.inl e)), ow0 _ _ Ha⟩))))))
  have no6 : o ≠ A 6 := fun e => hno (fg _ (Or.inr (Or.inr (Or.inr (Or.inr (Or.inr (Or.inr ⟨Or.inr (Or.inr (Or.inl e)), ow0 _ _ Ho⟩)))))))
  have na8 : a ≠ A 8 := fun e => (hd3 a (Or.inl rfl)).1 (Or.inr (Or.inr (Or.inr (Or.inr (Or.inr (Or.inr ⟨Or.inr (Or.inr (Or.inr e)), ow0 _ _ Ha⟩))))))
  have no8 : o ≠ A 8 := fun e => hno (fg _ (Or.inr (Or.inr (Or.inr (Or.inr (Or.inr (Or.inr ⟨Or.inr (Or.inr (Or.inr e)), ow0 _ _ Ho⟩)))))))
  refine ww_lv (lv' := [(4, .int (nI i)), (3, .ref o), (2, .ref (Dm 0)), (1, .ref a), (0, .ref b)]) rfl ?_
  show WW X P z h kc ns 416 [(4, .int (nI i)), (3, .ref o), (2, .ref (Dm 0)), (1, .ref a), (0, .ref b)] []
  refine ww_aload_n C dL_law_416 rfl 3 rfl rfl ?_
  refine cv_X0_121_r (As := []) (rest := []) C dL_law_417 (ct_X1_tiles (Cx.fl C) (Cx.ok C) hz (Or.inl Ha) hG hB) (rc_X1 (Cx.ok C) (Or.inl Ha)) rfl rfl (Nat.le_of_ble_eq_true rfl) (by omega) (by omega) (by omega) ?_
  refine ww_le (kc' := kc - 9390) (ns' := ns - 113000) (by omega) (by omega) ?_
  have hFo : ∀ q, q ≠ o → h q = h q := fun _ _ => rfl
  refine ww_aload_n C dL_law_420 rfl 2 rfl rfl ?_
  have hXa : Mx (xG X) h Dm M := ⟨fun j hj => by rw [hFo _ (hdj j hj).2]; exact hX.1 j hj, hX.2⟩
  refine cv_X0_124_q (As := []) (rest := [.int (nI (Bt B))]) C dL_law_421 (ct_X4_tiles (Cx.fl C) (Cx.ok C) hz hXa hb hC) (rc_X4 (Cx.ok C) (Or.inl hXa.m)) rfl rfl (Nat.le_of_ble_eq_true rfl) (by omega) (Nat.zero_le _) (Nat.zero_le _) (fun v8 z8 k8 q8 => ?_)
  obtain ⟨hv8, hz8, M8, hg8, ht8, hX8, hF8⟩ := q8; replace hz8 := hz8.symm; subst hz8; subst hv8
  have hI8 : LwI (xG X) z k8 a (Dm 0) o := LwI.rd hCo hb hT hrn hV her hdj hno hFo Ho hg8 hX8 hF8
  refine ww_icmp_eq_t (tgt := 1827) C dL_law_424 (by decide) rfl ?_
  exact ww_le (by omega) (by omega) (kk _ _ hz hI8)
set_option maxHeartbeats 2000000 in
theorem lwc_7 {X : XT} {P : Oc → ZR → AH → Prop} {z : ZR} {h : AH} {kc ns d : Nat} {a m o b L i : Nat} {xs : Nat → Int32} (C : Cx X cL_law 9 "RingDominoLaw" "law" (some .boolean) [] d) (hd0 : 2100 ≤ d) (hz : zle (cst (xG X)) z) (hI : LwI (xG X) z h a m o) (hs : va_X b L xs (gS (xG X)) (gS (xG X)).heap) (hbs : b < gN (xG X)) (hi : i + 6 ≤ L) (hL : L ≤ 384) (hk : 9390 ≤ kc) (hn : 113000 ≤ ns) (kk : ∀ z' h', zle (cst (xG X)) z' → LwI (xG X) z' h' a m o → WW X P z' h' (kc - 9390) (ns - 113000) 1827 [(4, .int (nI i)), (3, .ref o), (2, .ref m), (1, .ref a), (0, .ref b)] []) : WW X P z h kc ns 429 [(4, .int (nI i)), (3, .ref o), (2, .ref m), (1, .ref a), (0, .ref b)] [] := by
  obtain ⟨tp, ba, g, ah, A, D, er, t, B, rn, T, Dm, M, f, hCo, hm, hX, hb, hT, hrn, hV, her, Ho, hdj, hno⟩ := hI
  subst hm
  obtain ⟨fb, G, dn, N, Ha, hTp, hTo, hM, hC, hS, hR, hG2, hN, hO, hAh, hd2, hd3⟩ := id hCo
  have hB := hC.1
  have hG := GmM.p hz hM
  have Ho : h o = some (.inl (gA (xG X) 2, (1, .inr (.inl f)))) := Ho
  have hzz := BO.z hB
  have hbt := hB.2.1
  have hto : ∀ q, fpC (xG X) a tp ba g ah A D q → q ≠ o := fun q f e => hno (e ▸ f)
  have fa : fpC (xG X) a tp ba g ah A D a := Or.inl rfl
  have fg : ∀ q, fpG (xG X) g A q → fpC (xG X) a tp ba g ah A D q := fun q f => Or.inr (Or.inr (Or.inr (Or.inl f)))
  have f4 : fpG (xG X) g A (A 4) := Or.inr (Or.inr (Or.inr (Or.inl rfl)))
  have na4 : a ≠ A 4 := fun e => (hd3 a (Or.inl rfl)).1 (e ▸ f4)
  have nag : a ≠ g := fun e => (hd3 a (Or.inl rfl)).1 (Or.inl e)
  have no4 : o ≠ A 4 := fun e => hno (fg _ (e ▸ f4))
  have nog : o ≠ g := fun e => hno (fg _ (Or.inl e))
  refine ww_ow0 hz (fun ow0 => ?_)
  have na6 : a ≠ A 6 := fun e => (hd3 a (Or.inl rfl)).1 (Or.inr (Or.inr (Or.inr (Or.inr (Or.inr (Or.inr ⟨Or.inr (Or.inr (Or.inl e)), ow0 _ _ Ha⟩))))))
  have no6 : o ≠ A 6 := fun e => hno (fg _ (Or.inr (Or.inr (Or.inr (Or.inr (Or.inr (Or.inr ⟨Or.inr (Or.inr (Or.inl e)), ow0 _ _ Ho⟩)))))))
  have na8 : a ≠ A 8 := fun e => (hd3 a (Or.inl rfl)).1 (Or.inr (Or.inr (Or.inr (Or.inr (Or.inr (Or.inr ⟨Or.inr (Or.inr (Or.inr e)), ow0 _ _ Ha⟩))))))
  have no8 : o ≠ A 8 := fun e => hno (fg _ (Or.inr (Or.inr (Or.inr (Or.inr (Or.inr (Or.inr ⟨Or.inr (Or.inr (Or.inr e)), ow0 _ _ Ho⟩)))))))
  refine ww_lv (lv' := [(4, .int (nI i)), (3, .ref o), (2, .ref (Dm 0)), (1, .ref a), (0, .ref b)]) rfl ?_
  show WW X P z h kc ns 429 [(4, .int (nI i)), (3, .ref o), (2, .ref (Dm 0)), (1, .ref a), (0, .ref b)] []
  refine ww_aload_n C dL_law_429 rfl 3 rfl rfl ?_
  refine cv_X0_125_r (As := []) (rest := []) C dL_law_430 (ct_X1_rounds (Cx.fl C) (Cx.ok C) hz (Or.inl Ha) hG hB) (rc_X1 (Cx.ok C) (Or.inl Ha)) rfl rfl (Nat.le_of_ble_eq_true rfl) (by omega) (by omega) (by omega) ?_
  refine ww_le (kc' := kc - 9390) (ns' := ns - 113000) (by omega) (by omega) ?_
  have hFo : ∀ q, q ≠ o → h q = h q := fun _ _ => rfl
  refine ww_aload_n C dL_law_433 rfl 2 rfl rfl ?_
  have hXa : Mx (xG X) h Dm M := ⟨fun j hj => by rw [hFo _ (hdj j hj).2]; exact hX.1 j hj, hX.2⟩
  refine cv_X0_128_q (As := []) (rest := [.int rn]) C dL_law_434 (ct_X4_rounds (Cx.fl C) (Cx.ok C) hz hXa hb hC) (rc_X4 (Cx.ok C) (Or.inl hXa.m)) rfl rfl (Nat.le_of_ble_eq_true rfl) (by omega) (Nat.zero_le _) (Nat.zero_le _) (fun v8 z8 k8 q8 => ?_)
  obtain ⟨hv8, hz8, M8, hg8, ht8, hX8, hF8⟩ := q8; replace hz8 := hz8.symm; subst hz8; subst hv8
  have hI8 : LwI (xG X) z k8 a (Dm 0) o := LwI.rd hCo hb hT hrn hV her hdj hno hFo Ho hg8 hX8 hF8
  refine ww_icmp_eq_t (tgt := 1827) C dL_law_437 (by decide) hrn.symm ?_
  exact ww_le (by omega) (by omega) (kk _ _ hz hI8)
set_option maxHeartbeats 2000000 in
theorem lwc_8 {X : XT} {P : Oc → ZR → AH → Prop} {z : ZR} {h : AH} {kc ns d : Nat} {a m o b L i : Nat} {xs : Nat → Int32} (C : Cx X cL_law 9 "RingDominoLaw" "law" (some .boolean) [] d) (hd0 : 2100 ≤ d) (hz : zle (cst (xG X)) z) (hI : LwI (xG X) z h a m o) (hs : va_X b L xs (gS (xG X)) (gS (xG X)).heap) (hbs : b < gN (xG X)) (hi : i + 6 ≤ L) (hL : L ≤ 384) (hk : 9390 ≤ kc) (hn : 113000 ≤ ns) (kk : ∀ z' h', zle (cst (xG X)) z' → LwI (xG X) z' h' a m o → WW X P z' h' (kc - 9390) (ns - 113000) 1827 [(4, .int (nI i)), (3, .ref o), (2, .ref m), (1, .ref a), (0, .ref b)] []) : WW X P z h kc ns 442 [(4, .int (nI i)), (3, .ref o), (2, .ref m), (1, .ref a), (0, .ref b)] [] := by
  obtain ⟨tp, ba, g, ah, A, D, er, t, B, rn, T, Dm, M, f, hCo, hm, hX, hb, hT, hrn, hV, her, Ho, hdj, hno⟩ := hI
  subst hm
  obtain ⟨fb, G, dn, N, Ha, hTp, hTo, hM, hC, hS, hR, hG2, hN, hO, hAh, hd2, hd3⟩ := id hCo
  have hB := hC.1
  have hG := GmM.p hz hM
  have Ho : h o = some (.inl (gA (xG X) 2, (1, .inr (.inl f)))) := Ho
  have hzz := BO.z hB
  have hbt := hB.2.1
  have hto : ∀ q, fpC (xG X) a tp ba g ah A D q → q ≠ o := fun q f e => hno (e ▸ f)
  have fa : fpC (xG X) a tp ba g ah A D a := Or.inl rfl
  have fg : ∀ q, fpG (xG X) g A q → fpC (xG X) a tp ba g ah A D q := fun q f => Or.inr (Or.inr (Or.inr (Or.inl f)))
  have f4 : fpG (xG X) g A (A 4) := Or.inr (Or.inr (Or.inr (Or.inl rfl)))
  have na4 : a ≠ A 4 := fun e => (hd3 a (Or.inl rfl)).1 (e ▸ f4)
  have nag : a ≠ g := fun e => (hd3 a (Or.inl rfl)).1 (Or.inl e)
  have no4 : o ≠ A 4 := fun e => hno (fg _ (e ▸ f4))
  have nog : o ≠ g := fun e => hno (fg _ (Or.inl e))
  refine ww_ow0 hz (fun ow0 => ?_)
  have na6 : a ≠ A 6 := fun e => (hd3 a (Or.inl rfl)).1 (Or.inr (Or.inr (Or.inr (Or.inr (Or.inr (Or.inr ⟨Or.inr (Or.inr (Or.inl e)), ow0 _ _ Ha⟩))))))
  have no6 : o ≠ A 6 := fun e => hno (fg _ (Or.inr (Or.inr (Or.inr (Or.inr (Or.inr (Or.inr ⟨Or.inr (Or.inr (Or.inl e)), ow0 _ _ Ho⟩)))))))
  have na8 : a ≠ A 8 := fun e => (hd3 a (Or.inl rfl)).1 (Or.inr (Or.inr (Or.inr (Or.inr (Or.inr (Or.inr ⟨Or.inr (Or.inr (Or.inr e)), ow0 _ _ Ha⟩))))))
  have no8 : o ≠ A 8 := fun e => hno (fg _ (Or.inr (Or.inr (Or.inr (Or.inr (Or.inr (Or.inr ⟨Or.inr (Or.inr (Or.inr e)), ow0 _ _ Ho⟩)))))))
  refine ww_lv (lv' := [(4, .int (nI i)), (3, .ref o), (2, .ref (Dm 0)), (1, .ref a), (0, .ref b)]) rfl ?_
  show WW X P z h kc ns 442 [(4, .int (nI i)), (3, .ref o), (2, .ref (Dm 0)), (1, .ref a), (0, .ref b)] []
  refine ww_aload_n C dL_law_442 rfl 3 rfl rfl ?_
  refine cv_X0_129_r (As := []) (rest := []) C dL_law_443 (ct_X1_placedTiles (Cx.fl C) (Cx.ok C) hz (Or.inl Ha) hG hB) (rc_X1 (Cx.ok C) (Or.inl Ha)) rfl rfl (Nat.le_of_ble_eq_true rfl) (by omega) (by omega) (by omega) ?_
  refine ww_le (kc' := kc - 9390) (ns' := ns - 113000) (by omega) (by omega) ?_
  have hFo : ∀ q, q ≠ o → h q = h q := fun _ _ => rfl
  refine ww_aload_n C dL_law_446 rfl 2 rfl rfl ?_
  have hXa : Mx (xG X) h Dm M := ⟨fun j hj => by rw [hFo _ (hdj j hj).2]; exact hX.1 j hj, hX.2⟩
  refine cv_X0_132_q (As := []) (rest := [.int (nI (plN B))]) C dL_law_447 (ct_X4_placedTiles (Cx.fl C) (Cx.ok C) hz hXa hb hC) (rc_X4 (Cx.ok C) (Or.inl hXa.m)) rfl rfl (Nat.le_of_ble_eq_true rfl) (by omega) (Nat.zero_le _) (Nat.zero_le _) (fun v8 z8 k8 q8 => ?_)
  obtain ⟨hv8, hz8, M8, hg8, ht8, hX8, hF8⟩ := q8; replace hz8 := hz8.symm; subst hz8; subst hv8
  have hI8 : LwI (xG X) z k8 a (Dm 0) o := LwI.rd hCo hb hT hrn hV her hdj hno hFo Ho hg8 hX8 hF8
  refine ww_icmp_eq_t (tgt := 1827) C dL_law_450 (by decide) rfl ?_
  exact ww_le (by omega) (by omega) (kk _ _ hz hI8)
set_option maxHeartbeats 2000000 in
theorem lwc_9 {X : XT} {P : Oc → ZR → AH → Prop} {z : ZR} {h : AH} {kc ns d : Nat} {a m o b L i : Nat} {xs : Nat → Int32} (C : Cx X cL_law 9 "RingDominoLaw" "law" (some .boolean) [] d) (hd0 : 2100 ≤ d) (hz : zle (cst (xG X)) z) (hI : LwI (xG X) z h a m o) (hs : va_X b L xs (gS (xG X)) (gS (xG X)).heap) (hbs : b < gN (xG X)) (hi : i + 6 ≤ L) (hL : L ≤ 384) (hk : 9390 ≤ kc) (hn : 113000 ≤ ns) (kk : ∀ z' h', zle (cst (xG X)) z' → LwI (xG X) z' h' a m o → WW X P z' h' (kc - 9390) (ns - 113000) 1827 [(4, .int (nI i)), (3, .ref o), (2, .ref m), (1, .ref a), (0, .ref b)] []) : WW X P z h kc ns 455 [(4, .int (nI i)), (3, .ref o), (2, .ref m), (1, .ref a), (0, .ref b)] [] := by
  obtain ⟨tp, ba, g, ah, A, D, er, t, B, rn, T, Dm, M, f, hCo, hm, hX, hb, hT, hrn, hV, her, Ho, hdj, hno⟩ := hI
  subst hm
  obtain ⟨fb, G, dn, N, Ha, hTp, hTo, hM, hC, hS, hR, hG2, hN, hO, hAh, hd2, hd3⟩ := id hCo
  have hB := hC.1
  have hG := GmM.p hz hM
  have Ho : h o = some (.inl (gA (xG X) 2, (1, .inr (.inl f)))) := Ho
  have hzz := BO.z hB
  have hbt := hB.2.1
  have hto : ∀ q, fpC (xG X) a tp ba g ah A D q → q ≠ o := fun q f e => hno (e ▸ f)
  have fa : fpC (xG X) a tp ba g ah A D a := Or.inl rfl
  have fg : ∀ q, fpG (xG X) g A q → fpC (xG X) a tp ba g ah A D q := fun q f => Or.inr (Or.inr (Or.inr (Or.inl f)))
  have f4 : fpG (xG X) g A (A 4) := Or.inr (Or.inr (Or.inr (Or.inl rfl)))
  have na4 : a ≠ A 4 := fun e => (hd3 a (Or.inl rfl)).1 (e ▸ f4)
  have nag : a ≠ g := fun e => (hd3 a (Or.inl rfl)).1 (Or.inl e)
  have no4 : o ≠ A 4 := fun e => hno (fg _ (e ▸ f4))
  have nog : o ≠ g := fun e => hno (fg _ (Or.inl e))
  refine ww_ow0 hz (fun ow0 => ?_)
  have na6 : a ≠ A 6 := fun e => (hd3 a (Or.inl rfl)).1 (Or.inr (Or.inr (Or.inr (Or.inr (Or.inr (Or.inr ⟨Or.inr (Or.inr (Or.inl e)), ow0 _ _ Ha⟩))))))
  have no6 : o ≠ A 6 := fun e => hno (fg _ (Or.inr (Or.inr (Or.inr (Or.inr (Or.inr (Or.inr ⟨Or.inr (Or.inr (Or.inl e)), ow0 _ _ Ho⟩)))))))
  have na8 : a ≠ A 8 := fun e => (hd3 a (Or.inl rfl)).1 (Or.inr (Or.inr (Or.inr (Or.inr (Or.inr (Or.inr ⟨Or.inr (Or.inr (Or.inr e)), ow0 _ _ Ha⟩))))))
  have no8 : o ≠ A 8 := fun e => hno (fg _ (Or.inr (Or.inr (Or.inr (Or.inr (Or.inr (Or.inr ⟨Or.inr (Or.inr (Or.inr e)), ow0 _ _ Ho⟩)))))))
  refine ww_lv (lv' := [(4, .int (nI i)), (3, .ref o), (2, .ref (Dm 0)), (1, .ref a), (0, .ref b)]) rfl ?_
  show WW X P z h kc ns 455 [(4, .int (nI i)), (3, .ref o), (2, .ref (Dm 0)), (1, .ref a), (0, .ref b)] []
  refine ww_aload_n C dL_law_455 rfl 3 rfl rfl ?_
  refine cv_X0_133_r (As := []) (rest := []) C dL_law_456 (ct_X1_matches (Cx.fl C) (Cx.ok C) hz (Or.inl Ha) hG hB) (rc_X1 (Cx.ok C) (Or.inl Ha)) rfl rfl (Nat.le_of_ble_eq_true rfl) (by omega) (by omega) (by omega) ?_
  refine ww_le (kc' := kc - 9390) (ns' := ns - 113000) (by omega) (by omega) ?_
  have hFo : ∀ q, q ≠ o → h q = h q := fun _ _ => rfl
  refine ww_aload_n C dL_law_459 rfl 2 rfl rfl ?_
  have hXa : Mx (xG X) h Dm M := ⟨fun j hj => by rw [hFo _ (hdj j hj).2]; exact hX.1 j hj, hX.2⟩
  refine cv_X0_136_q (As := []) (rest := [.int (nI (maN B))]) C dL_law_460 (ct_X4_matches (Cx.fl C) (Cx.ok C) hz hXa hb hC) (rc_X4 (Cx.ok C) (Or.inl hXa.m)) rfl rfl (Nat.le_of_ble_eq_true rfl) (by omega) (Nat.zero_le _) (Nat.zero_le _) (fun v8 z8 k8 q8 => ?_)
  obtain ⟨hv8, hz8, M8, hg8, ht8, hX8, hF8⟩ := q8; replace hz8 := hz8.symm; subst hz8; subst hv8
  have hI8 : LwI (xG X) z k8 a (Dm 0) o := LwI.rd hCo hb hT hrn hV her hdj hno hFo Ho hg8 hX8 hF8
  refine ww_icmp_eq_t (tgt := 1827) C dL_law_463 (by decide) rfl ?_
  exact ww_le (by omega) (by omega) (kk _ _ hz hI8)
set_option maxHeartbeats 2000000 in
theorem lwc_10 {X : XT} {P : Oc → ZR → AH → Prop} {z : ZR} {h : AH} {kc ns d : Nat} {a m o b L i : Nat} {xs : Nat → Int32} (C : Cx X cL_law 9 "RingDominoLaw" "law" (some .boolean) [] d) (hd0 : 2100 ≤ d) (hz : zle (cst (xG X)) z) (hI : LwI (xG X) z h a m o) (hs : va_X b L xs (gS (xG X)) (gS (xG X)).heap) (hbs : b < gN (xG X)) (hi : i + 6 ≤ L) (hL : L ≤ 384) (hk : 9390 ≤ kc) (hn : 113000 ≤ ns) (kk : ∀ z' h', zle (cst (xG X)) z' → LwI (xG X) z' h' a m o → WW X P z' h' (kc - 9390) (ns - 113000) 1827 [(4, .int (nI i)), (3, .ref o), (2, .ref m), (1, .ref a), (0, .ref b)] []) : WW X P z h kc ns 468 [(4, .int (nI i)), (3, .ref o), (2, .ref m), (1, .ref a), (0, .ref b)] [] := by
  obtain ⟨tp, ba, g, ah, A, D, er, t, B, rn, T, Dm, M, f, hCo, hm, hX, hb, hT, hrn, hV, her, Ho, hdj, hno⟩ := hI
  subst hm
  obtain ⟨fb, G, dn, N, Ha, hTp, hTo, hM, hC, hS, hR, hG2, hN, hO, hAh, hd2, hd3⟩ := id hCo
  have hB := hC.1
  have hG := GmM.p hz hM
  have Ho : h o = some (.inl (gA (xG X) 2, (1, .inr (.inl f)))) := Ho
  have hzz := BO.z hB
  have hbt := hB.2.1
  have hto : ∀ q, fpC (xG X) a tp ba g ah A D q → q ≠ o := fun q f e => hno (e ▸ f)
  have fa : fpC (xG X) a tp ba g ah A D a := Or.inl rfl
  have fg : ∀ q, fpG (xG X) g A q → fpC (xG X) a tp ba g ah A D q := fun q f => Or.inr (Or.inr (Or.inr (Or.inl f)))
  have f4 : fpG (xG X) g A (A 4) := Or.inr (Or.inr (Or.inr (Or.inl rfl)))
  have na4 : a ≠ A 4 := fun e => (hd3 a (Or.inl rfl)).1 (e ▸ f4)
  have nag : a ≠ g := fun e => (hd3 a (Or.inl rfl)).1 (Or.inl e)
  have no4 : o ≠ A 4 := fun e => hno (fg _ (e ▸ f4))
  have nog : o ≠ g := fun e => hno (fg _ (Or.inl e))
  refine ww_ow0 hz (fun ow0 => ?_)
  have na6 : a ≠ A 6 := fun e => (hd3 a (Or.inl rfl)).1 (Or.inr (Or.inr (Or.inr (Or.inr (Or.inr (Or.inr ⟨Or.inr (Or.inr (Or.inl e)), ow0 _ _ Ha⟩))))))
  have no6 : o ≠ A 6 := fun e => hno (fg _ (Or.inr (Or.inr (Or.inr (Or.inr (Or.inr (Or.inr ⟨Or.inr (Or.inr (Or.inl e)), ow0 _ _ Ho⟩)))))))
  have na8 : a ≠ A 8 := fun e => (hd3 a (Or.inl rfl)).1 (Or.inr (Or.inr (Or.inr (Or.inr (Or.inr (Or.inr ⟨Or.inr (Or.inr (Or.inr e)), ow0 _ _ Ha⟩))))))
  have no8 : o ≠ A 8 := fun e => hno (fg _ (Or.inr (Or.inr (Or.inr (Or.inr (Or.inr (Or.inr ⟨Or.inr (Or.inr (Or.inr e)), ow0 _ _ Ho⟩)))))))
  refine ww_lv (lv' := [(4, .int (nI i)), (3, .ref o), (2, .ref (Dm 0)), (1, .ref a), (0, .ref b)]) rfl ?_
  show WW X P z h kc ns 468 [(4, .int (nI i)), (3, .ref o), (2, .ref (Dm 0)), (1, .ref a), (0, .ref b)] []
  refine ww_aload_n C dL_law_468 rfl 3 rfl rfl ?_
  refine cv_X0_137_r (As := []) (rest := []) C dL_law_469 (ct_X1_points (Cx.fl C) (Cx.ok C) hz (Or.inl Ha) hG hB) (rc_X1 (Cx.ok C) (Or.inl Ha)) rfl rfl (Nat.le_of_ble_eq_true rfl) (by omega) (by omega) (by omega) ?_
  refine ww_le (kc' := kc - 9390) (ns' := ns - 113000) (by omega) (by omega) ?_
  have hFo : ∀ q, q ≠ o → h q = h q := fun _ _ => rfl
  refine ww_aload_n C dL_law_472 rfl 2 rfl rfl ?_
  have hXa : Mx (xG X) h Dm M := ⟨fun j hj => by rw [hFo _ (hdj j hj).2]; exact hX.1 j hj, hX.2⟩
  refine cv_X0_140_q (As := []) (rest := [.int (nI (poN B))]) C dL_law_473 (ct_X4_points (Cx.fl C) (Cx.ok C) hz hXa hb hC) (rc_X4 (Cx.ok C) (Or.inl hXa.m)) rfl rfl (Nat.le_of_ble_eq_true rfl) (by omega) (Nat.zero_le _) (Nat.zero_le _) (fun v8 z8 k8 q8 => ?_)
  obtain ⟨hv8, hz8, M8, hg8, ht8, hX8, hF8⟩ := q8; replace hz8 := hz8.symm; subst hz8; subst hv8
  have hI8 : LwI (xG X) z k8 a (Dm 0) o := LwI.rd hCo hb hT hrn hV her hdj hno hFo Ho hg8 hX8 hF8
  refine ww_icmp_eq_t (tgt := 1827) C dL_law_476 (by decide) rfl ?_
  exact ww_le (by omega) (by omega) (kk _ _ hz hI8)
set_option maxHeartbeats 2000000 in
theorem lwc_11 {X : XT} {P : Oc → ZR → AH → Prop} {z : ZR} {h : AH} {kc ns d : Nat} {a m o b L i : Nat} {xs : Nat → Int32} (C : Cx X cL_law 9 "RingDominoLaw" "law" (some .boolean) [] d) (hd0 : 2100 ≤ d) (hz : zle (cst (xG X)) z) (hI : LwI (xG X) z h a m o) (hs : va_X b L xs (gS (xG X)) (gS (xG X)).heap) (hbs : b < gN (xG X)) (hi : i + 6 ≤ L) (hL : L ≤ 384) (hk : 9390 ≤ kc) (hn : 113000 ≤ ns) (kk : ∀ z' h', zle (cst (xG X)) z' → LwI (xG X) z' h' a m o → WW X P z' h' (kc - 9390) (ns - 113000) 1827 [(4, .int (nI i)), (3, .ref o), (2, .ref m), (1, .ref a), (0, .ref b)] []) : WW X P z h kc ns 481 [(4, .int (nI i)), (3, .ref o), (2, .ref m), (1, .ref a), (0, .ref b)] [] := by
  obtain ⟨tp, ba, g, ah, A, D, er, t, B, rn, T, Dm, M, f, hCo, hm, hX, hb, hT, hrn, hV, her, Ho, hdj, hno⟩ := hI
  subst hm
  obtain ⟨fb, G, dn, N, Ha, hTp, hTo, hM, hC, hS, hR, hG2, hN, hO, hAh, hd2, hd3⟩ := id hCo
  have hB := hC.1
  have hG := GmM.p hz hM
  have Ho : h o = some (.inl (gA (xG X) 2, (1, .inr (.inl f)))) := Ho
  have hzz := BO.z hB
  have hbt := hB.2.1
  have hto : ∀ q, fpC (xG X) a tp ba g ah A D q → q ≠ o := fun q f e => hno (e ▸ f)
  have fa : fpC (xG X) a tp ba g ah A D a := Or.inl rfl
  have fg : ∀ q, fpG (xG X) g A q → fpC (xG X) a tp ba g ah A D q := fun q f => Or.inr (Or.inr (Or.inr (Or.inl f)))
  have f4 : fpG (xG X) g A (A 4) := Or.inr (Or.inr (Or.inr (Or.inl rfl)))
  have na4 : a ≠ A 4 := fun e => (hd3 a (Or.inl rfl)).1 (e ▸ f4)
  have nag : a ≠ g := fun e => (hd3 a (Or.inl rfl)).1 (Or.inl e)
  have no4 : o ≠ A 4 := fun e => hno (fg _ (e ▸ f4))
  have nog : o ≠ g := fun e => hno (fg _ (Or.inl e))
  refine ww_ow0 hz (fun ow0 => ?_)
  have na6 : a ≠ A 6 := fun e => (hd3 a (Or.inl rfl)).1 (Or.inr (Or.inr (Or.inr (Or.inr (Or.inr (Or.inr ⟨Or.inr (Or.inr (Or.inl e)), ow0 _ _ Ha⟩))))))
  have no6 : o ≠ A 6 := fun e => hno (fg _ (Or.inr (Or.inr (Or.inr (Or.inr (Or.inr (Or.inr ⟨Or.inr (Or.inr (Or.inl e)), ow0 _ _ Ho⟩)))))))
  have na8 : a ≠ A 8 := fun e => (hd3 a (Or.inl rfl)).1 (Or.inr (Or.inr (Or.inr (Or.inr (Or.inr (Or.inr ⟨Or.inr (Or.inr (Or.inr e)), ow0 _ _ Ha⟩))))))
  have no8 : o ≠ A 8 := fun e => hno (fg _ (Or.inr (Or.inr (Or.inr (Or.inr (Or.inr (Or.inr ⟨Or.inr (Or.inr (Or.inr e)), ow0 _ _ Ho⟩)))))))
  refine ww_lv (lv' := [(4, .int (nI i)), (3, .ref o), (2, .ref (Dm 0)), (1, .ref a), (0, .ref b)]) rfl ?_
  show WW X P z h kc ns 481 [(4, .int (nI i)), (3, .ref o), (2, .ref (Dm 0)), (1, .ref a), (0, .ref b)] []
  refine ww_aload_n C dL_law_481 rfl 3 rfl rfl ?_
  refine cv_X0_141_r (As := []) (rest := []) C dL_law_482 (ct_X1_rings (Cx.fl C) (Cx.ok C) hz (Or.inl Ha) hG hB) (rc_X1 (Cx.ok C) (Or.inl Ha)) rfl rfl (Nat.le_of_ble_eq_true rfl) (by omega) (by omega) (by omega) ?_
  refine ww_le (kc' := kc - 9390) (ns' := ns - 113000) (by omega) (by omega) ?_
  have hFo : ∀ q, q ≠ o → h q = h q := fun _ _ => rfl
  refine ww_aload_n C dL_law_485 rfl 2 rfl rfl ?_
  have hXa : Mx (xG X) h Dm M := ⟨fun j hj => by rw [hFo _ (hdj j hj).2]; exact hX.1 j hj, hX.2⟩
  refine cv_X0_144_q (As := []) (rest := [.int (nI (rgN B))]) C dL_law_486 (ct_X4_rings_2 (Cx.fl C) (Cx.ok C) hz hXa hb hC) (rc_X4 (Cx.ok C) (Or.inl hXa.m)) rfl rfl (Nat.le_of_ble_eq_true rfl) (by omega) (Nat.zero_le _) (Nat.zero_le _) (fun v8 z8 k8 q8 => ?_)
  obtain ⟨hv8, hz8, M8, hg8, ht8, hX8, hF8⟩ := q8; replace hz8 := hz8.symm; subst hz8; subst hv8
  have hI8 : LwI (xG X) z k8 a (Dm 0) o := LwI.rd hCo hb hT hrn hV her hdj hno hFo Ho hg8 hX8 hF8
  refine ww_icmp_eq_t (tgt := 1827) C dL_law_489 (by decide) rfl ?_
  exact ww_le (by omega) (by omega) (kk _ _ hz hI8)
set_option maxHeartbeats 2000000 in
theorem lwc_12 {X : XT} {P : Oc → ZR → AH → Prop} {z : ZR} {h : AH} {kc ns d : Nat} {a m o b L i : Nat} {xs : Nat → Int32} (C : Cx X cL_law 9 "RingDominoLaw" "law" (some .boolean) [] d) (hd0 : 2100 ≤ d) (hz : zle (cst (xG X)) z) (hI : LwI (xG X) z h a m o) (hs : va_X b L xs (gS (xG X)) (gS (xG X)).heap) (hbs : b < gN (xG X)) (hi : i + 6 ≤ L) (hL : L ≤ 384) (hk : 9390 ≤ kc) (hn : 113000 ≤ ns) (kk : ∀ z' h', zle (cst (xG X)) z' → LwI (xG X) z' h' a m o → WW X P z' h' (kc - 9390) (ns - 113000) 1827 [(4, .int (nI i)), (3, .ref o), (2, .ref m), (1, .ref a), (0, .ref b)] []) : WW X P z h kc ns 494 [(4, .int (nI i)), (3, .ref o), (2, .ref m), (1, .ref a), (0, .ref b)] [] := by
  obtain ⟨tp, ba, g, ah, A, D, er, t, B, rn, T, Dm, M, f, hCo, hm, hX, hb, hT, hrn, hV, her, Ho, hdj, hno⟩ := hI
  subst hm
  obtain ⟨fb, G, dn, N, Ha, hTp, hTo, hM, hC, hS, hR, hG2, hN, hO, hAh, hd2, hd3⟩ := id hCo
  have hB := hC.1
  have hG := GmM.p hz hM
  have Ho : h o = some (.inl (gA (xG X) 2, (1, .inr (.inl f)))) := Ho
  have hzz := BO.z hB
  have hbt := hB.2.1
  have hto : ∀ q, fpC (xG X) a tp ba g ah A D q → q ≠ o := fun q f e => hno (e ▸ f)
  have fa : fpC (xG X) a tp ba g ah A D a := Or.inl rfl
  have fg : ∀ q, fpG (xG X) g A q → fpC (xG X) a tp ba g ah A D q := fun q f => Or.inr (Or.inr (Or.inr (Or.inl f)))
  have f4 : fpG (xG X) g A (A 4) := Or.inr (Or.inr (Or.inr (Or.inl rfl)))
  have na4 : a ≠ A 4 := fun e => (hd3 a (Or.inl rfl)).1 (e ▸ f4)
  have nag : a ≠ g := fun e => (hd3 a (Or.inl rfl)).1 (Or.inl e)
  have no4 : o ≠ A 4 := fun e => hno (fg _ (e ▸ f4))
  have nog : o ≠ g := fun e => hno (fg _ (Or.inl e))
  refine ww_ow0 hz (fun ow0 => ?_)
  have na6 : a ≠ A 6 := fun e => (hd3 a (Or.inl rfl)).1 (Or.inr (Or.inr (Or.inr (Or.inr (Or.inr (Or.inr ⟨Or.inr (Or.inr (Or.inl e)), ow0 _ _ Ha⟩))))))
  have no6 : o ≠ A 6 := fun e => hno (fg _ (Or.inr (Or.inr (Or.inr (Or.inr (Or.inr (Or.inr ⟨Or.inr (Or.inr (Or.inl e)), ow0 _ _ Ho⟩)))))))
  have na8 : a ≠ A 8 := fun e => (hd3 a (Or.inl rfl)).1 (Or.inr (Or.inr (Or.inr (Or.inr (Or.inr (Or.inr ⟨Or.inr (Or.inr (Or.inr e)), ow0 _ _ Ha⟩))))))
  have no8 : o ≠ A 8 := fun e => hno (fg _ (Or.inr (Or.inr (Or.inr (Or.inr (Or.inr (Or.inr ⟨Or.inr (Or.inr (Or.inr e)), ow0 _ _ Ho⟩)))))))
  refine ww_lv (lv' := [(4, .int (nI i)), (3, .ref o), (2, .ref (Dm 0)), (1, .ref a), (0, .ref b)]) rfl ?_
  show WW X P z h kc ns 494 [(4, .int (nI i)), (3, .ref o), (2, .ref (Dm 0)), (1, .ref a), (0, .ref b)] []
  refine ww_aload_n C dL_law_494 rfl 3 rfl rfl ?_
  refine cv_X0_145_r (As := []) (rest := []) C dL_law_495 (ct_X1_groups (Cx.fl C) (Cx.ok C) hz (Or.inl Ha) hG hB) (rc_X1 (Cx.ok C) (Or.inl Ha)) rfl rfl (Nat.le_of_ble_eq_true rfl) (by omega) (by omega) (by omega) ?_
  refine ww_le (kc' := kc - 9390) (ns' := ns - 113000) (by omega) (by omega) ?_
  have hFo : ∀ q, q ≠ o → h q = h q := fun _ _ => rfl
  refine ww_aload_n C dL_law_498 rfl 2 rfl rfl ?_
  have hXa : Mx (xG X) h Dm M := ⟨fun j hj => by rw [hFo _ (hdj j hj).2]; exact hX.1 j hj, hX.2⟩
  refine cv_X0_148_q (As := []) (rest := [.int (nI ((grp B (Bz B)).1))]) C dL_law_499 (ct_X4_groups (Cx.fl C) (Cx.ok C) hz hXa hb hC) (rc_X4 (Cx.ok C) (Or.inl hXa.m)) rfl rfl (Nat.le_of_ble_eq_true rfl) (by omega) (Nat.zero_le _) (Nat.zero_le _) (fun v8 z8 k8 q8 => ?_)
  obtain ⟨hv8, hz8, M8, hg8, ht8, hX8, hF8⟩ := q8; replace hz8 := hz8.symm; subst hz8; subst hv8
  have hI8 : LwI (xG X) z k8 a (Dm 0) o := LwI.rd hCo hb hT hrn hV her hdj hno hFo Ho hg8 hX8 hF8
  refine ww_icmp_eq_t (tgt := 1827) C dL_law_502 (by decide) rfl ?_
  exact ww_le (by omega) (by omega) (kk _ _ hz hI8)
set_option maxHeartbeats 2000000 in
theorem lwc_34 {X : XT} {P : Oc → ZR → AH → Prop} {z : ZR} {h : AH} {kc ns d : Nat} {a m o b L i : Nat} {xs : Nat → Int32} (C : Cx X cL_law 9 "RingDominoLaw" "law" (some .boolean) [] d) (hd0 : 2100 ≤ d) (hz : zle (cst (xG X)) z) (hI : LwI (xG X) z h a m o) (hs : va_X b L xs (gS (xG X)) (gS (xG X)).heap) (hbs : b < gN (xG X)) (hi : i + 6 ≤ L) (hL : L ≤ 384) (hk : 9390 ≤ kc) (hn : 113000 ≤ ns) (kk : ∀ z' h', zle (cst (xG X)) z' → LwI (xG X) z' h' a m o → WW X P z' h' (kc - 9390) (ns - 113000) 1827 [(4, .int (nI i)), (3, .ref o), (2, .ref m), (1, .ref a), (0, .ref b)] []) : WW X P z h kc ns 1759 [(4, .int (nI i)), (3, .ref o), (2, .ref m), (1, .ref a), (0, .ref b)] [] := by
  obtain ⟨tp, ba, g, ah, A, D, er, t, B, rn, T, Dm, M, f, hCo, hm, hX, hb, hT, hrn, hV, her, Ho, hdj, hno⟩ := hI
  subst hm
  obtain ⟨fb, G, dn, N, Ha, hTp, hTo, hM, hC, hS, hR, hG2, hN, hO, hAh, hd2, hd3⟩ := id hCo
  have hB := hC.1
  have hG := GmM.p hz hM
  have Ho : h o = some (.inl (gA (xG X) 2, (1, .inr (.inl f)))) := Ho
  have hzz := BO.z hB
  have hbt := hB.2.1
  have hto : ∀ q, fpC (xG X) a tp ba g ah A D q → q ≠ o := fun q f e => hno (e ▸ f)
  have fa : fpC (xG X) a tp ba g ah A D a := Or.inl rfl
  have fg : ∀ q, fpG (xG X) g A q → fpC (xG X) a tp ba g ah A D q := fun q f => Or.inr (Or.inr (Or.inr (Or.inl f)))
  have f4 : fpG (xG X) g A (A 4) := Or.inr (Or.inr (Or.inr (Or.inl rfl)))
  have na4 : a ≠ A 4 := fun e => (hd3 a (Or.inl rfl)).1 (e ▸ f4)
  have nag : a ≠ g := fun e => (hd3 a (Or.inl rfl)).1 (Or.inl e)
  have no4 : o ≠ A 4 := fun e => hno (fg _ (e ▸ f4))
  have nog : o ≠ g := fun e => hno (fg _ (Or.inl e))
  refine ww_ow0 hz (fun ow0 => ?_)
  have na6 : a ≠ A 6 := fun e => (hd3 a (Or.inl rfl)).1 (Or.inr (Or.inr (Or.inr (Or.inr (Or.inr (Or.inr ⟨Or.inr (Or.inr (Or.inl e)), ow0 _ _ Ha⟩))))))
  have no6 : o ≠ A 6 := fun e => hno (fg _ (Or.inr (Or.inr (Or.inr (Or.inr (Or.inr (Or.inr ⟨Or.inr (Or.inr (Or.inl e)), ow0 _ _ Ho⟩)))))))
  have na8 : a ≠ A 8 := fun e => (hd3 a (Or.inl rfl)).1 (Or.inr (Or.inr (Or.inr (Or.inr (Or.inr (Or.inr ⟨Or.inr (Or.inr (Or.inr e)), ow0 _ _ Ha⟩))))))
  have no8 : o ≠ A 8 := fun e => hno (fg _ (Or.inr (Or.inr (Or.inr (Or.inr (Or.inr (Or.inr ⟨Or.inr (Or.inr (Or.inr e)), ow0 _ _ Ho⟩)))))))
  refine ww_lv (lv' := [(4, .int (nI i)), (3, .ref o), (2, .ref (Dm 0)), (1, .ref a), (0, .ref b)]) rfl ?_
  show WW X P z h kc ns 1759 [(4, .int (nI i)), (3, .ref o), (2, .ref (Dm 0)), (1, .ref a), (0, .ref b)] []
  refine ww_aload_n C dL_law_1759 rfl 3 rfl rfl ?_
  have hbc := btC_le hC
  refine cv_X0_215_r (As := []) (rest := []) C dL_law_1760 (ct_X1_bestTile (Cx.fl C) (Cx.ok C) hz (Or.inl Ha) hM hC) (rc_X1 (Cx.ok C) (Or.inl Ha)) rfl rfl (Nat.le_of_ble_eq_true rfl) (by omega) (by omega) (by omega) ?_
  refine ww_le (kc' := kc - 9390) (ns' := ns - 113000) (by omega) (by omega) ?_
  have hFo : ∀ q, q ≠ o → h q = h q := fun _ _ => rfl
  refine ww_aload_n C dL_law_1763 rfl 2 rfl rfl ?_
  have hXa : Mx (xG X) h Dm M := ⟨fun j hj => by rw [hFo _ (hdj j hj).2]; exact hX.1 j hj, hX.2⟩
  refine cv_X0_218_q (As := []) (rest := [.int (oI ((btN B (Bt B)).map Prod.fst))]) C dL_law_1764 (ct_X4_bestTile (Cx.fl C) (Cx.ok C) hz hXa hb hC) (rc_X4 (Cx.ok C) (Or.inl hXa.m)) rfl rfl (Nat.le_of_ble_eq_true rfl) (by omega) (Nat.zero_le _) (Nat.zero_le _) (fun v8 z8 k8 q8 => ?_)
  obtain ⟨hv8, hz8, M8, hg8, ht8, hX8, hF8⟩ := q8; replace hz8 := hz8.symm; subst hz8; subst hv8
  have hI8 : LwI (xG X) z k8 a (Dm 0) o := LwI.rd hCo hb hT hrn hV her hdj hno hFo Ho hg8 hX8 hF8
  refine ww_icmp_eq_t (tgt := 1827) C dL_law_1767 (by decide) rfl ?_
  exact ww_le (by omega) (by omega) (kk _ _ hz hI8)
set_option maxHeartbeats 2000000 in
theorem lwc_35 {X : XT} {P : Oc → ZR → AH → Prop} {z : ZR} {h : AH} {kc ns d : Nat} {a m o b L i : Nat} {xs : Nat → Int32} (C : Cx X cL_law 9 "RingDominoLaw" "law" (some .boolean) [] d) (hd0 : 2100 ≤ d) (hz : zle (cst (xG X)) z) (hI : LwI (xG X) z h a m o) (hs : va_X b L xs (gS (xG X)) (gS (xG X)).heap) (hbs : b < gN (xG X)) (hi : i + 6 ≤ L) (hL : L ≤ 384) (hk : 9390 ≤ kc) (hn : 113000 ≤ ns) (kk : ∀ z' h', zle (cst (xG X)) z' → LwI (xG X) z' h' a m o → WW X P z' h' (kc - 9390) (ns - 113000) 1827 [(4, .int (nI i)), (3, .ref o), (2, .ref m), (1, .ref a), (0, .ref b)] []) : WW X P z h kc ns 1772 [(4, .int (nI i)), (3, .ref o), (2, .ref m), (1, .ref a), (0, .ref b)] [] := by
  obtain ⟨tp, ba, g, ah, A, D, er, t, B, rn, T, Dm, M, f, hCo, hm, hX, hb, hT, hrn, hV, her, Ho, hdj, hno⟩ := hI
  subst hm
  obtain ⟨fb, G, dn, N, Ha, hTp, hTo, hM, hC, hS, hR, hG2, hN, hO, hAh, hd2, hd3⟩ := id hCo
  have hB := hC.1
  have hG := GmM.p hz hM
  have Ho : h o = some (.inl (gA (xG X) 2, (1, .inr (.inl f)))) := Ho
  have hzz := BO.z hB
  have hbt := hB.2.1
  have hto : ∀ q, fpC (xG X) a tp ba g ah A D q → q ≠ o := fun q f e => hno (e ▸ f)
  have fa : fpC (xG X) a tp ba g ah A D a := Or.inl rfl
  have fg : ∀ q, fpG (xG X) g A q → fpC (xG X) a tp ba g ah A D q := fun q f => Or.inr (Or.inr (Or.inr (Or.inl f)))
  have f4 : fpG (xG X) g A (A 4) := Or.inr (Or.inr (Or.inr (Or.inl rfl)))
  have na4 : a ≠ A 4 := fun e => (hd3 a (Or.inl rfl)).1 (e ▸ f4)
  have nag : a ≠ g := fun e => (hd3 a (Or.inl rfl)).1 (Or.inl e)
  have no4 : o ≠ A 4 := fun e => hno (fg _ (e ▸ f4))
  have nog : o ≠ g := fun e => hno (fg _ (Or.inl e))
  refine ww_ow0 hz (fun ow0 => ?_)
  have na6 : a ≠ A 6 := fun e => (hd3 a (Or.inl rfl)).1 (Or.inr (Or.inr (Or.inr (Or.inr (Or.inr (Or.inr ⟨Or.inr (Or.inr (Or.inl e)), ow0 _ _ Ha⟩))))))
  have no6 : o ≠ A 6 := fun e => hno (fg _ (Or.inr (Or.inr (Or.inr (Or.inr (Or.inr (Or.inr ⟨Or.inr (Or.inr (Or.inl e)), ow0 _ _ Ho⟩)))))))
  have na8 : a ≠ A 8 := fun e => (hd3 a (Or.inl rfl)).1 (Or.inr (Or.inr (Or.inr (Or.inr (Or.inr (Or.inr ⟨Or.inr (Or.inr (Or.inr e)), ow0 _ _ Ha⟩))))))
  have no8 : o ≠ A 8 := fun e => hno (fg _ (Or.inr (Or.inr (Or.inr (Or.inr (Or.inr (Or.inr ⟨Or.inr (Or.inr (Or.inr e)), ow0 _ _ Ho⟩)))))))
  refine ww_lv (lv' := [(4, .int (nI i)), (3, .ref o), (2, .ref (Dm 0)), (1, .ref a), (0, .ref b)]) rfl ?_
  show WW X P z h kc ns 1772 [(4, .int (nI i)), (3, .ref o), (2, .ref (Dm 0)), (1, .ref a), (0, .ref b)] []
  refine ww_aload_n C dL_law_1772 rfl 3 rfl rfl ?_
  refine cv_X0_219_r (As := []) (rest := []) C dL_law_1773 (ct_X1_meanMatch (Cx.fl C) (Cx.ok C) hz (Or.inl Ha) hG hB) (rc_X1 (Cx.ok C) (Or.inl Ha)) rfl rfl (Nat.le_of_ble_eq_true rfl) (by omega) (Nat.zero_le _) (Nat.zero_le _) ?_
  refine ww_le (kc' := kc - 9390) (ns' := ns - 113000) (by omega) (by omega) ?_
  have hFo : ∀ q, q ≠ o → h q = h q := fun _ _ => rfl
  refine ww_dstore (lv' := [(5, .double (mmD B)), (4, .int (nI i)), (3, .ref o), (2, .ref (Dm 0)), (1, .ref a), (0, .ref b)]) C dL_law_1776 (by decide) rfl ?_
  refine ww_aload_n C dL_law_1778 rfl 3 rfl rfl ?_
  have hXa : Mx (xG X) h Dm M := ⟨fun j hj => by rw [hFo _ (hdj j hj).2]; exact hX.1 j hj, hX.2⟩
  refine cv_X0_223_q (As := []) (rest := []) C dL_law_1779 (ct_X4_meanMatch (Cx.fl C) (Cx.ok C) hz hXa hb hC) (rc_X4 (Cx.ok C) (Or.inl hXa.m)) rfl rfl (Nat.le_of_ble_eq_true rfl) (by omega) (Nat.zero_le _) (Nat.zero_le _) (fun v8 z8 k8 q8 => ?_)
  obtain ⟨hv8, hz8, M8, hg8, ht8, hX8, hF8⟩ := q8; replace hz8 := hz8.symm; subst hz8; subst hv8
  have hI8 : LwI (xG X) z k8 a (Dm 0) o := LwI.rd hCo hb hT hrn hV her hdj hno hFo Ho hg8 hX8 hF8
  refine ww_dstore (lv' := [(7, .double (mmD B)), (5, .double (mmD B)), (4, .int (nI i)), (3, .ref o), (2, .ref (Dm 0)), (1, .ref a), (0, .ref b)]) C dL_law_1782 (by decide) rfl ?_
  refine ww_dload C dL_law_1784 1 rfl ?_
  refine ww_dload C dL_law_1786 0 rfl ?_
  refine ww_dcmp C dL_law_1788 ?_
  refine ww_if_eq_t (tgt := 1810) C dL_law_1789 (by decide) (by rw [mmD_c hB]; rfl) ?_
  refine ww_goto (tgt := 1827) C dL_law_1810 (by decide) ?_
  refine ww_sub [2, 3, 4, 5, 6] rfl ?_
  exact ww_le (by omega) (by omega) (kk _ _ hz hI8)
set_option maxHeartbeats 2000000 in
theorem lwc_36 {X : XT} {P : Oc → ZR → AH → Prop} {z : ZR} {h : AH} {kc ns d : Nat} {a m o b L i : Nat} {xs : Nat → Int32} (C : Cx X cL_law 9 "RingDominoLaw" "law" (some .boolean) [] d) (hd0 : 2100 ≤ d) (hz : zle (cst (xG X)) z) (hI : LwI (xG X) z h a m o) (hs : va_X b L xs (gS (xG X)) (gS (xG X)).heap) (hbs : b < gN (xG X)) (hi : i + 6 ≤ L) (hL : L ≤ 384) (hk : 9390 ≤ kc) (hn : 113000 ≤ ns) (kk : ∀ z' h', zle (cst (xG X)) z' → LwI (xG X) z' h' a m o → WW X P z' h' (kc - 9390) (ns - 113000) 1827 [(4, .int (nI i)), (3, .ref o), (2, .ref m), (1, .ref a), (0, .ref b)] []) : WW X P z h kc ns 1813 [(4, .int (nI i)), (3, .ref o), (2, .ref m), (1, .ref a), (0, .ref b)] [] := by
  obtain ⟨tp, ba, g, ah, A, D, er, t, B, rn, T, Dm, M, f, hCo, hm, hX, hb, hT, hrn, hV, her, Ho, hdj, hno⟩ := hI
  subst hm
  obtain ⟨fb, G, dn, N, Ha, hTp, hTo, hM, hC, hS, hR, hG2, hN, hO, hAh, hd2, hd3⟩ := id hCo
  have hB := hC.1
  have hG := GmM.p hz hM
  have Ho : h o = some (.inl (gA (xG X) 2, (1, .inr (.inl f)))) := Ho
  have hzz := BO.z hB
  have hbt := hB.2.1
  have hto : ∀ q, fpC (xG X) a tp ba g ah A D q → q ≠ o := fun q f e => hno (e ▸ f)
  have fa : fpC (xG X) a tp ba g ah A D a := Or.inl rfl
  have fg : ∀ q, fpG (xG X) g A q → fpC (xG X) a tp ba g ah A D q := fun q f => Or.inr (Or.inr (Or.inr (Or.inl f)))
  have f4 : fpG (xG X) g A (A 4) := Or.inr (Or.inr (Or.inr (Or.inl rfl)))
  have na4 : a ≠ A 4 := fun e => (hd3 a (Or.inl rfl)).1 (e ▸ f4)
  have nag : a ≠ g := fun e => (hd3 a (Or.inl rfl)).1 (Or.inl e)
  have no4 : o ≠ A 4 := fun e => hno (fg _ (e ▸ f4))
  have nog : o ≠ g := fun e => hno (fg _ (Or.inl e))
  refine ww_ow0 hz (fun ow0 => ?_)
  have na6 : a ≠ A 6 := fun e => (hd3 a (Or.inl rfl)).1 (Or.inr (Or.inr (Or.inr (Or.inr (Or.inr (Or.inr ⟨Or.inr (Or.inr (Or.inl e)), ow0 _ _ Ha⟩))))))
  have no6 : o ≠ A 6 := fun e => hno (fg _ (Or.inr (Or.inr (Or.inr (Or.inr (Or.inr (Or.inr ⟨Or.inr (Or.inr (Or.inl e)), ow0 _ _ Ho⟩)))))))
  have na8 : a ≠ A 8 := fun e => (hd3 a (Or.inl rfl)).1 (Or.inr (Or.inr (Or.inr (Or.inr (Or.inr (Or.inr ⟨Or.inr (Or.inr (Or.inr e)), ow0 _ _ Ha⟩))))))
  have no8 : o ≠ A 8 := fun e => hno (fg _ (Or.inr (Or.inr (Or.inr (Or.inr (Or.inr (Or.inr ⟨Or.inr (Or.inr (Or.inr e)), ow0 _ _ Ho⟩)))))))
  refine ww_lv (lv' := [(4, .int (nI i)), (3, .ref o), (2, .ref (Dm 0)), (1, .ref a), (0, .ref b)]) rfl ?_
  show WW X P z h kc ns 1813 [(4, .int (nI i)), (3, .ref o), (2, .ref (Dm 0)), (1, .ref a), (0, .ref b)] []
  have hbc := btC_le hC
  refine ww_aload_n C dL_law_1813 rfl 3 rfl rfl ?_
  refine cv_X0_224_r (As := []) (rest := []) C dL_law_1814 (ct_X1_digest (Cx.fl C) (Cx.ok C) hz (Or.inl Ha) hM hC) (rc_X1 (Cx.ok C) (Or.inl Ha)) rfl rfl (Nat.le_of_ble_eq_true rfl) (by omega) (by omega) (by omega) ?_
  refine ww_le (kc' := kc - 9390 + 1) (ns' := ns - 113000 + 10) (by omega) (by omega) ?_
  have hFo : ∀ q, q ≠ o → h q = h q := fun _ _ => rfl
  refine ww_aload_n C dL_law_1817 rfl 2 rfl rfl ?_
  have hXa : Mx (xG X) h Dm M := hX
  refine cv_X0_228_q (As := []) (rest := [.long (dgA B rn)]) C dL_law_1818 (ct_X4_digest (Cx.fl C) (Cx.ok C) hz hXa hb hC) (rc_X4 (Cx.ok C) (Or.inl hXa.m)) rfl rfl (Nat.le_of_ble_eq_true rfl) (by omega) (by omega) (by omega) (fun v8 z8 k8 q8 => ?_)
  obtain ⟨hv8, hz8, M8, hg8, ht8, hX8, hF8⟩ := q8; replace hz8 := hz8.symm; subst hz8; subst hv8
  refine ww_le (kc' := kc - 9390) (ns' := ns - 113000) (by omega) (by omega) ?_
  have hI8 : LwI (xG X) z k8 a (Dm 0) o := LwI.rd hCo hb hT hrn hV her hdj hno hFo Ho hg8 hX8 hF8
  refine ww_lcmp C dL_law_1821 ?_
  refine ww_if_eq_t (tgt := 1827) C dL_law_1822 (by decide) (by rw [hrn]; exact cmp_s _) ?_
  exact ww_le (by omega) (by omega) (kk _ _ hz hI8)
end LAW4
