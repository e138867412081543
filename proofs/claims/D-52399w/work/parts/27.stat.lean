section SV
set_option maxRecDepth 100000
theorem sv_0 {Γ : Gm} (hΓ : GOK Γ) : va_Z "java/util/ArrayList" "DEFAULTCAPACITY_EMPTY_ELEMENTDATA" "[Ljava/lang/Object;" (.ref (gE Γ 0)) (fun a => gN Γ ≤ a) (gS Γ) (gS Γ).heap := gs_ref hΓ (k := 0) rfl q209 q105
theorem sv_1 {Γ : Gm} (hΓ : GOK Γ) : va_Z "RingDomino$Sort" "BAD" "LRingDomino$Sort;" (.ref (gE Γ 1)) (fun a => gN Γ ≤ a) (gS Γ) (gS Γ).heap := gs_ref hΓ (k := 1) rfl q325 q118
theorem sv_2 {Γ : Gm} (hΓ : GOK Γ) : va_Z "RingDomino$Sort" "KEY" "LRingDomino$Sort;" (.ref (gE Γ 2)) (fun a => gN Γ ≤ a) (gS Γ) (gS Γ).heap := gs_ref hΓ (k := 2) rfl q704 q118
theorem sv_3 {Γ : Gm} (hΓ : GOK Γ) : va_Z "RingDomino$Sort" "NAME" "LRingDomino$Sort;" (.ref (gE Γ 3)) (fun a => gN Γ ≤ a) (gS Γ) (gS Γ).heap := gs_ref hΓ (k := 3) rfl q706 q118
theorem sv_4 {Γ : Gm} (hΓ : GOK Γ) : va_Z "RingDomino$Sort" "NUMBER" "LRingDomino$Sort;" (.ref (gE Γ 4)) (fun a => gN Γ ≤ a) (gS Γ) (gS Γ).heap := gs_ref hΓ (k := 4) rfl q708 q118
theorem sv_5 {Γ : Gm} (hΓ : GOK Γ) : va_Z "RingDomino$Sort" "SYMBOL" "LRingDomino$Sort;" (.ref (gE Γ 5)) (fun a => gN Γ ≤ a) (gS Γ) (gS Γ).heap := gs_ref hΓ (k := 5) rfl q761 q118
theorem sv_6 {Γ : Gm} (hΓ : GOK Γ) : va_Z "RingDomino$Sort" "END" "LRingDomino$Sort;" (.ref (gE Γ 6)) (fun a => gN Γ ≤ a) (gS Γ) (gS Γ).heap := gs_ref hΓ (k := 6) rfl q851 q118
theorem sv_7 {Γ : Gm} (hΓ : GOK Γ) : va_Z "jdk/internal/util/ArraysSupport" "JLA" "Ljdk/internal/access/JavaLangAccess;" (.ref (gE Γ 7)) (fun a => gN Γ ≤ a) (gS Γ) (gS Γ).heap := gs_ref hΓ (k := 7) rfl q1116 q123
theorem sv_8 {Γ : Gm} (hΓ : GOK Γ) : va_Z "jdk/internal/util/ArraysSupport" "U" "Ljdk/internal/misc/Unsafe;" (.ref (gE Γ 8)) (fun a => gN Γ ≤ a) (gS Γ) (gS Γ).heap := gs_ref hΓ (k := 8) rfl q1395 q123
theorem sv_9 {Γ : Gm} (hΓ : GOK Γ) : va_Z "RingDomino$Craft" "ALL" "[LRingDomino$Craft;" (.ref (gE Γ 9)) (fun a => gN Γ ≤ a) (gS Γ) (gS Γ).heap := gs_ref hΓ (k := 9) rfl q1734 q144
theorem sv_10 {Γ : Gm} (hΓ : GOK Γ) : va_Z "RingDomino$Craft" "PUT" "LRingDomino$Craft;" (.ref (gE Γ 10)) (fun a => gN Γ ≤ a) (gS Γ) (gS Γ).heap := gs_ref hΓ (k := 10) rfl q1760 q144
theorem sv_11 {Γ : Gm} (hΓ : GOK Γ) : va_Z "RingDomino$What" "ALL" "[LRingDomino$What;" (.ref (gE Γ 11)) (fun a => gN Γ ≤ a) (gS Γ) (gS Γ).heap := gs_ref hΓ (k := 11) rfl q1775 q147
theorem sv_12 {Γ : Gm} (hΓ : GOK Γ) : va_Z "RingDomino$Kind" "NOTHING" "LRingDomino$Kind;" (.ref (gE Γ 12)) (fun a => gN Γ ≤ a) (gS Γ) (gS Γ).heap := gs_ref hΓ (k := 12) rfl q1783 q149
theorem sv_13 {Γ : Gm} (hΓ : GOK Γ) : va_Z "RingDomino$Sign" "LEAST" "LRingDomino$Sign;" (.ref (gE Γ 13)) (fun a => gN Γ ≤ a) (gS Γ) (gS Γ).heap := gs_ref hΓ (k := 13) rfl q1812 q151
theorem sv_14 {Γ : Gm} (hΓ : GOK Γ) : va_Z "RingDomino$Sign" "MOST_OF" "LRingDomino$Sign;" (.ref (gE Γ 14)) (fun a => gN Γ ≤ a) (gS Γ) (gS Γ).heap := gs_ref hΓ (k := 14) rfl q1814 q151
theorem sv_15 {Γ : Gm} (hΓ : GOK Γ) : va_Z "RingDomino$Sign" "TIMES" "LRingDomino$Sign;" (.ref (gE Γ 15)) (fun a => gN Γ ≤ a) (gS Γ) (gS Γ).heap := gs_ref hΓ (k := 15) rfl q1841 q151
theorem sv_16 {Γ : Gm} (hΓ : GOK Γ) : va_Z "RingDomino$Sign" "PARTED" "LRingDomino$Sign;" (.ref (gE Γ 16)) (fun a => gN Γ ≤ a) (gS Γ) (gS Γ).heap := gs_ref hΓ (k := 16) rfl q1843 q151
theorem sv_17 {Γ : Gm} (hΓ : GOK Γ) : va_Z "RingDomino$Sign" "PLUS" "LRingDomino$Sign;" (.ref (gE Γ 17)) (fun a => gN Γ ≤ a) (gS Γ) (gS Γ).heap := gs_ref hΓ (k := 17) rfl q1846 q151
theorem sv_18 {Γ : Gm} (hΓ : GOK Γ) : va_Z "RingDomino$Sign" "MINUS" "LRingDomino$Sign;" (.ref (gE Γ 18)) (fun a => gN Γ ≤ a) (gS Γ) (gS Γ).heap := gs_ref hΓ (k := 18) rfl q1848 q151
theorem sv_19 {Γ : Gm} (hΓ : GOK Γ) : va_Z "java/util/Optional" "EMPTY" "Ljava/util/Optional;" (.ref (gE Γ 19)) (fun a => gN Γ ≤ a) (gS Γ) (gS Γ).heap := gs_ref hΓ (k := 19) rfl q2372 q164
theorem sv_20 {Γ : Gm} (hΓ : GOK Γ) : va_Z "RingDomino$Craft" "TAKE" "LRingDomino$Craft;" (.ref (gE Γ 20)) (fun a => gN Γ ≤ a) (gS Γ) (gS Γ).heap := gs_ref hΓ (k := 20) rfl q3504 q144
theorem sv_21 {Γ : Gm} (hΓ : GOK Γ) : va_Z "RingDomino$Craft" "FIT" "LRingDomino$Craft;" (.ref (gE Γ 21)) (fun a => gN Γ ≤ a) (gS Γ) (gS Γ).heap := gs_ref hΓ (k := 21) rfl q3505 q144
theorem sv_22 {Γ : Gm} (hΓ : GOK Γ) : va_Z "RingDomino$What" "ROUND" "LRingDomino$What;" (.ref (gE Γ 22)) (fun a => gN Γ ≤ a) (gS Γ) (gS Γ).heap := gs_ref hΓ (k := 22) rfl q3507 q147
theorem sv_23 {Γ : Gm} (hΓ : GOK Γ) : va_Z "RingDomino$What" "PLACED" "LRingDomino$What;" (.ref (gE Γ 23)) (fun a => gN Γ ≤ a) (gS Γ) (gS Γ).heap := gs_ref hΓ (k := 23) rfl q3508 q147
theorem sv_24 {Γ : Gm} (hΓ : GOK Γ) : va_Z "RingDomino$What" "MATCHES" "LRingDomino$What;" (.ref (gE Γ 24)) (fun a => gN Γ ≤ a) (gS Γ) (gS Γ).heap := gs_ref hΓ (k := 24) rfl q3509 q147
theorem sv_25 {Γ : Gm} (hΓ : GOK Γ) : va_Z "RingDomino$What" "POINTS" "LRingDomino$What;" (.ref (gE Γ 25)) (fun a => gN Γ ≤ a) (gS Γ) (gS Γ).heap := gs_ref hΓ (k := 25) rfl q3510 q147
theorem sv_26 {Γ : Gm} (hΓ : GOK Γ) : va_Z "RingDomino$What" "RINGS" "LRingDomino$What;" (.ref (gE Γ 26)) (fun a => gN Γ ≤ a) (gS Γ) (gS Γ).heap := gs_ref hΓ (k := 26) rfl q3511 q147
theorem sv_27 {Γ : Gm} (hΓ : GOK Γ) : va_Z "RingDomino$What" "FREE" "LRingDomino$What;" (.ref (gE Γ 27)) (fun a => gN Γ ≤ a) (gS Γ) (gS Γ).heap := gs_ref hΓ (k := 27) rfl q3512 q147
theorem sv_28 {Γ : Gm} (hΓ : GOK Γ) : va_Z "RingDomino$What" "WAYS" "LRingDomino$What;" (.ref (gE Γ 28)) (fun a => gN Γ ≤ a) (gS Γ) (gS Γ).heap := gs_ref hΓ (k := 28) rfl q3513 q147
theorem sv_29 {Γ : Gm} (hΓ : GOK Γ) : va_Z "RingDomino$Kind" "TILE" "LRingDomino$Kind;" (.ref (gE Γ 29)) (fun a => gN Γ ≤ a) (gS Γ) (gS Γ).heap := gs_ref hΓ (k := 29) rfl q3553 q149
theorem sv_30 {Γ : Gm} (hΓ : GOK Γ) : va_Z "java/lang/Integer" "DigitOnes" "[B" (.ref (gE Γ 30)) (fun a => gN Γ ≤ a) (gS Γ) (gS Γ).heap := gs_ref hΓ (k := 30) rfl q578 q130
theorem sv_31 {Γ : Gm} (hΓ : GOK Γ) : va_Z "java/lang/Integer" "DigitTens" "[B" (.ref (gE Γ 31)) (fun a => gN Γ ≤ a) (gS Γ) (gS Γ).heap := gs_ref hΓ (k := 31) rfl q580 q130
theorem sv_32 {Γ : Gm} (hΓ : GOK Γ) : va_Z "RingDomino$Scanner" "KEYS" "[Ljava/lang/String;" (.ref (gE Γ 32)) (fun a => gN Γ ≤ a) (gS Γ) (gS Γ).heap := gs_ref hΓ (k := 32) rfl q694 q115
theorem sv_33 {Γ : Gm} (hΓ : GOK Γ) : va_Z "RingDominoModel" "WORDS" "[Ljava/lang/String;" (.ref (gE Γ 33)) (fun a => gN Γ ≤ a) (gS Γ) (gS Γ).heap := gs_ref hΓ (k := 33) rfl q2949 q106
theorem sv_34 {Γ : Gm} (hΓ : GOK Γ) : va_Z "RingDominoModel" "RIGHT" "[I" (.ref (gE Γ 34)) (fun a => gN Γ ≤ a) (gS Γ) (gS Γ).heap := gs_ref hΓ (k := 34) rfl q3118 q106
theorem sv_35 {Γ : Gm} (hΓ : GOK Γ) : va_Z "RingDominoModel" "DOWN" "[I" (.ref (gE Γ 35)) (fun a => gN Γ ≤ a) (gS Γ) (gS Γ).heap := gs_ref hΓ (k := 35) rfl q3120 q106
theorem sv_36 {Γ : Gm} (hΓ : GOK Γ) : va_Z "java/lang/Integer$IntegerCache" "cache" "[Ljava/lang/Integer;" (.ref (gE Γ 36)) (fun a => gN Γ ≤ a) (gS Γ) (gS Γ).heap := gs_ref hΓ (k := 36) rfl q1567 q140
theorem si_0 {Γ : Gm} (hΓ : GOK Γ) : va_Z "java/lang/String" "COMPACT_STRINGS" "Z" (.int (nI 1)) (fun a => gN Γ ≤ a) (gS Γ) (gS Γ).heap := gs_int hΓ (by decide +kernel) q366 q121
theorem si_5 {Γ : Gm} (hΓ : GOK Γ) : va_Z "jdk/internal/util/ArraysSupport" "LOG2_ARRAY_BYTE_INDEX_SCALE" "I" (.int (nI 0)) (fun a => gN Γ ≤ a) (gS Γ) (gS Γ).heap := gs_int hΓ (by decide +kernel) q1388 q123
theorem si_6 {Γ : Gm} (hΓ : GOK Γ) : va_Z "jdk/internal/util/ArraysSupport" "LOG2_ARRAY_LONG_INDEX_SCALE" "I" (.int (nI 3)) (fun a => gN Γ ≤ a) (gS Γ) (gS Γ).heap := gs_int hΓ (by decide +kernel) q1393 q123
theorem si_8 {Γ : Gm} (hΓ : GOK Γ) : va_Z "jdk/internal/util/ArraysSupport" "BIG_ENDIAN" "Z" (.int (nI 0)) (fun a => gN Γ ≤ a) (gS Γ) (gS Γ).heap := gs_int hΓ (by decide +kernel) q1449 q123
theorem si_9 {Γ : Gm} (hΓ : GOK Γ) : va_Z "jdk/internal/util/ArraysSupport" "LOG2_BYTE_BIT_SIZE" "I" (.int (nI 3)) (fun a => gN Γ ≤ a) (gS Γ) (gS Γ).heap := gs_int hΓ (by decide +kernel) q1458 q123
theorem si_10 {Γ : Gm} (hΓ : GOK Γ) : va_Z "jdk/internal/util/ArraysSupport" "LOG2_ARRAY_INT_INDEX_SCALE" "I" (.int (nI 2)) (fun a => gN Γ ≤ a) (gS Γ) (gS Γ).heap := gs_int hΓ (by decide +kernel) q1466 q123
theorem si_11 {Γ : Gm} (hΓ : GOK Γ) : va_Z "java/lang/Integer$IntegerCache" "high" "I" (.int (nI 127)) (fun a => gN Γ ≤ a) (gS Γ) (gS Γ).heap := gs_int hΓ (by decide +kernel) q1565 q140
theorem si_12 {Γ : Gm} (hΓ : GOK Γ) : va_Z "java/util/HashMap$TreeNode" "$assertionsDisabled" "Z" (.int (nI 1)) (fun a => gN Γ ≤ a) (gS Γ) (gS Γ).heap := gs_int hΓ (by decide +kernel) q1662 q143
end SV
