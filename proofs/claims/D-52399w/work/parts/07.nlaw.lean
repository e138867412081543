set_option maxRecDepth 100000
/-! RingDominoLaw -/
def RX0 : String := "RingDominoLaw"
abbrev cX0_feed : ByteArray := method_3_code
def yX0_feed : MethodName := ⟨RX0, "feed", "(LRingDomino;IIIII[J)I"⟩
def dkwX0_feed_1 : List UInt8 := [172]
abbrev dktX0_feed_1 : List UInt8 := dkwX0_feed_1 ++ []
def dkwX0_feed_0 : List UInt8 := [25, 6, 3, 42, 27, 28, 29, 21, 4, 21, 5, 182, 0, 7, 133, 80, 167, 0, 7, 58, 7, 4, 172, 3]
abbrev dktX0_feed_0 : List UInt8 := dkwX0_feed_0 ++ dktX0_feed_1
theorem dksX0_feed_0 : cX0_feed.data.toList.drop 0 = dktX0_feed_0 := by decide +kernel
theorem dksX0_feed_1 : cX0_feed.data.toList.drop 24 = dktX0_feed_1 := dk_seg dksX0_feed_0 24 rfl rfl
theorem dX0_feed_0 : decode cX0_feed 0 = .ok (.aload 6, 2) := dk_25 6 (dk_at dksX0_feed_0 0 rfl rfl)
theorem dX0_feed_2 : decode cX0_feed 2 = .ok (.iconst 0, 1) := dk_3 (dk_at dksX0_feed_0 2 rfl rfl)
theorem dX0_feed_3 : decode cX0_feed 3 = .ok (.aload_n 0, 1) := dk_42 (dk_at dksX0_feed_0 3 rfl rfl)
theorem dX0_feed_4 : decode cX0_feed 4 = .ok (.iload_n 1, 1) := dk_27 (dk_at dksX0_feed_0 4 rfl rfl)
theorem dX0_feed_5 : decode cX0_feed 5 = .ok (.iload_n 2, 1) := dk_28 (dk_at dksX0_feed_0 5 rfl rfl)
theorem dX0_feed_6 : decode cX0_feed 6 = .ok (.iload_n 3, 1) := dk_29 (dk_at dksX0_feed_0 6 rfl rfl)
theorem dX0_feed_7 : decode cX0_feed 7 = .ok (.iload 4, 2) := dk_21 4 (dk_at dksX0_feed_0 7 rfl rfl)
theorem dX0_feed_9 : decode cX0_feed 9 = .ok (.iload 5, 2) := dk_21 5 (dk_at dksX0_feed_0 9 rfl rfl)
theorem dX0_feed_11 : decode cX0_feed 11 = .ok (.invokevirtual 7, 3) := dk_182 0 7 (dk_at dksX0_feed_0 11 rfl rfl)
theorem dX0_feed_14 : decode cX0_feed 14 = .ok (.i2l, 1) := dk_133 (dk_at dksX0_feed_0 14 rfl rfl)
theorem dX0_feed_15 : decode cX0_feed 15 = .ok (.lastore, 1) := dk_80 (dk_at dksX0_feed_0 15 rfl rfl)
theorem dX0_feed_16 : decode cX0_feed 16 = .ok (.goto 7, 3) := dk_167 0 7 (dk_at dksX0_feed_0 16 rfl rfl)
theorem dX0_feed_19 : decode cX0_feed 19 = .ok (.astore 7, 2) := dk_58 7 (dk_at dksX0_feed_0 19 rfl rfl)
theorem dX0_feed_21 : decode cX0_feed 21 = .ok (.iconst 1, 1) := dk_4 (dk_at dksX0_feed_0 21 rfl rfl)
theorem dX0_feed_22 : decode cX0_feed 22 = .ok (.ireturn, 1) := dk_172 (dk_at dksX0_feed_0 22 rfl rfl)
theorem dX0_feed_23 : decode cX0_feed 23 = .ok (.iconst 0, 1) := dk_3 (dk_at dksX0_feed_0 23 rfl rfl)
theorem dX0_feed_24 : decode cX0_feed 24 = .ok (.ireturn, 1) := dk_172 (dk_at dksX0_feed_1 0 rfl rfl)
abbrev cX0_trim : ByteArray := method_4_code
def yX0_trim : MethodName := ⟨RX0, "trim", "(LRingDomino;I[J)I"⟩
def dkwX0_trim_0 : List UInt8 := [44, 3, 42, 27, 182, 0, 15, 133, 80, 167, 0, 6, 78, 4, 172, 3, 172]
abbrev dktX0_trim_0 : List UInt8 := dkwX0_trim_0 ++ []
theorem dksX0_trim_0 : cX0_trim.data.toList.drop 0 = dktX0_trim_0 := by decide +kernel
theorem dX0_trim_0 : decode cX0_trim 0 = .ok (.aload_n 2, 1) := dk_44 (dk_at dksX0_trim_0 0 rfl rfl)
theorem dX0_trim_1 : decode cX0_trim 1 = .ok (.iconst 0, 1) := dk_3 (dk_at dksX0_trim_0 1 rfl rfl)
theorem dX0_trim_2 : decode cX0_trim 2 = .ok (.aload_n 0, 1) := dk_42 (dk_at dksX0_trim_0 2 rfl rfl)
theorem dX0_trim_3 : decode cX0_trim 3 = .ok (.iload_n 1, 1) := dk_27 (dk_at dksX0_trim_0 3 rfl rfl)
theorem dX0_trim_4 : decode cX0_trim 4 = .ok (.invokevirtual 15, 3) := dk_182 0 15 (dk_at dksX0_trim_0 4 rfl rfl)
theorem dX0_trim_7 : decode cX0_trim 7 = .ok (.i2l, 1) := dk_133 (dk_at dksX0_trim_0 7 rfl rfl)
theorem dX0_trim_8 : decode cX0_trim 8 = .ok (.lastore, 1) := dk_80 (dk_at dksX0_trim_0 8 rfl rfl)
theorem dX0_trim_9 : decode cX0_trim 9 = .ok (.goto 6, 3) := dk_167 0 6 (dk_at dksX0_trim_0 9 rfl rfl)
theorem dX0_trim_12 : decode cX0_trim 12 = .ok (.astore_n 3, 1) := dk_78 (dk_at dksX0_trim_0 12 rfl rfl)
theorem dX0_trim_13 : decode cX0_trim 13 = .ok (.iconst 1, 1) := dk_4 (dk_at dksX0_trim_0 13 rfl rfl)
theorem dX0_trim_14 : decode cX0_trim 14 = .ok (.ireturn, 1) := dk_172 (dk_at dksX0_trim_0 14 rfl rfl)
theorem dX0_trim_15 : decode cX0_trim 15 = .ok (.iconst 0, 1) := dk_3 (dk_at dksX0_trim_0 15 rfl rfl)
theorem dX0_trim_16 : decode cX0_trim 16 = .ok (.ireturn, 1) := dk_172 (dk_at dksX0_trim_0 16 rfl rfl)
abbrev cX0_hasTile : ByteArray := method_5_code
def yX0_hasTile : MethodName := ⟨RX0, "hasTile", "(LRingDomino;I[J)I"⟩
def dkwX0_hasTile_0 : List UInt8 := [44, 3, 42, 27, 182, 0, 21, 153, 0, 7, 10, 167, 0, 4, 9, 80, 167, 0, 6, 78, 4, 172, 3, 172]
abbrev dktX0_hasTile_0 : List UInt8 := dkwX0_hasTile_0 ++ []
theorem dksX0_hasTile_0 : cX0_hasTile.data.toList.drop 0 = dktX0_hasTile_0 := by decide +kernel
theorem dX0_hasTile_0 : decode cX0_hasTile 0 = .ok (.aload_n 2, 1) := dk_44 (dk_at dksX0_hasTile_0 0 rfl rfl)
theorem dX0_hasTile_1 : decode cX0_hasTile 1 = .ok (.iconst 0, 1) := dk_3 (dk_at dksX0_hasTile_0 1 rfl rfl)
theorem dX0_hasTile_2 : decode cX0_hasTile 2 = .ok (.aload_n 0, 1) := dk_42 (dk_at dksX0_hasTile_0 2 rfl rfl)
theorem dX0_hasTile_3 : decode cX0_hasTile 3 = .ok (.iload_n 1, 1) := dk_27 (dk_at dksX0_hasTile_0 3 rfl rfl)
theorem dX0_hasTile_4 : decode cX0_hasTile 4 = .ok (.invokevirtual 21, 3) := dk_182 0 21 (dk_at dksX0_hasTile_0 4 rfl rfl)
theorem dX0_hasTile_7 : decode cX0_hasTile 7 = .ok (.ifCond .eq 7, 3) := dk_153 0 7 (dk_at dksX0_hasTile_0 7 rfl rfl)
theorem dX0_hasTile_10 : decode cX0_hasTile 10 = .ok (.lconst 1, 1) := dk_10 (dk_at dksX0_hasTile_0 10 rfl rfl)
theorem dX0_hasTile_11 : decode cX0_hasTile 11 = .ok (.goto 4, 3) := dk_167 0 4 (dk_at dksX0_hasTile_0 11 rfl rfl)
theorem dX0_hasTile_14 : decode cX0_hasTile 14 = .ok (.lconst 0, 1) := dk_9 (dk_at dksX0_hasTile_0 14 rfl rfl)
theorem dX0_hasTile_15 : decode cX0_hasTile 15 = .ok (.lastore, 1) := dk_80 (dk_at dksX0_hasTile_0 15 rfl rfl)
theorem dX0_hasTile_16 : decode cX0_hasTile 16 = .ok (.goto 6, 3) := dk_167 0 6 (dk_at dksX0_hasTile_0 16 rfl rfl)
theorem dX0_hasTile_19 : decode cX0_hasTile 19 = .ok (.astore_n 3, 1) := dk_78 (dk_at dksX0_hasTile_0 19 rfl rfl)
theorem dX0_hasTile_20 : decode cX0_hasTile 20 = .ok (.iconst 1, 1) := dk_4 (dk_at dksX0_hasTile_0 20 rfl rfl)
theorem dX0_hasTile_21 : decode cX0_hasTile 21 = .ok (.ireturn, 1) := dk_172 (dk_at dksX0_hasTile_0 21 rfl rfl)
theorem dX0_hasTile_22 : decode cX0_hasTile 22 = .ok (.iconst 0, 1) := dk_3 (dk_at dksX0_hasTile_0 22 rfl rfl)
theorem dX0_hasTile_23 : decode cX0_hasTile 23 = .ok (.ireturn, 1) := dk_172 (dk_at dksX0_hasTile_0 23 rfl rfl)
abbrev cX0_tileAt : ByteArray := method_6_code
def yX0_tileAt : MethodName := ⟨RX0, "tileAt", "(LRingDomino;I[J)I"⟩
def dkwX0_tileAt_0 : List UInt8 := [44, 3, 42, 27, 182, 0, 27, 133, 80, 167, 0, 9, 78, 4, 172, 78, 5, 172, 3, 172]
abbrev dktX0_tileAt_0 : List UInt8 := dkwX0_tileAt_0 ++ []
theorem dksX0_tileAt_0 : cX0_tileAt.data.toList.drop 0 = dktX0_tileAt_0 := by decide +kernel
theorem dX0_tileAt_0 : decode cX0_tileAt 0 = .ok (.aload_n 2, 1) := dk_44 (dk_at dksX0_tileAt_0 0 rfl rfl)
theorem dX0_tileAt_1 : decode cX0_tileAt 1 = .ok (.iconst 0, 1) := dk_3 (dk_at dksX0_tileAt_0 1 rfl rfl)
theorem dX0_tileAt_2 : decode cX0_tileAt 2 = .ok (.aload_n 0, 1) := dk_42 (dk_at dksX0_tileAt_0 2 rfl rfl)
theorem dX0_tileAt_3 : decode cX0_tileAt 3 = .ok (.iload_n 1, 1) := dk_27 (dk_at dksX0_tileAt_0 3 rfl rfl)
theorem dX0_tileAt_4 : decode cX0_tileAt 4 = .ok (.invokevirtual 27, 3) := dk_182 0 27 (dk_at dksX0_tileAt_0 4 rfl rfl)
theorem dX0_tileAt_7 : decode cX0_tileAt 7 = .ok (.i2l, 1) := dk_133 (dk_at dksX0_tileAt_0 7 rfl rfl)
theorem dX0_tileAt_8 : decode cX0_tileAt 8 = .ok (.lastore, 1) := dk_80 (dk_at dksX0_tileAt_0 8 rfl rfl)
theorem dX0_tileAt_9 : decode cX0_tileAt 9 = .ok (.goto 9, 3) := dk_167 0 9 (dk_at dksX0_tileAt_0 9 rfl rfl)
theorem dX0_tileAt_12 : decode cX0_tileAt 12 = .ok (.astore_n 3, 1) := dk_78 (dk_at dksX0_tileAt_0 12 rfl rfl)
theorem dX0_tileAt_13 : decode cX0_tileAt 13 = .ok (.iconst 1, 1) := dk_4 (dk_at dksX0_tileAt_0 13 rfl rfl)
theorem dX0_tileAt_14 : decode cX0_tileAt 14 = .ok (.ireturn, 1) := dk_172 (dk_at dksX0_tileAt_0 14 rfl rfl)
theorem dX0_tileAt_15 : decode cX0_tileAt 15 = .ok (.astore_n 3, 1) := dk_78 (dk_at dksX0_tileAt_0 15 rfl rfl)
theorem dX0_tileAt_16 : decode cX0_tileAt 16 = .ok (.iconst 2, 1) := dk_5 (dk_at dksX0_tileAt_0 16 rfl rfl)
theorem dX0_tileAt_17 : decode cX0_tileAt 17 = .ok (.ireturn, 1) := dk_172 (dk_at dksX0_tileAt_0 17 rfl rfl)
theorem dX0_tileAt_18 : decode cX0_tileAt 18 = .ok (.iconst 0, 1) := dk_3 (dk_at dksX0_tileAt_0 18 rfl rfl)
theorem dX0_tileAt_19 : decode cX0_tileAt 19 = .ok (.ireturn, 1) := dk_172 (dk_at dksX0_tileAt_0 19 rfl rfl)
abbrev cX0_numberAt : ByteArray := method_7_code
def yX0_numberAt : MethodName := ⟨RX0, "numberAt", "(LRingDomino;II[J)I"⟩
def dkwX0_numberAt_0 : List UInt8 := [45, 3, 42, 27, 28, 182, 0, 30, 133, 80, 167, 0, 11, 58, 4, 4, 172, 58, 4, 5, 172, 3, 172]
abbrev dktX0_numberAt_0 : List UInt8 := dkwX0_numberAt_0 ++ []
theorem dksX0_numberAt_0 : cX0_numberAt.data.toList.drop 0 = dktX0_numberAt_0 := by decide +kernel
theorem dX0_numberAt_0 : decode cX0_numberAt 0 = .ok (.aload_n 3, 1) := dk_45 (dk_at dksX0_numberAt_0 0 rfl rfl)
theorem dX0_numberAt_1 : decode cX0_numberAt 1 = .ok (.iconst 0, 1) := dk_3 (dk_at dksX0_numberAt_0 1 rfl rfl)
theorem dX0_numberAt_2 : decode cX0_numberAt 2 = .ok (.aload_n 0, 1) := dk_42 (dk_at dksX0_numberAt_0 2 rfl rfl)
theorem dX0_numberAt_3 : decode cX0_numberAt 3 = .ok (.iload_n 1, 1) := dk_27 (dk_at dksX0_numberAt_0 3 rfl rfl)
theorem dX0_numberAt_4 : decode cX0_numberAt 4 = .ok (.iload_n 2, 1) := dk_28 (dk_at dksX0_numberAt_0 4 rfl rfl)
theorem dX0_numberAt_5 : decode cX0_numberAt 5 = .ok (.invokevirtual 30, 3) := dk_182 0 30 (dk_at dksX0_numberAt_0 5 rfl rfl)
theorem dX0_numberAt_8 : decode cX0_numberAt 8 = .ok (.i2l, 1) := dk_133 (dk_at dksX0_numberAt_0 8 rfl rfl)
theorem dX0_numberAt_9 : decode cX0_numberAt 9 = .ok (.lastore, 1) := dk_80 (dk_at dksX0_numberAt_0 9 rfl rfl)
theorem dX0_numberAt_10 : decode cX0_numberAt 10 = .ok (.goto 11, 3) := dk_167 0 11 (dk_at dksX0_numberAt_0 10 rfl rfl)
theorem dX0_numberAt_13 : decode cX0_numberAt 13 = .ok (.astore 4, 2) := dk_58 4 (dk_at dksX0_numberAt_0 13 rfl rfl)
theorem dX0_numberAt_15 : decode cX0_numberAt 15 = .ok (.iconst 1, 1) := dk_4 (dk_at dksX0_numberAt_0 15 rfl rfl)
theorem dX0_numberAt_16 : decode cX0_numberAt 16 = .ok (.ireturn, 1) := dk_172 (dk_at dksX0_numberAt_0 16 rfl rfl)
theorem dX0_numberAt_17 : decode cX0_numberAt 17 = .ok (.astore 4, 2) := dk_58 4 (dk_at dksX0_numberAt_0 17 rfl rfl)
theorem dX0_numberAt_19 : decode cX0_numberAt 19 = .ok (.iconst 2, 1) := dk_5 (dk_at dksX0_numberAt_0 19 rfl rfl)
theorem dX0_numberAt_20 : decode cX0_numberAt 20 = .ok (.ireturn, 1) := dk_172 (dk_at dksX0_numberAt_0 20 rfl rfl)
theorem dX0_numberAt_21 : decode cX0_numberAt 21 = .ok (.iconst 0, 1) := dk_3 (dk_at dksX0_numberAt_0 21 rfl rfl)
theorem dX0_numberAt_22 : decode cX0_numberAt 22 = .ok (.ireturn, 1) := dk_172 (dk_at dksX0_numberAt_0 22 rfl rfl)
abbrev cX0_matchesOf : ByteArray := method_8_code
def yX0_matchesOf : MethodName := ⟨RX0, "matchesOf", "(LRingDomino;I[J)I"⟩
def dkwX0_matchesOf_0 : List UInt8 := [44, 3, 42, 27, 182, 0, 34, 133, 80, 167, 0, 6, 78, 4, 172, 3, 172]
abbrev dktX0_matchesOf_0 : List UInt8 := dkwX0_matchesOf_0 ++ []
theorem dksX0_matchesOf_0 : cX0_matchesOf.data.toList.drop 0 = dktX0_matchesOf_0 := by decide +kernel
theorem dX0_matchesOf_0 : decode cX0_matchesOf 0 = .ok (.aload_n 2, 1) := dk_44 (dk_at dksX0_matchesOf_0 0 rfl rfl)
theorem dX0_matchesOf_1 : decode cX0_matchesOf 1 = .ok (.iconst 0, 1) := dk_3 (dk_at dksX0_matchesOf_0 1 rfl rfl)
theorem dX0_matchesOf_2 : decode cX0_matchesOf 2 = .ok (.aload_n 0, 1) := dk_42 (dk_at dksX0_matchesOf_0 2 rfl rfl)
theorem dX0_matchesOf_3 : decode cX0_matchesOf 3 = .ok (.iload_n 1, 1) := dk_27 (dk_at dksX0_matchesOf_0 3 rfl rfl)
theorem dX0_matchesOf_4 : decode cX0_matchesOf 4 = .ok (.invokevirtual 34, 3) := dk_182 0 34 (dk_at dksX0_matchesOf_0 4 rfl rfl)
theorem dX0_matchesOf_7 : decode cX0_matchesOf 7 = .ok (.i2l, 1) := dk_133 (dk_at dksX0_matchesOf_0 7 rfl rfl)
theorem dX0_matchesOf_8 : decode cX0_matchesOf 8 = .ok (.lastore, 1) := dk_80 (dk_at dksX0_matchesOf_0 8 rfl rfl)
theorem dX0_matchesOf_9 : decode cX0_matchesOf 9 = .ok (.goto 6, 3) := dk_167 0 6 (dk_at dksX0_matchesOf_0 9 rfl rfl)
theorem dX0_matchesOf_12 : decode cX0_matchesOf 12 = .ok (.astore_n 3, 1) := dk_78 (dk_at dksX0_matchesOf_0 12 rfl rfl)
theorem dX0_matchesOf_13 : decode cX0_matchesOf 13 = .ok (.iconst 1, 1) := dk_4 (dk_at dksX0_matchesOf_0 13 rfl rfl)
theorem dX0_matchesOf_14 : decode cX0_matchesOf 14 = .ok (.ireturn, 1) := dk_172 (dk_at dksX0_matchesOf_0 14 rfl rfl)
theorem dX0_matchesOf_15 : decode cX0_matchesOf 15 = .ok (.iconst 0, 1) := dk_3 (dk_at dksX0_matchesOf_0 15 rfl rfl)
theorem dX0_matchesOf_16 : decode cX0_matchesOf 16 = .ok (.ireturn, 1) := dk_172 (dk_at dksX0_matchesOf_0 16 rfl rfl)
abbrev cX0_isRing : ByteArray := method_9_code
def yX0_isRing : MethodName := ⟨RX0, "isRing", "(LRingDomino;I[J)I"⟩
def dkwX0_isRing_0 : List UInt8 := [44, 3, 42, 27, 182, 0, 37, 153, 0, 7, 10, 167, 0, 4, 9, 80, 167, 0, 6, 78, 4, 172, 3, 172]
abbrev dktX0_isRing_0 : List UInt8 := dkwX0_isRing_0 ++ []
theorem dksX0_isRing_0 : cX0_isRing.data.toList.drop 0 = dktX0_isRing_0 := by decide +kernel
theorem dX0_isRing_0 : decode cX0_isRing 0 = .ok (.aload_n 2, 1) := dk_44 (dk_at dksX0_isRing_0 0 rfl rfl)
theorem dX0_isRing_1 : decode cX0_isRing 1 = .ok (.iconst 0, 1) := dk_3 (dk_at dksX0_isRing_0 1 rfl rfl)
theorem dX0_isRing_2 : decode cX0_isRing 2 = .ok (.aload_n 0, 1) := dk_42 (dk_at dksX0_isRing_0 2 rfl rfl)
theorem dX0_isRing_3 : decode cX0_isRing 3 = .ok (.iload_n 1, 1) := dk_27 (dk_at dksX0_isRing_0 3 rfl rfl)
theorem dX0_isRing_4 : decode cX0_isRing 4 = .ok (.invokevirtual 37, 3) := dk_182 0 37 (dk_at dksX0_isRing_0 4 rfl rfl)
theorem dX0_isRing_7 : decode cX0_isRing 7 = .ok (.ifCond .eq 7, 3) := dk_153 0 7 (dk_at dksX0_isRing_0 7 rfl rfl)
theorem dX0_isRing_10 : decode cX0_isRing 10 = .ok (.lconst 1, 1) := dk_10 (dk_at dksX0_isRing_0 10 rfl rfl)
theorem dX0_isRing_11 : decode cX0_isRing 11 = .ok (.goto 4, 3) := dk_167 0 4 (dk_at dksX0_isRing_0 11 rfl rfl)
theorem dX0_isRing_14 : decode cX0_isRing 14 = .ok (.lconst 0, 1) := dk_9 (dk_at dksX0_isRing_0 14 rfl rfl)
theorem dX0_isRing_15 : decode cX0_isRing 15 = .ok (.lastore, 1) := dk_80 (dk_at dksX0_isRing_0 15 rfl rfl)
theorem dX0_isRing_16 : decode cX0_isRing 16 = .ok (.goto 6, 3) := dk_167 0 6 (dk_at dksX0_isRing_0 16 rfl rfl)
theorem dX0_isRing_19 : decode cX0_isRing 19 = .ok (.astore_n 3, 1) := dk_78 (dk_at dksX0_isRing_0 19 rfl rfl)
theorem dX0_isRing_20 : decode cX0_isRing 20 = .ok (.iconst 1, 1) := dk_4 (dk_at dksX0_isRing_0 20 rfl rfl)
theorem dX0_isRing_21 : decode cX0_isRing 21 = .ok (.ireturn, 1) := dk_172 (dk_at dksX0_isRing_0 21 rfl rfl)
theorem dX0_isRing_22 : decode cX0_isRing 22 = .ok (.iconst 0, 1) := dk_3 (dk_at dksX0_isRing_0 22 rfl rfl)
theorem dX0_isRing_23 : decode cX0_isRing 23 = .ok (.ireturn, 1) := dk_172 (dk_at dksX0_isRing_0 23 rfl rfl)
abbrev cX0_isPlaced : ByteArray := method_10_code
def yX0_isPlaced : MethodName := ⟨RX0, "isPlaced", "(LRingDomino;I[J)I"⟩
def dkwX0_isPlaced_0 : List UInt8 := [44, 3, 42, 27, 182, 0, 40, 153, 0, 7, 10, 167, 0, 4, 9, 80, 167, 0, 6, 78, 4, 172, 3, 172]
abbrev dktX0_isPlaced_0 : List UInt8 := dkwX0_isPlaced_0 ++ []
theorem dksX0_isPlaced_0 : cX0_isPlaced.data.toList.drop 0 = dktX0_isPlaced_0 := by decide +kernel
theorem dX0_isPlaced_0 : decode cX0_isPlaced 0 = .ok (.aload_n 2, 1) := dk_44 (dk_at dksX0_isPlaced_0 0 rfl rfl)
theorem dX0_isPlaced_1 : decode cX0_isPlaced 1 = .ok (.iconst 0, 1) := dk_3 (dk_at dksX0_isPlaced_0 1 rfl rfl)
theorem dX0_isPlaced_2 : decode cX0_isPlaced 2 = .ok (.aload_n 0, 1) := dk_42 (dk_at dksX0_isPlaced_0 2 rfl rfl)
theorem dX0_isPlaced_3 : decode cX0_isPlaced 3 = .ok (.iload_n 1, 1) := dk_27 (dk_at dksX0_isPlaced_0 3 rfl rfl)
theorem dX0_isPlaced_4 : decode cX0_isPlaced 4 = .ok (.invokevirtual 40, 3) := dk_182 0 40 (dk_at dksX0_isPlaced_0 4 rfl rfl)
theorem dX0_isPlaced_7 : decode cX0_isPlaced 7 = .ok (.ifCond .eq 7, 3) := dk_153 0 7 (dk_at dksX0_isPlaced_0 7 rfl rfl)
theorem dX0_isPlaced_10 : decode cX0_isPlaced 10 = .ok (.lconst 1, 1) := dk_10 (dk_at dksX0_isPlaced_0 10 rfl rfl)
theorem dX0_isPlaced_11 : decode cX0_isPlaced 11 = .ok (.goto 4, 3) := dk_167 0 4 (dk_at dksX0_isPlaced_0 11 rfl rfl)
theorem dX0_isPlaced_14 : decode cX0_isPlaced 14 = .ok (.lconst 0, 1) := dk_9 (dk_at dksX0_isPlaced_0 14 rfl rfl)
theorem dX0_isPlaced_15 : decode cX0_isPlaced 15 = .ok (.lastore, 1) := dk_80 (dk_at dksX0_isPlaced_0 15 rfl rfl)
theorem dX0_isPlaced_16 : decode cX0_isPlaced 16 = .ok (.goto 6, 3) := dk_167 0 6 (dk_at dksX0_isPlaced_0 16 rfl rfl)
theorem dX0_isPlaced_19 : decode cX0_isPlaced 19 = .ok (.astore_n 3, 1) := dk_78 (dk_at dksX0_isPlaced_0 19 rfl rfl)
theorem dX0_isPlaced_20 : decode cX0_isPlaced 20 = .ok (.iconst 1, 1) := dk_4 (dk_at dksX0_isPlaced_0 20 rfl rfl)
theorem dX0_isPlaced_21 : decode cX0_isPlaced 21 = .ok (.ireturn, 1) := dk_172 (dk_at dksX0_isPlaced_0 21 rfl rfl)
theorem dX0_isPlaced_22 : decode cX0_isPlaced 22 = .ok (.iconst 0, 1) := dk_3 (dk_at dksX0_isPlaced_0 22 rfl rfl)
theorem dX0_isPlaced_23 : decode cX0_isPlaced 23 = .ok (.ireturn, 1) := dk_172 (dk_at dksX0_isPlaced_0 23 rfl rfl)
abbrev cX0_cellOf : ByteArray := method_11_code
def yX0_cellOf : MethodName := ⟨RX0, "cellOf", "(LRingDomino;I[J)I"⟩
def dkwX0_cellOf_0 : List UInt8 := [44, 3, 42, 27, 182, 0, 43, 133, 80, 167, 0, 9, 78, 4, 172, 78, 5, 172, 3, 172]
abbrev dktX0_cellOf_0 : List UInt8 := dkwX0_cellOf_0 ++ []
theorem dksX0_cellOf_0 : cX0_cellOf.data.toList.drop 0 = dktX0_cellOf_0 := by decide +kernel
theorem dX0_cellOf_0 : decode cX0_cellOf 0 = .ok (.aload_n 2, 1) := dk_44 (dk_at dksX0_cellOf_0 0 rfl rfl)
theorem dX0_cellOf_1 : decode cX0_cellOf 1 = .ok (.iconst 0, 1) := dk_3 (dk_at dksX0_cellOf_0 1 rfl rfl)
theorem dX0_cellOf_2 : decode cX0_cellOf 2 = .ok (.aload_n 0, 1) := dk_42 (dk_at dksX0_cellOf_0 2 rfl rfl)
theorem dX0_cellOf_3 : decode cX0_cellOf 3 = .ok (.iload_n 1, 1) := dk_27 (dk_at dksX0_cellOf_0 3 rfl rfl)
theorem dX0_cellOf_4 : decode cX0_cellOf 4 = .ok (.invokevirtual 43, 3) := dk_182 0 43 (dk_at dksX0_cellOf_0 4 rfl rfl)
theorem dX0_cellOf_7 : decode cX0_cellOf 7 = .ok (.i2l, 1) := dk_133 (dk_at dksX0_cellOf_0 7 rfl rfl)
theorem dX0_cellOf_8 : decode cX0_cellOf 8 = .ok (.lastore, 1) := dk_80 (dk_at dksX0_cellOf_0 8 rfl rfl)
theorem dX0_cellOf_9 : decode cX0_cellOf 9 = .ok (.goto 9, 3) := dk_167 0 9 (dk_at dksX0_cellOf_0 9 rfl rfl)
theorem dX0_cellOf_12 : decode cX0_cellOf 12 = .ok (.astore_n 3, 1) := dk_78 (dk_at dksX0_cellOf_0 12 rfl rfl)
theorem dX0_cellOf_13 : decode cX0_cellOf 13 = .ok (.iconst 1, 1) := dk_4 (dk_at dksX0_cellOf_0 13 rfl rfl)
theorem dX0_cellOf_14 : decode cX0_cellOf 14 = .ok (.ireturn, 1) := dk_172 (dk_at dksX0_cellOf_0 14 rfl rfl)
theorem dX0_cellOf_15 : decode cX0_cellOf 15 = .ok (.astore_n 3, 1) := dk_78 (dk_at dksX0_cellOf_0 15 rfl rfl)
theorem dX0_cellOf_16 : decode cX0_cellOf 16 = .ok (.iconst 2, 1) := dk_5 (dk_at dksX0_cellOf_0 16 rfl rfl)
theorem dX0_cellOf_17 : decode cX0_cellOf 17 = .ok (.ireturn, 1) := dk_172 (dk_at dksX0_cellOf_0 17 rfl rfl)
theorem dX0_cellOf_18 : decode cX0_cellOf 18 = .ok (.iconst 0, 1) := dk_3 (dk_at dksX0_cellOf_0 18 rfl rfl)
theorem dX0_cellOf_19 : decode cX0_cellOf 19 = .ok (.ireturn, 1) := dk_172 (dk_at dksX0_cellOf_0 19 rfl rfl)
abbrev cX0_turnOf : ByteArray := method_12_code
def yX0_turnOf : MethodName := ⟨RX0, "turnOf", "(LRingDomino;I[J)I"⟩
def dkwX0_turnOf_0 : List UInt8 := [44, 3, 42, 27, 182, 0, 46, 133, 80, 167, 0, 9, 78, 4, 172, 78, 5, 172, 3, 172]
abbrev dktX0_turnOf_0 : List UInt8 := dkwX0_turnOf_0 ++ []
theorem dksX0_turnOf_0 : cX0_turnOf.data.toList.drop 0 = dktX0_turnOf_0 := by decide +kernel
theorem dX0_turnOf_0 : decode cX0_turnOf 0 = .ok (.aload_n 2, 1) := dk_44 (dk_at dksX0_turnOf_0 0 rfl rfl)
theorem dX0_turnOf_1 : decode cX0_turnOf 1 = .ok (.iconst 0, 1) := dk_3 (dk_at dksX0_turnOf_0 1 rfl rfl)
theorem dX0_turnOf_2 : decode cX0_turnOf 2 = .ok (.aload_n 0, 1) := dk_42 (dk_at dksX0_turnOf_0 2 rfl rfl)
theorem dX0_turnOf_3 : decode cX0_turnOf 3 = .ok (.iload_n 1, 1) := dk_27 (dk_at dksX0_turnOf_0 3 rfl rfl)
theorem dX0_turnOf_4 : decode cX0_turnOf 4 = .ok (.invokevirtual 46, 3) := dk_182 0 46 (dk_at dksX0_turnOf_0 4 rfl rfl)
theorem dX0_turnOf_7 : decode cX0_turnOf 7 = .ok (.i2l, 1) := dk_133 (dk_at dksX0_turnOf_0 7 rfl rfl)
theorem dX0_turnOf_8 : decode cX0_turnOf 8 = .ok (.lastore, 1) := dk_80 (dk_at dksX0_turnOf_0 8 rfl rfl)
theorem dX0_turnOf_9 : decode cX0_turnOf 9 = .ok (.goto 9, 3) := dk_167 0 9 (dk_at dksX0_turnOf_0 9 rfl rfl)
theorem dX0_turnOf_12 : decode cX0_turnOf 12 = .ok (.astore_n 3, 1) := dk_78 (dk_at dksX0_turnOf_0 12 rfl rfl)
theorem dX0_turnOf_13 : decode cX0_turnOf 13 = .ok (.iconst 1, 1) := dk_4 (dk_at dksX0_turnOf_0 13 rfl rfl)
theorem dX0_turnOf_14 : decode cX0_turnOf 14 = .ok (.ireturn, 1) := dk_172 (dk_at dksX0_turnOf_0 14 rfl rfl)
theorem dX0_turnOf_15 : decode cX0_turnOf 15 = .ok (.astore_n 3, 1) := dk_78 (dk_at dksX0_turnOf_0 15 rfl rfl)
theorem dX0_turnOf_16 : decode cX0_turnOf 16 = .ok (.iconst 2, 1) := dk_5 (dk_at dksX0_turnOf_0 16 rfl rfl)
theorem dX0_turnOf_17 : decode cX0_turnOf 17 = .ok (.ireturn, 1) := dk_172 (dk_at dksX0_turnOf_0 17 rfl rfl)
theorem dX0_turnOf_18 : decode cX0_turnOf 18 = .ok (.iconst 0, 1) := dk_3 (dk_at dksX0_turnOf_0 18 rfl rfl)
theorem dX0_turnOf_19 : decode cX0_turnOf 19 = .ok (.ireturn, 1) := dk_172 (dk_at dksX0_turnOf_0 19 rfl rfl)
abbrev cX0_fits : ByteArray := method_13_code
def yX0_fits : MethodName := ⟨RX0, "fits", "(LRingDomino;III[J)I"⟩
def dkwX0_fits_1 : List UInt8 := [4, 172, 3, 172]
abbrev dktX0_fits_1 : List UInt8 := dkwX0_fits_1 ++ []
def dkwX0_fits_0 : List UInt8 := [25, 4, 3, 42, 27, 28, 29, 182, 0, 49, 153, 0, 7, 10, 167, 0, 4, 9, 80, 167, 0, 7, 58, 5]
abbrev dktX0_fits_0 : List UInt8 := dkwX0_fits_0 ++ dktX0_fits_1
theorem dksX0_fits_0 : cX0_fits.data.toList.drop 0 = dktX0_fits_0 := by decide +kernel
theorem dksX0_fits_1 : cX0_fits.data.toList.drop 24 = dktX0_fits_1 := dk_seg dksX0_fits_0 24 rfl rfl
theorem dX0_fits_0 : decode cX0_fits 0 = .ok (.aload 4, 2) := dk_25 4 (dk_at dksX0_fits_0 0 rfl rfl)
theorem dX0_fits_2 : decode cX0_fits 2 = .ok (.iconst 0, 1) := dk_3 (dk_at dksX0_fits_0 2 rfl rfl)
theorem dX0_fits_3 : decode cX0_fits 3 = .ok (.aload_n 0, 1) := dk_42 (dk_at dksX0_fits_0 3 rfl rfl)
theorem dX0_fits_4 : decode cX0_fits 4 = .ok (.iload_n 1, 1) := dk_27 (dk_at dksX0_fits_0 4 rfl rfl)
theorem dX0_fits_5 : decode cX0_fits 5 = .ok (.iload_n 2, 1) := dk_28 (dk_at dksX0_fits_0 5 rfl rfl)
theorem dX0_fits_6 : decode cX0_fits 6 = .ok (.iload_n 3, 1) := dk_29 (dk_at dksX0_fits_0 6 rfl rfl)
theorem dX0_fits_7 : decode cX0_fits 7 = .ok (.invokevirtual 49, 3) := dk_182 0 49 (dk_at dksX0_fits_0 7 rfl rfl)
theorem dX0_fits_10 : decode cX0_fits 10 = .ok (.ifCond .eq 7, 3) := dk_153 0 7 (dk_at dksX0_fits_0 10 rfl rfl)
theorem dX0_fits_13 : decode cX0_fits 13 = .ok (.lconst 1, 1) := dk_10 (dk_at dksX0_fits_0 13 rfl rfl)
theorem dX0_fits_14 : decode cX0_fits 14 = .ok (.goto 4, 3) := dk_167 0 4 (dk_at dksX0_fits_0 14 rfl rfl)
theorem dX0_fits_17 : decode cX0_fits 17 = .ok (.lconst 0, 1) := dk_9 (dk_at dksX0_fits_0 17 rfl rfl)
theorem dX0_fits_18 : decode cX0_fits 18 = .ok (.lastore, 1) := dk_80 (dk_at dksX0_fits_0 18 rfl rfl)
theorem dX0_fits_19 : decode cX0_fits 19 = .ok (.goto 7, 3) := dk_167 0 7 (dk_at dksX0_fits_0 19 rfl rfl)
theorem dX0_fits_22 : decode cX0_fits 22 = .ok (.astore 5, 2) := dk_58 5 (dk_at dksX0_fits_0 22 rfl rfl)
theorem dX0_fits_24 : decode cX0_fits 24 = .ok (.iconst 1, 1) := dk_4 (dk_at dksX0_fits_1 0 rfl rfl)
theorem dX0_fits_25 : decode cX0_fits 25 = .ok (.ireturn, 1) := dk_172 (dk_at dksX0_fits_1 1 rfl rfl)
theorem dX0_fits_26 : decode cX0_fits 26 = .ok (.iconst 0, 1) := dk_3 (dk_at dksX0_fits_1 2 rfl rfl)
theorem dX0_fits_27 : decode cX0_fits 27 = .ok (.ireturn, 1) := dk_172 (dk_at dksX0_fits_1 3 rfl rfl)
abbrev cX0_edgeAgainst : ByteArray := method_14_code
def yX0_edgeAgainst : MethodName := ⟨RX0, "edgeAgainst", "(LRingDomino;III[J)I"⟩
def dkwX0_edgeAgainst_0 : List UInt8 := [25, 4, 3, 42, 27, 28, 29, 182, 0, 53, 133, 80, 167, 0, 7, 58, 5, 4, 172, 3, 172]
abbrev dktX0_edgeAgainst_0 : List UInt8 := dkwX0_edgeAgainst_0 ++ []
theorem dksX0_edgeAgainst_0 : cX0_edgeAgainst.data.toList.drop 0 = dktX0_edgeAgainst_0 := by decide +kernel
theorem dX0_edgeAgainst_0 : decode cX0_edgeAgainst 0 = .ok (.aload 4, 2) := dk_25 4 (dk_at dksX0_edgeAgainst_0 0 rfl rfl)
theorem dX0_edgeAgainst_2 : decode cX0_edgeAgainst 2 = .ok (.iconst 0, 1) := dk_3 (dk_at dksX0_edgeAgainst_0 2 rfl rfl)
theorem dX0_edgeAgainst_3 : decode cX0_edgeAgainst 3 = .ok (.aload_n 0, 1) := dk_42 (dk_at dksX0_edgeAgainst_0 3 rfl rfl)
theorem dX0_edgeAgainst_4 : decode cX0_edgeAgainst 4 = .ok (.iload_n 1, 1) := dk_27 (dk_at dksX0_edgeAgainst_0 4 rfl rfl)
theorem dX0_edgeAgainst_5 : decode cX0_edgeAgainst 5 = .ok (.iload_n 2, 1) := dk_28 (dk_at dksX0_edgeAgainst_0 5 rfl rfl)
theorem dX0_edgeAgainst_6 : decode cX0_edgeAgainst 6 = .ok (.iload_n 3, 1) := dk_29 (dk_at dksX0_edgeAgainst_0 6 rfl rfl)
theorem dX0_edgeAgainst_7 : decode cX0_edgeAgainst 7 = .ok (.invokevirtual 53, 3) := dk_182 0 53 (dk_at dksX0_edgeAgainst_0 7 rfl rfl)
theorem dX0_edgeAgainst_10 : decode cX0_edgeAgainst 10 = .ok (.i2l, 1) := dk_133 (dk_at dksX0_edgeAgainst_0 10 rfl rfl)
theorem dX0_edgeAgainst_11 : decode cX0_edgeAgainst 11 = .ok (.lastore, 1) := dk_80 (dk_at dksX0_edgeAgainst_0 11 rfl rfl)
theorem dX0_edgeAgainst_12 : decode cX0_edgeAgainst 12 = .ok (.goto 7, 3) := dk_167 0 7 (dk_at dksX0_edgeAgainst_0 12 rfl rfl)
theorem dX0_edgeAgainst_15 : decode cX0_edgeAgainst 15 = .ok (.astore 5, 2) := dk_58 5 (dk_at dksX0_edgeAgainst_0 15 rfl rfl)
theorem dX0_edgeAgainst_17 : decode cX0_edgeAgainst 17 = .ok (.iconst 1, 1) := dk_4 (dk_at dksX0_edgeAgainst_0 17 rfl rfl)
theorem dX0_edgeAgainst_18 : decode cX0_edgeAgainst 18 = .ok (.ireturn, 1) := dk_172 (dk_at dksX0_edgeAgainst_0 18 rfl rfl)
theorem dX0_edgeAgainst_19 : decode cX0_edgeAgainst 19 = .ok (.iconst 0, 1) := dk_3 (dk_at dksX0_edgeAgainst_0 19 rfl rfl)
theorem dX0_edgeAgainst_20 : decode cX0_edgeAgainst 20 = .ok (.ireturn, 1) := dk_172 (dk_at dksX0_edgeAgainst_0 20 rfl rfl)
abbrev cX0_waysOf : ByteArray := method_15_code
def yX0_waysOf : MethodName := ⟨RX0, "waysOf", "(LRingDomino;I[J)I"⟩
def dkwX0_waysOf_0 : List UInt8 := [44, 3, 42, 27, 182, 0, 57, 133, 80, 167, 0, 6, 78, 4, 172, 3, 172]
abbrev dktX0_waysOf_0 : List UInt8 := dkwX0_waysOf_0 ++ []
theorem dksX0_waysOf_0 : cX0_waysOf.data.toList.drop 0 = dktX0_waysOf_0 := by decide +kernel
theorem dX0_waysOf_0 : decode cX0_waysOf 0 = .ok (.aload_n 2, 1) := dk_44 (dk_at dksX0_waysOf_0 0 rfl rfl)
theorem dX0_waysOf_1 : decode cX0_waysOf 1 = .ok (.iconst 0, 1) := dk_3 (dk_at dksX0_waysOf_0 1 rfl rfl)
theorem dX0_waysOf_2 : decode cX0_waysOf 2 = .ok (.aload_n 0, 1) := dk_42 (dk_at dksX0_waysOf_0 2 rfl rfl)
theorem dX0_waysOf_3 : decode cX0_waysOf 3 = .ok (.iload_n 1, 1) := dk_27 (dk_at dksX0_waysOf_0 3 rfl rfl)
theorem dX0_waysOf_4 : decode cX0_waysOf 4 = .ok (.invokevirtual 57, 3) := dk_182 0 57 (dk_at dksX0_waysOf_0 4 rfl rfl)
theorem dX0_waysOf_7 : decode cX0_waysOf 7 = .ok (.i2l, 1) := dk_133 (dk_at dksX0_waysOf_0 7 rfl rfl)
theorem dX0_waysOf_8 : decode cX0_waysOf 8 = .ok (.lastore, 1) := dk_80 (dk_at dksX0_waysOf_0 8 rfl rfl)
theorem dX0_waysOf_9 : decode cX0_waysOf 9 = .ok (.goto 6, 3) := dk_167 0 6 (dk_at dksX0_waysOf_0 9 rfl rfl)
theorem dX0_waysOf_12 : decode cX0_waysOf 12 = .ok (.astore_n 3, 1) := dk_78 (dk_at dksX0_waysOf_0 12 rfl rfl)
theorem dX0_waysOf_13 : decode cX0_waysOf 13 = .ok (.iconst 1, 1) := dk_4 (dk_at dksX0_waysOf_0 13 rfl rfl)
theorem dX0_waysOf_14 : decode cX0_waysOf 14 = .ok (.ireturn, 1) := dk_172 (dk_at dksX0_waysOf_0 14 rfl rfl)
theorem dX0_waysOf_15 : decode cX0_waysOf 15 = .ok (.iconst 0, 1) := dk_3 (dk_at dksX0_waysOf_0 15 rfl rfl)
theorem dX0_waysOf_16 : decode cX0_waysOf 16 = .ok (.ireturn, 1) := dk_172 (dk_at dksX0_waysOf_0 16 rfl rfl)
abbrev cX0_isLeftover : ByteArray := method_16_code
def yX0_isLeftover : MethodName := ⟨RX0, "isLeftover", "(LRingDomino;I[J)I"⟩
def dkwX0_isLeftover_0 : List UInt8 := [44, 3, 42, 27, 182, 0, 60, 153, 0, 7, 10, 167, 0, 4, 9, 80, 167, 0, 6, 78, 4, 172, 3, 172]
abbrev dktX0_isLeftover_0 : List UInt8 := dkwX0_isLeftover_0 ++ []
theorem dksX0_isLeftover_0 : cX0_isLeftover.data.toList.drop 0 = dktX0_isLeftover_0 := by decide +kernel
theorem dX0_isLeftover_0 : decode cX0_isLeftover 0 = .ok (.aload_n 2, 1) := dk_44 (dk_at dksX0_isLeftover_0 0 rfl rfl)
theorem dX0_isLeftover_1 : decode cX0_isLeftover 1 = .ok (.iconst 0, 1) := dk_3 (dk_at dksX0_isLeftover_0 1 rfl rfl)
theorem dX0_isLeftover_2 : decode cX0_isLeftover 2 = .ok (.aload_n 0, 1) := dk_42 (dk_at dksX0_isLeftover_0 2 rfl rfl)
theorem dX0_isLeftover_3 : decode cX0_isLeftover 3 = .ok (.iload_n 1, 1) := dk_27 (dk_at dksX0_isLeftover_0 3 rfl rfl)
theorem dX0_isLeftover_4 : decode cX0_isLeftover 4 = .ok (.invokevirtual 60, 3) := dk_182 0 60 (dk_at dksX0_isLeftover_0 4 rfl rfl)
theorem dX0_isLeftover_7 : decode cX0_isLeftover 7 = .ok (.ifCond .eq 7, 3) := dk_153 0 7 (dk_at dksX0_isLeftover_0 7 rfl rfl)
theorem dX0_isLeftover_10 : decode cX0_isLeftover 10 = .ok (.lconst 1, 1) := dk_10 (dk_at dksX0_isLeftover_0 10 rfl rfl)
theorem dX0_isLeftover_11 : decode cX0_isLeftover 11 = .ok (.goto 4, 3) := dk_167 0 4 (dk_at dksX0_isLeftover_0 11 rfl rfl)
theorem dX0_isLeftover_14 : decode cX0_isLeftover 14 = .ok (.lconst 0, 1) := dk_9 (dk_at dksX0_isLeftover_0 14 rfl rfl)
theorem dX0_isLeftover_15 : decode cX0_isLeftover 15 = .ok (.lastore, 1) := dk_80 (dk_at dksX0_isLeftover_0 15 rfl rfl)
theorem dX0_isLeftover_16 : decode cX0_isLeftover 16 = .ok (.goto 6, 3) := dk_167 0 6 (dk_at dksX0_isLeftover_0 16 rfl rfl)
theorem dX0_isLeftover_19 : decode cX0_isLeftover 19 = .ok (.astore_n 3, 1) := dk_78 (dk_at dksX0_isLeftover_0 19 rfl rfl)
theorem dX0_isLeftover_20 : decode cX0_isLeftover 20 = .ok (.iconst 1, 1) := dk_4 (dk_at dksX0_isLeftover_0 20 rfl rfl)
theorem dX0_isLeftover_21 : decode cX0_isLeftover 21 = .ok (.ireturn, 1) := dk_172 (dk_at dksX0_isLeftover_0 21 rfl rfl)
theorem dX0_isLeftover_22 : decode cX0_isLeftover 22 = .ok (.iconst 0, 1) := dk_3 (dk_at dksX0_isLeftover_0 22 rfl rfl)
theorem dX0_isLeftover_23 : decode cX0_isLeftover 23 = .ok (.ireturn, 1) := dk_172 (dk_at dksX0_isLeftover_0 23 rfl rfl)
abbrev cX0_looksToProve : ByteArray := method_17_code
def yX0_looksToProve : MethodName := ⟨RX0, "looksToProve", "(LRingDomino;I[J)I"⟩
def dkwX0_looksToProve_0 : List UInt8 := [44, 3, 42, 27, 182, 0, 63, 133, 80, 167, 0, 9, 78, 4, 172, 78, 5, 172, 3, 172]
abbrev dktX0_looksToProve_0 : List UInt8 := dkwX0_looksToProve_0 ++ []
theorem dksX0_looksToProve_0 : cX0_looksToProve.data.toList.drop 0 = dktX0_looksToProve_0 := by decide +kernel
theorem dX0_looksToProve_0 : decode cX0_looksToProve 0 = .ok (.aload_n 2, 1) := dk_44 (dk_at dksX0_looksToProve_0 0 rfl rfl)
theorem dX0_looksToProve_1 : decode cX0_looksToProve 1 = .ok (.iconst 0, 1) := dk_3 (dk_at dksX0_looksToProve_0 1 rfl rfl)
theorem dX0_looksToProve_2 : decode cX0_looksToProve 2 = .ok (.aload_n 0, 1) := dk_42 (dk_at dksX0_looksToProve_0 2 rfl rfl)
theorem dX0_looksToProve_3 : decode cX0_looksToProve 3 = .ok (.iload_n 1, 1) := dk_27 (dk_at dksX0_looksToProve_0 3 rfl rfl)
theorem dX0_looksToProve_4 : decode cX0_looksToProve 4 = .ok (.invokevirtual 63, 3) := dk_182 0 63 (dk_at dksX0_looksToProve_0 4 rfl rfl)
theorem dX0_looksToProve_7 : decode cX0_looksToProve 7 = .ok (.i2l, 1) := dk_133 (dk_at dksX0_looksToProve_0 7 rfl rfl)
theorem dX0_looksToProve_8 : decode cX0_looksToProve 8 = .ok (.lastore, 1) := dk_80 (dk_at dksX0_looksToProve_0 8 rfl rfl)
theorem dX0_looksToProve_9 : decode cX0_looksToProve 9 = .ok (.goto 9, 3) := dk_167 0 9 (dk_at dksX0_looksToProve_0 9 rfl rfl)
theorem dX0_looksToProve_12 : decode cX0_looksToProve 12 = .ok (.astore_n 3, 1) := dk_78 (dk_at dksX0_looksToProve_0 12 rfl rfl)
theorem dX0_looksToProve_13 : decode cX0_looksToProve 13 = .ok (.iconst 1, 1) := dk_4 (dk_at dksX0_looksToProve_0 13 rfl rfl)
theorem dX0_looksToProve_14 : decode cX0_looksToProve 14 = .ok (.ireturn, 1) := dk_172 (dk_at dksX0_looksToProve_0 14 rfl rfl)
theorem dX0_looksToProve_15 : decode cX0_looksToProve 15 = .ok (.astore_n 3, 1) := dk_78 (dk_at dksX0_looksToProve_0 15 rfl rfl)
theorem dX0_looksToProve_16 : decode cX0_looksToProve 16 = .ok (.iconst 2, 1) := dk_5 (dk_at dksX0_looksToProve_0 16 rfl rfl)
theorem dX0_looksToProve_17 : decode cX0_looksToProve 17 = .ok (.ireturn, 1) := dk_172 (dk_at dksX0_looksToProve_0 17 rfl rfl)
theorem dX0_looksToProve_18 : decode cX0_looksToProve 18 = .ok (.iconst 0, 1) := dk_3 (dk_at dksX0_looksToProve_0 18 rfl rfl)
theorem dX0_looksToProve_19 : decode cX0_looksToProve 19 = .ok (.ireturn, 1) := dk_172 (dk_at dksX0_looksToProve_0 19 rfl rfl)
abbrev cX0_putTile : ByteArray := method_18_code
def yX0_putTile : MethodName := ⟨RX0, "putTile", "(LRingDomino;III[J)I"⟩
def dkwX0_putTile_1 : List UInt8 := [172]
abbrev dktX0_putTile_1 : List UInt8 := dkwX0_putTile_1 ++ []
def dkwX0_putTile_0 : List UInt8 := [25, 4, 3, 42, 27, 28, 29, 182, 0, 66, 133, 80, 167, 0, 11, 58, 5, 4, 172, 58, 5, 5, 172, 3]
abbrev dktX0_putTile_0 : List UInt8 := dkwX0_putTile_0 ++ dktX0_putTile_1
theorem dksX0_putTile_0 : cX0_putTile.data.toList.drop 0 = dktX0_putTile_0 := by decide +kernel
theorem dksX0_putTile_1 : cX0_putTile.data.toList.drop 24 = dktX0_putTile_1 := dk_seg dksX0_putTile_0 24 rfl rfl
theorem dX0_putTile_0 : decode cX0_putTile 0 = .ok (.aload 4, 2) := dk_25 4 (dk_at dksX0_putTile_0 0 rfl rfl)
theorem dX0_putTile_2 : decode cX0_putTile 2 = .ok (.iconst 0, 1) := dk_3 (dk_at dksX0_putTile_0 2 rfl rfl)
theorem dX0_putTile_3 : decode cX0_putTile 3 = .ok (.aload_n 0, 1) := dk_42 (dk_at dksX0_putTile_0 3 rfl rfl)
theorem dX0_putTile_4 : decode cX0_putTile 4 = .ok (.iload_n 1, 1) := dk_27 (dk_at dksX0_putTile_0 4 rfl rfl)
theorem dX0_putTile_5 : decode cX0_putTile 5 = .ok (.iload_n 2, 1) := dk_28 (dk_at dksX0_putTile_0 5 rfl rfl)
theorem dX0_putTile_6 : decode cX0_putTile 6 = .ok (.iload_n 3, 1) := dk_29 (dk_at dksX0_putTile_0 6 rfl rfl)
theorem dX0_putTile_7 : decode cX0_putTile 7 = .ok (.invokevirtual 66, 3) := dk_182 0 66 (dk_at dksX0_putTile_0 7 rfl rfl)
theorem dX0_putTile_10 : decode cX0_putTile 10 = .ok (.i2l, 1) := dk_133 (dk_at dksX0_putTile_0 10 rfl rfl)
theorem dX0_putTile_11 : decode cX0_putTile 11 = .ok (.lastore, 1) := dk_80 (dk_at dksX0_putTile_0 11 rfl rfl)
theorem dX0_putTile_12 : decode cX0_putTile 12 = .ok (.goto 11, 3) := dk_167 0 11 (dk_at dksX0_putTile_0 12 rfl rfl)
theorem dX0_putTile_15 : decode cX0_putTile 15 = .ok (.astore 5, 2) := dk_58 5 (dk_at dksX0_putTile_0 15 rfl rfl)
theorem dX0_putTile_17 : decode cX0_putTile 17 = .ok (.iconst 1, 1) := dk_4 (dk_at dksX0_putTile_0 17 rfl rfl)
theorem dX0_putTile_18 : decode cX0_putTile 18 = .ok (.ireturn, 1) := dk_172 (dk_at dksX0_putTile_0 18 rfl rfl)
theorem dX0_putTile_19 : decode cX0_putTile 19 = .ok (.astore 5, 2) := dk_58 5 (dk_at dksX0_putTile_0 19 rfl rfl)
theorem dX0_putTile_21 : decode cX0_putTile 21 = .ok (.iconst 2, 1) := dk_5 (dk_at dksX0_putTile_0 21 rfl rfl)
theorem dX0_putTile_22 : decode cX0_putTile 22 = .ok (.ireturn, 1) := dk_172 (dk_at dksX0_putTile_0 22 rfl rfl)
theorem dX0_putTile_23 : decode cX0_putTile 23 = .ok (.iconst 0, 1) := dk_3 (dk_at dksX0_putTile_0 23 rfl rfl)
theorem dX0_putTile_24 : decode cX0_putTile 24 = .ok (.ireturn, 1) := dk_172 (dk_at dksX0_putTile_1 0 rfl rfl)
abbrev cX0_takeTile : ByteArray := method_19_code
def yX0_takeTile : MethodName := ⟨RX0, "takeTile", "(LRingDomino;I[J)I"⟩
def dkwX0_takeTile_0 : List UInt8 := [44, 3, 42, 27, 182, 0, 69, 133, 80, 167, 0, 9, 78, 4, 172, 78, 5, 172, 3, 172]
abbrev dktX0_takeTile_0 : List UInt8 := dkwX0_takeTile_0 ++ []
theorem dksX0_takeTile_0 : cX0_takeTile.data.toList.drop 0 = dktX0_takeTile_0 := by decide +kernel
theorem dX0_takeTile_0 : decode cX0_takeTile 0 = .ok (.aload_n 2, 1) := dk_44 (dk_at dksX0_takeTile_0 0 rfl rfl)
theorem dX0_takeTile_1 : decode cX0_takeTile 1 = .ok (.iconst 0, 1) := dk_3 (dk_at dksX0_takeTile_0 1 rfl rfl)
theorem dX0_takeTile_2 : decode cX0_takeTile 2 = .ok (.aload_n 0, 1) := dk_42 (dk_at dksX0_takeTile_0 2 rfl rfl)
theorem dX0_takeTile_3 : decode cX0_takeTile 3 = .ok (.iload_n 1, 1) := dk_27 (dk_at dksX0_takeTile_0 3 rfl rfl)
theorem dX0_takeTile_4 : decode cX0_takeTile 4 = .ok (.invokevirtual 69, 3) := dk_182 0 69 (dk_at dksX0_takeTile_0 4 rfl rfl)
theorem dX0_takeTile_7 : decode cX0_takeTile 7 = .ok (.i2l, 1) := dk_133 (dk_at dksX0_takeTile_0 7 rfl rfl)
theorem dX0_takeTile_8 : decode cX0_takeTile 8 = .ok (.lastore, 1) := dk_80 (dk_at dksX0_takeTile_0 8 rfl rfl)
theorem dX0_takeTile_9 : decode cX0_takeTile 9 = .ok (.goto 9, 3) := dk_167 0 9 (dk_at dksX0_takeTile_0 9 rfl rfl)
theorem dX0_takeTile_12 : decode cX0_takeTile 12 = .ok (.astore_n 3, 1) := dk_78 (dk_at dksX0_takeTile_0 12 rfl rfl)
theorem dX0_takeTile_13 : decode cX0_takeTile 13 = .ok (.iconst 1, 1) := dk_4 (dk_at dksX0_takeTile_0 13 rfl rfl)
theorem dX0_takeTile_14 : decode cX0_takeTile 14 = .ok (.ireturn, 1) := dk_172 (dk_at dksX0_takeTile_0 14 rfl rfl)
theorem dX0_takeTile_15 : decode cX0_takeTile 15 = .ok (.astore_n 3, 1) := dk_78 (dk_at dksX0_takeTile_0 15 rfl rfl)
theorem dX0_takeTile_16 : decode cX0_takeTile 16 = .ok (.iconst 2, 1) := dk_5 (dk_at dksX0_takeTile_0 16 rfl rfl)
theorem dX0_takeTile_17 : decode cX0_takeTile 17 = .ok (.ireturn, 1) := dk_172 (dk_at dksX0_takeTile_0 17 rfl rfl)
theorem dX0_takeTile_18 : decode cX0_takeTile 18 = .ok (.iconst 0, 1) := dk_3 (dk_at dksX0_takeTile_0 18 rfl rfl)
theorem dX0_takeTile_19 : decode cX0_takeTile 19 = .ok (.ireturn, 1) := dk_172 (dk_at dksX0_takeTile_0 19 rfl rfl)
abbrev cX0_fitTile : ByteArray := method_20_code
def yX0_fitTile : MethodName := ⟨RX0, "fitTile", "(LRingDomino;I[J)I"⟩
def dkwX0_fitTile_0 : List UInt8 := [44, 3, 42, 27, 182, 0, 72, 133, 80, 167, 0, 9, 78, 4, 172, 78, 5, 172, 3, 172]
abbrev dktX0_fitTile_0 : List UInt8 := dkwX0_fitTile_0 ++ []
theorem dksX0_fitTile_0 : cX0_fitTile.data.toList.drop 0 = dktX0_fitTile_0 := by decide +kernel
theorem dX0_fitTile_0 : decode cX0_fitTile 0 = .ok (.aload_n 2, 1) := dk_44 (dk_at dksX0_fitTile_0 0 rfl rfl)
theorem dX0_fitTile_1 : decode cX0_fitTile 1 = .ok (.iconst 0, 1) := dk_3 (dk_at dksX0_fitTile_0 1 rfl rfl)
theorem dX0_fitTile_2 : decode cX0_fitTile 2 = .ok (.aload_n 0, 1) := dk_42 (dk_at dksX0_fitTile_0 2 rfl rfl)
theorem dX0_fitTile_3 : decode cX0_fitTile 3 = .ok (.iload_n 1, 1) := dk_27 (dk_at dksX0_fitTile_0 3 rfl rfl)
theorem dX0_fitTile_4 : decode cX0_fitTile 4 = .ok (.invokevirtual 72, 3) := dk_182 0 72 (dk_at dksX0_fitTile_0 4 rfl rfl)
theorem dX0_fitTile_7 : decode cX0_fitTile 7 = .ok (.i2l, 1) := dk_133 (dk_at dksX0_fitTile_0 7 rfl rfl)
theorem dX0_fitTile_8 : decode cX0_fitTile 8 = .ok (.lastore, 1) := dk_80 (dk_at dksX0_fitTile_0 8 rfl rfl)
theorem dX0_fitTile_9 : decode cX0_fitTile 9 = .ok (.goto 9, 3) := dk_167 0 9 (dk_at dksX0_fitTile_0 9 rfl rfl)
theorem dX0_fitTile_12 : decode cX0_fitTile 12 = .ok (.astore_n 3, 1) := dk_78 (dk_at dksX0_fitTile_0 12 rfl rfl)
theorem dX0_fitTile_13 : decode cX0_fitTile 13 = .ok (.iconst 1, 1) := dk_4 (dk_at dksX0_fitTile_0 13 rfl rfl)
theorem dX0_fitTile_14 : decode cX0_fitTile 14 = .ok (.ireturn, 1) := dk_172 (dk_at dksX0_fitTile_0 14 rfl rfl)
theorem dX0_fitTile_15 : decode cX0_fitTile 15 = .ok (.astore_n 3, 1) := dk_78 (dk_at dksX0_fitTile_0 15 rfl rfl)
theorem dX0_fitTile_16 : decode cX0_fitTile 16 = .ok (.iconst 2, 1) := dk_5 (dk_at dksX0_fitTile_0 16 rfl rfl)
theorem dX0_fitTile_17 : decode cX0_fitTile 17 = .ok (.ireturn, 1) := dk_172 (dk_at dksX0_fitTile_0 17 rfl rfl)
theorem dX0_fitTile_18 : decode cX0_fitTile 18 = .ok (.iconst 0, 1) := dk_3 (dk_at dksX0_fitTile_0 18 rfl rfl)
theorem dX0_fitTile_19 : decode cX0_fitTile 19 = .ok (.ireturn, 1) := dk_172 (dk_at dksX0_fitTile_0 19 rfl rfl)
abbrev cX0_playRounds : ByteArray := method_21_code
def yX0_playRounds : MethodName := ⟨RX0, "playRounds", "(LRingDomino;I[J)I"⟩
def dkwX0_playRounds_0 : List UInt8 := [44, 3, 42, 27, 182, 0, 75, 133, 80, 167, 0, 6, 78, 4, 172, 3, 172]
abbrev dktX0_playRounds_0 : List UInt8 := dkwX0_playRounds_0 ++ []
theorem dksX0_playRounds_0 : cX0_playRounds.data.toList.drop 0 = dktX0_playRounds_0 := by decide +kernel
theorem dX0_playRounds_0 : decode cX0_playRounds 0 = .ok (.aload_n 2, 1) := dk_44 (dk_at dksX0_playRounds_0 0 rfl rfl)
theorem dX0_playRounds_1 : decode cX0_playRounds 1 = .ok (.iconst 0, 1) := dk_3 (dk_at dksX0_playRounds_0 1 rfl rfl)
theorem dX0_playRounds_2 : decode cX0_playRounds 2 = .ok (.aload_n 0, 1) := dk_42 (dk_at dksX0_playRounds_0 2 rfl rfl)
theorem dX0_playRounds_3 : decode cX0_playRounds 3 = .ok (.iload_n 1, 1) := dk_27 (dk_at dksX0_playRounds_0 3 rfl rfl)
theorem dX0_playRounds_4 : decode cX0_playRounds 4 = .ok (.invokevirtual 75, 3) := dk_182 0 75 (dk_at dksX0_playRounds_0 4 rfl rfl)
theorem dX0_playRounds_7 : decode cX0_playRounds 7 = .ok (.i2l, 1) := dk_133 (dk_at dksX0_playRounds_0 7 rfl rfl)
theorem dX0_playRounds_8 : decode cX0_playRounds 8 = .ok (.lastore, 1) := dk_80 (dk_at dksX0_playRounds_0 8 rfl rfl)
theorem dX0_playRounds_9 : decode cX0_playRounds 9 = .ok (.goto 6, 3) := dk_167 0 6 (dk_at dksX0_playRounds_0 9 rfl rfl)
theorem dX0_playRounds_12 : decode cX0_playRounds 12 = .ok (.astore_n 3, 1) := dk_78 (dk_at dksX0_playRounds_0 12 rfl rfl)
theorem dX0_playRounds_13 : decode cX0_playRounds 13 = .ok (.iconst 1, 1) := dk_4 (dk_at dksX0_playRounds_0 13 rfl rfl)
theorem dX0_playRounds_14 : decode cX0_playRounds 14 = .ok (.ireturn, 1) := dk_172 (dk_at dksX0_playRounds_0 14 rfl rfl)
theorem dX0_playRounds_15 : decode cX0_playRounds 15 = .ok (.iconst 0, 1) := dk_3 (dk_at dksX0_playRounds_0 15 rfl rfl)
theorem dX0_playRounds_16 : decode cX0_playRounds 16 = .ok (.ireturn, 1) := dk_172 (dk_at dksX0_playRounds_0 16 rfl rfl)
abbrev cX0_pointsAfter : ByteArray := method_22_code
def yX0_pointsAfter : MethodName := ⟨RX0, "pointsAfter", "(LRingDomino;I[J)I"⟩
def dkwX0_pointsAfter_0 : List UInt8 := [44, 3, 42, 27, 182, 0, 78, 133, 80, 167, 0, 6, 78, 4, 172, 3, 172]
abbrev dktX0_pointsAfter_0 : List UInt8 := dkwX0_pointsAfter_0 ++ []
theorem dksX0_pointsAfter_0 : cX0_pointsAfter.data.toList.drop 0 = dktX0_pointsAfter_0 := by decide +kernel
theorem dX0_pointsAfter_0 : decode cX0_pointsAfter 0 = .ok (.aload_n 2, 1) := dk_44 (dk_at dksX0_pointsAfter_0 0 rfl rfl)
theorem dX0_pointsAfter_1 : decode cX0_pointsAfter 1 = .ok (.iconst 0, 1) := dk_3 (dk_at dksX0_pointsAfter_0 1 rfl rfl)
theorem dX0_pointsAfter_2 : decode cX0_pointsAfter 2 = .ok (.aload_n 0, 1) := dk_42 (dk_at dksX0_pointsAfter_0 2 rfl rfl)
theorem dX0_pointsAfter_3 : decode cX0_pointsAfter 3 = .ok (.iload_n 1, 1) := dk_27 (dk_at dksX0_pointsAfter_0 3 rfl rfl)
theorem dX0_pointsAfter_4 : decode cX0_pointsAfter 4 = .ok (.invokevirtual 78, 3) := dk_182 0 78 (dk_at dksX0_pointsAfter_0 4 rfl rfl)
theorem dX0_pointsAfter_7 : decode cX0_pointsAfter 7 = .ok (.i2l, 1) := dk_133 (dk_at dksX0_pointsAfter_0 7 rfl rfl)
theorem dX0_pointsAfter_8 : decode cX0_pointsAfter 8 = .ok (.lastore, 1) := dk_80 (dk_at dksX0_pointsAfter_0 8 rfl rfl)
theorem dX0_pointsAfter_9 : decode cX0_pointsAfter 9 = .ok (.goto 6, 3) := dk_167 0 6 (dk_at dksX0_pointsAfter_0 9 rfl rfl)
theorem dX0_pointsAfter_12 : decode cX0_pointsAfter 12 = .ok (.astore_n 3, 1) := dk_78 (dk_at dksX0_pointsAfter_0 12 rfl rfl)
theorem dX0_pointsAfter_13 : decode cX0_pointsAfter 13 = .ok (.iconst 1, 1) := dk_4 (dk_at dksX0_pointsAfter_0 13 rfl rfl)
theorem dX0_pointsAfter_14 : decode cX0_pointsAfter 14 = .ok (.ireturn, 1) := dk_172 (dk_at dksX0_pointsAfter_0 14 rfl rfl)
theorem dX0_pointsAfter_15 : decode cX0_pointsAfter 15 = .ok (.iconst 0, 1) := dk_3 (dk_at dksX0_pointsAfter_0 15 rfl rfl)
theorem dX0_pointsAfter_16 : decode cX0_pointsAfter 16 = .ok (.ireturn, 1) := dk_172 (dk_at dksX0_pointsAfter_0 16 rfl rfl)
abbrev cX0_bestCell : ByteArray := method_23_code
def yX0_bestCell : MethodName := ⟨RX0, "bestCell", "(LRingDomino;I[J)I"⟩
def dkwX0_bestCell_0 : List UInt8 := [44, 3, 42, 27, 182, 0, 81, 133, 80, 167, 0, 9, 78, 4, 172, 78, 5, 172, 3, 172]
abbrev dktX0_bestCell_0 : List UInt8 := dkwX0_bestCell_0 ++ []
theorem dksX0_bestCell_0 : cX0_bestCell.data.toList.drop 0 = dktX0_bestCell_0 := by decide +kernel
theorem dX0_bestCell_0 : decode cX0_bestCell 0 = .ok (.aload_n 2, 1) := dk_44 (dk_at dksX0_bestCell_0 0 rfl rfl)
theorem dX0_bestCell_1 : decode cX0_bestCell 1 = .ok (.iconst 0, 1) := dk_3 (dk_at dksX0_bestCell_0 1 rfl rfl)
theorem dX0_bestCell_2 : decode cX0_bestCell 2 = .ok (.aload_n 0, 1) := dk_42 (dk_at dksX0_bestCell_0 2 rfl rfl)
theorem dX0_bestCell_3 : decode cX0_bestCell 3 = .ok (.iload_n 1, 1) := dk_27 (dk_at dksX0_bestCell_0 3 rfl rfl)
theorem dX0_bestCell_4 : decode cX0_bestCell 4 = .ok (.invokevirtual 81, 3) := dk_182 0 81 (dk_at dksX0_bestCell_0 4 rfl rfl)
theorem dX0_bestCell_7 : decode cX0_bestCell 7 = .ok (.i2l, 1) := dk_133 (dk_at dksX0_bestCell_0 7 rfl rfl)
theorem dX0_bestCell_8 : decode cX0_bestCell 8 = .ok (.lastore, 1) := dk_80 (dk_at dksX0_bestCell_0 8 rfl rfl)
theorem dX0_bestCell_9 : decode cX0_bestCell 9 = .ok (.goto 9, 3) := dk_167 0 9 (dk_at dksX0_bestCell_0 9 rfl rfl)
theorem dX0_bestCell_12 : decode cX0_bestCell 12 = .ok (.astore_n 3, 1) := dk_78 (dk_at dksX0_bestCell_0 12 rfl rfl)
theorem dX0_bestCell_13 : decode cX0_bestCell 13 = .ok (.iconst 1, 1) := dk_4 (dk_at dksX0_bestCell_0 13 rfl rfl)
theorem dX0_bestCell_14 : decode cX0_bestCell 14 = .ok (.ireturn, 1) := dk_172 (dk_at dksX0_bestCell_0 14 rfl rfl)
theorem dX0_bestCell_15 : decode cX0_bestCell 15 = .ok (.astore_n 3, 1) := dk_78 (dk_at dksX0_bestCell_0 15 rfl rfl)
theorem dX0_bestCell_16 : decode cX0_bestCell 16 = .ok (.iconst 2, 1) := dk_5 (dk_at dksX0_bestCell_0 16 rfl rfl)
theorem dX0_bestCell_17 : decode cX0_bestCell 17 = .ok (.ireturn, 1) := dk_172 (dk_at dksX0_bestCell_0 17 rfl rfl)
theorem dX0_bestCell_18 : decode cX0_bestCell 18 = .ok (.iconst 0, 1) := dk_3 (dk_at dksX0_bestCell_0 18 rfl rfl)
theorem dX0_bestCell_19 : decode cX0_bestCell 19 = .ok (.ireturn, 1) := dk_172 (dk_at dksX0_bestCell_0 19 rfl rfl)
abbrev cX0_bestTurn : ByteArray := method_24_code
def yX0_bestTurn : MethodName := ⟨RX0, "bestTurn", "(LRingDomino;I[J)I"⟩
def dkwX0_bestTurn_0 : List UInt8 := [44, 3, 42, 27, 182, 0, 84, 133, 80, 167, 0, 9, 78, 4, 172, 78, 5, 172, 3, 172]
abbrev dktX0_bestTurn_0 : List UInt8 := dkwX0_bestTurn_0 ++ []
theorem dksX0_bestTurn_0 : cX0_bestTurn.data.toList.drop 0 = dktX0_bestTurn_0 := by decide +kernel
theorem dX0_bestTurn_0 : decode cX0_bestTurn 0 = .ok (.aload_n 2, 1) := dk_44 (dk_at dksX0_bestTurn_0 0 rfl rfl)
theorem dX0_bestTurn_1 : decode cX0_bestTurn 1 = .ok (.iconst 0, 1) := dk_3 (dk_at dksX0_bestTurn_0 1 rfl rfl)
theorem dX0_bestTurn_2 : decode cX0_bestTurn 2 = .ok (.aload_n 0, 1) := dk_42 (dk_at dksX0_bestTurn_0 2 rfl rfl)
theorem dX0_bestTurn_3 : decode cX0_bestTurn 3 = .ok (.iload_n 1, 1) := dk_27 (dk_at dksX0_bestTurn_0 3 rfl rfl)
theorem dX0_bestTurn_4 : decode cX0_bestTurn 4 = .ok (.invokevirtual 84, 3) := dk_182 0 84 (dk_at dksX0_bestTurn_0 4 rfl rfl)
theorem dX0_bestTurn_7 : decode cX0_bestTurn 7 = .ok (.i2l, 1) := dk_133 (dk_at dksX0_bestTurn_0 7 rfl rfl)
theorem dX0_bestTurn_8 : decode cX0_bestTurn 8 = .ok (.lastore, 1) := dk_80 (dk_at dksX0_bestTurn_0 8 rfl rfl)
theorem dX0_bestTurn_9 : decode cX0_bestTurn 9 = .ok (.goto 9, 3) := dk_167 0 9 (dk_at dksX0_bestTurn_0 9 rfl rfl)
theorem dX0_bestTurn_12 : decode cX0_bestTurn 12 = .ok (.astore_n 3, 1) := dk_78 (dk_at dksX0_bestTurn_0 12 rfl rfl)
theorem dX0_bestTurn_13 : decode cX0_bestTurn 13 = .ok (.iconst 1, 1) := dk_4 (dk_at dksX0_bestTurn_0 13 rfl rfl)
theorem dX0_bestTurn_14 : decode cX0_bestTurn 14 = .ok (.ireturn, 1) := dk_172 (dk_at dksX0_bestTurn_0 14 rfl rfl)
theorem dX0_bestTurn_15 : decode cX0_bestTurn 15 = .ok (.astore_n 3, 1) := dk_78 (dk_at dksX0_bestTurn_0 15 rfl rfl)
theorem dX0_bestTurn_16 : decode cX0_bestTurn 16 = .ok (.iconst 2, 1) := dk_5 (dk_at dksX0_bestTurn_0 16 rfl rfl)
theorem dX0_bestTurn_17 : decode cX0_bestTurn 17 = .ok (.ireturn, 1) := dk_172 (dk_at dksX0_bestTurn_0 17 rfl rfl)
theorem dX0_bestTurn_18 : decode cX0_bestTurn 18 = .ok (.iconst 0, 1) := dk_3 (dk_at dksX0_bestTurn_0 18 rfl rfl)
theorem dX0_bestTurn_19 : decode cX0_bestTurn 19 = .ok (.ireturn, 1) := dk_172 (dk_at dksX0_bestTurn_0 19 rfl rfl)
theorem q99 : (Jvm.Cond.initialized "RingDominoLaw") ∈ lw_all := lw_g (lw_at lw_m1 0 rfl) rfl
theorem q166 : (Jvm.Cond.classLink "RingDominoLaw" (8 : Nat) "RingDomino") ∈ lw_all := lw_g (lw_at lw_m1 67 rfl) rfl
theorem q168 : (Jvm.Cond.methodLink "RingDominoLaw" (87 : Nat) ({ cls := "RingDomino", name := "<init>", desc := "()V" } : Jvm.MethodName)) ∈ lw_all := lw_g (lw_at lw_m1 69 rfl) rfl
theorem q281 : (Jvm.Cond.methodLink "RingDominoLaw" (105 : Nat) ({ cls := "RingDomino", name := "teach", desc := "()I" } : Jvm.MethodName)) ∈ lw_all := lw_g (lw_at lw_m1 182 rfl) rfl
theorem q1980 : (Jvm.Cond.methodLink "RingDominoLaw" (109 : Nat) ({ cls := "RingDomino", name := "errorAt", desc := "()I" } : Jvm.MethodName)) ∈ lw_all := lw_g (lw_at lw_m8 201 rfl) rfl
theorem q1984 : (Jvm.Cond.methodLink "RingDominoLaw" (113 : Nat) ({ cls := "RingDomino", name := "columns", desc := "()I" } : Jvm.MethodName)) ∈ lw_all := lw_g (lw_at lw_m8 205 rfl) rfl
theorem q1988 : (Jvm.Cond.methodLink "RingDominoLaw" (117 : Nat) ({ cls := "RingDomino", name := "rows", desc := "()I" } : Jvm.MethodName)) ∈ lw_all := lw_g (lw_at lw_m8 209 rfl) rfl
theorem q1992 : (Jvm.Cond.methodLink "RingDominoLaw" (121 : Nat) ({ cls := "RingDomino", name := "tiles", desc := "()I" } : Jvm.MethodName)) ∈ lw_all := lw_g (lw_at lw_m8 213 rfl) rfl
theorem q1997 : (Jvm.Cond.methodLink "RingDominoLaw" (125 : Nat) ({ cls := "RingDomino", name := "rounds", desc := "()I" } : Jvm.MethodName)) ∈ lw_all := lw_g (lw_at lw_m8 218 rfl) rfl
theorem q2001 : (Jvm.Cond.methodLink "RingDominoLaw" (129 : Nat) ({ cls := "RingDomino", name := "placedTiles", desc := "()I" } : Jvm.MethodName)) ∈ lw_all := lw_g (lw_at lw_m8 222 rfl) rfl
theorem q2017 : (Jvm.Cond.methodLink "RingDominoLaw" (133 : Nat) ({ cls := "RingDomino", name := "matches", desc := "()I" } : Jvm.MethodName)) ∈ lw_all := lw_g (lw_at lw_m8 238 rfl) rfl
theorem q2037 : (Jvm.Cond.methodLink "RingDominoLaw" (137 : Nat) ({ cls := "RingDomino", name := "points", desc := "()I" } : Jvm.MethodName)) ∈ lw_all := lw_g (lw_at lw_m9 18 rfl) rfl
theorem q2069 : (Jvm.Cond.methodLink "RingDominoLaw" (141 : Nat) ({ cls := "RingDomino", name := "rings", desc := "()I" } : Jvm.MethodName)) ∈ lw_all := lw_g (lw_at lw_m9 50 rfl) rfl
theorem q2074 : (Jvm.Cond.methodLink "RingDominoLaw" (145 : Nat) ({ cls := "RingDomino", name := "groups", desc := "()I" } : Jvm.MethodName)) ∈ lw_all := lw_g (lw_at lw_m9 55 rfl) rfl
theorem q2083 : (Jvm.Cond.methodLink "RingDominoLaw" (205 : Nat) ({ cls := "RingDomino", name := "roundsUntilRing", desc := "()I" } : Jvm.MethodName)) ∈ lw_all := lw_g (lw_at lw_m9 64 rfl) rfl
theorem q2387 : (Jvm.Cond.methodLink "RingDominoLaw" (215 : Nat) ({ cls := "RingDomino", name := "bestTile", desc := "()I" } : Jvm.MethodName)) ∈ lw_all := lw_g (lw_at lw_m10 128 rfl) rfl
theorem q2408 : (Jvm.Cond.methodLink "RingDominoLaw" (219 : Nat) ({ cls := "RingDomino", name := "meanMatch", desc := "()D" } : Jvm.MethodName)) ∈ lw_all := lw_g (lw_at lw_m10 149 rfl) rfl
theorem q2413 : (Jvm.Cond.methodLink "RingDominoLaw" (224 : Nat) ({ cls := "RingDomino", name := "digest", desc := "()J" } : Jvm.MethodName)) ∈ lw_all := lw_g (lw_at lw_m10 154 rfl) rfl
theorem q2490 : (Jvm.Cond.methodLink "RingDominoLaw" (91 : Nat) ({ cls := "RingDominoLaw", name := "feed", desc := "(LRingDomino;IIIII[J)I" } : Jvm.MethodName)) ∈ lw_all := lw_g (lw_at lw_m10 231 rfl) rfl
theorem q2491 : (Jvm.Cond.static ({ cls := "RingDominoLaw", name := "feed", desc := "(LRingDomino;IIIII[J)I" } : Jvm.MethodName)) ∈ lw_all := lw_g (lw_at lw_m10 232 rfl) rfl
theorem q2492 : (Jvm.Cond.codeWith ({ cls := "RingDominoLaw", name := "feed", desc := "(LRingDomino;IIIII[J)I" } : Jvm.MethodName) method_3_code (8 : Nat) (Option.some Jvm.ClassFile.FieldType.int) [((0 : Nat), (16 : Nat), (19 : Nat), (13 : Nat))]) ∈ lw_all := lw_g (lw_at lw_m10 233 rfl) rfl
theorem q2493 : (Jvm.Cond.classLink "RingDominoLaw" (13 : Nat) "java/lang/IllegalStateException") ∈ lw_all := lw_g (lw_at lw_m10 234 rfl) rfl
theorem q2494 : (Jvm.Cond.methodLink "RingDominoLaw" (7 : Nat) ({ cls := "RingDomino", name := "feed", desc := "(IIIII)I" } : Jvm.MethodName)) ∈ lw_all := lw_g (lw_at lw_m10 235 rfl) rfl
theorem q2520 : (Jvm.Cond.methodLink "RingDominoLaw" (101 : Nat) ({ cls := "RingDominoLaw", name := "trim", desc := "(LRingDomino;I[J)I" } : Jvm.MethodName)) ∈ lw_all := lw_g (lw_at lw_m11 21 rfl) rfl
theorem q2521 : (Jvm.Cond.static ({ cls := "RingDominoLaw", name := "trim", desc := "(LRingDomino;I[J)I" } : Jvm.MethodName)) ∈ lw_all := lw_g (lw_at lw_m11 22 rfl) rfl
theorem q2522 : (Jvm.Cond.codeWith ({ cls := "RingDominoLaw", name := "trim", desc := "(LRingDomino;I[J)I" } : Jvm.MethodName) method_4_code (4 : Nat) (Option.some Jvm.ClassFile.FieldType.int) [((0 : Nat), (9 : Nat), (12 : Nat), (19 : Nat))]) ∈ lw_all := lw_g (lw_at lw_m11 23 rfl) rfl
theorem q2523 : (Jvm.Cond.classLink "RingDominoLaw" (19 : Nat) "java/lang/IllegalArgumentException") ∈ lw_all := lw_g (lw_at lw_m11 24 rfl) rfl
theorem q2524 : (Jvm.Cond.methodLink "RingDominoLaw" (15 : Nat) ({ cls := "RingDomino", name := "trim", desc := "(I)I" } : Jvm.MethodName)) ∈ lw_all := lw_g (lw_at lw_m11 25 rfl) rfl
theorem q2539 : (Jvm.Cond.methodLink "RingDominoLaw" (149 : Nat) ({ cls := "RingDominoLaw", name := "hasTile", desc := "(LRingDomino;I[J)I" } : Jvm.MethodName)) ∈ lw_all := lw_g (lw_at lw_m11 40 rfl) rfl
theorem q2540 : (Jvm.Cond.static ({ cls := "RingDominoLaw", name := "hasTile", desc := "(LRingDomino;I[J)I" } : Jvm.MethodName)) ∈ lw_all := lw_g (lw_at lw_m11 41 rfl) rfl
theorem q2541 : (Jvm.Cond.codeWith ({ cls := "RingDominoLaw", name := "hasTile", desc := "(LRingDomino;I[J)I" } : Jvm.MethodName) method_5_code (4 : Nat) (Option.some Jvm.ClassFile.FieldType.int) [((0 : Nat), (16 : Nat), (19 : Nat), (25 : Nat))]) ∈ lw_all := lw_g (lw_at lw_m11 42 rfl) rfl
theorem q2542 : (Jvm.Cond.classLink "RingDominoLaw" (25 : Nat) "java/lang/IndexOutOfBoundsException") ∈ lw_all := lw_g (lw_at lw_m11 43 rfl) rfl
theorem q2561 : (Jvm.Cond.methodLink "RingDominoLaw" (21 : Nat) ({ cls := "RingDomino", name := "hasTile", desc := "(I)Z" } : Jvm.MethodName)) ∈ lw_all := lw_g (lw_at lw_m11 62 rfl) rfl
theorem q2566 : (Jvm.Cond.methodLink "RingDominoLaw" (152 : Nat) ({ cls := "RingDominoLaw", name := "tileAt", desc := "(LRingDomino;I[J)I" } : Jvm.MethodName)) ∈ lw_all := lw_g (lw_at lw_m11 67 rfl) rfl
theorem q2567 : (Jvm.Cond.static ({ cls := "RingDominoLaw", name := "tileAt", desc := "(LRingDomino;I[J)I" } : Jvm.MethodName)) ∈ lw_all := lw_g (lw_at lw_m11 68 rfl) rfl
theorem q2568 : (Jvm.Cond.codeWith ({ cls := "RingDominoLaw", name := "tileAt", desc := "(LRingDomino;I[J)I" } : Jvm.MethodName) method_6_code (4 : Nat) (Option.some Jvm.ClassFile.FieldType.int) [((0 : Nat), (9 : Nat), (12 : Nat), (25 : Nat)), ((0 : Nat), (9 : Nat), (15 : Nat), (13 : Nat))]) ∈ lw_all := lw_g (lw_at lw_m11 69 rfl) rfl
theorem q2569 : (Jvm.Cond.methodLink "RingDominoLaw" (27 : Nat) ({ cls := "RingDomino", name := "tileAt", desc := "(I)I" } : Jvm.MethodName)) ∈ lw_all := lw_g (lw_at lw_m11 70 rfl) rfl
theorem q2573 : (Jvm.Cond.methodLink "RingDominoLaw" (155 : Nat) ({ cls := "RingDominoLaw", name := "numberAt", desc := "(LRingDomino;II[J)I" } : Jvm.MethodName)) ∈ lw_all := lw_g (lw_at lw_m11 74 rfl) rfl
theorem q2574 : (Jvm.Cond.static ({ cls := "RingDominoLaw", name := "numberAt", desc := "(LRingDomino;II[J)I" } : Jvm.MethodName)) ∈ lw_all := lw_g (lw_at lw_m11 75 rfl) rfl
theorem q2575 : (Jvm.Cond.codeWith ({ cls := "RingDominoLaw", name := "numberAt", desc := "(LRingDomino;II[J)I" } : Jvm.MethodName) method_7_code (5 : Nat) (Option.some Jvm.ClassFile.FieldType.int) [((0 : Nat), (10 : Nat), (13 : Nat), (25 : Nat)), ((0 : Nat), (10 : Nat), (17 : Nat), (13 : Nat))]) ∈ lw_all := lw_g (lw_at lw_m11 76 rfl) rfl
theorem q2576 : (Jvm.Cond.methodLink "RingDominoLaw" (30 : Nat) ({ cls := "RingDomino", name := "numberAt", desc := "(II)I" } : Jvm.MethodName)) ∈ lw_all := lw_g (lw_at lw_m11 77 rfl) rfl
theorem q2581 : (Jvm.Cond.methodLink "RingDominoLaw" (159 : Nat) ({ cls := "RingDominoLaw", name := "matchesOf", desc := "(LRingDomino;I[J)I" } : Jvm.MethodName)) ∈ lw_all := lw_g (lw_at lw_m11 82 rfl) rfl
theorem q2582 : (Jvm.Cond.static ({ cls := "RingDominoLaw", name := "matchesOf", desc := "(LRingDomino;I[J)I" } : Jvm.MethodName)) ∈ lw_all := lw_g (lw_at lw_m11 83 rfl) rfl
theorem q2583 : (Jvm.Cond.codeWith ({ cls := "RingDominoLaw", name := "matchesOf", desc := "(LRingDomino;I[J)I" } : Jvm.MethodName) method_8_code (4 : Nat) (Option.some Jvm.ClassFile.FieldType.int) [((0 : Nat), (9 : Nat), (12 : Nat), (25 : Nat))]) ∈ lw_all := lw_g (lw_at lw_m11 84 rfl) rfl
theorem q2584 : (Jvm.Cond.methodLink "RingDominoLaw" (34 : Nat) ({ cls := "RingDomino", name := "matchesOf", desc := "(I)I" } : Jvm.MethodName)) ∈ lw_all := lw_g (lw_at lw_m11 85 rfl) rfl
theorem q2585 : (Jvm.Cond.methodLink "RingDominoLaw" (162 : Nat) ({ cls := "RingDominoLaw", name := "isRing", desc := "(LRingDomino;I[J)I" } : Jvm.MethodName)) ∈ lw_all := lw_g (lw_at lw_m11 86 rfl) rfl
theorem q2586 : (Jvm.Cond.static ({ cls := "RingDominoLaw", name := "isRing", desc := "(LRingDomino;I[J)I" } : Jvm.MethodName)) ∈ lw_all := lw_g (lw_at lw_m11 87 rfl) rfl
theorem q2587 : (Jvm.Cond.codeWith ({ cls := "RingDominoLaw", name := "isRing", desc := "(LRingDomino;I[J)I" } : Jvm.MethodName) method_9_code (4 : Nat) (Option.some Jvm.ClassFile.FieldType.int) [((0 : Nat), (16 : Nat), (19 : Nat), (25 : Nat))]) ∈ lw_all := lw_g (lw_at lw_m11 88 rfl) rfl
theorem q2588 : (Jvm.Cond.methodLink "RingDominoLaw" (37 : Nat) ({ cls := "RingDomino", name := "isRing", desc := "(I)Z" } : Jvm.MethodName)) ∈ lw_all := lw_g (lw_at lw_m11 89 rfl) rfl
theorem q2589 : (Jvm.Cond.methodLink "RingDominoLaw" (165 : Nat) ({ cls := "RingDominoLaw", name := "isPlaced", desc := "(LRingDomino;I[J)I" } : Jvm.MethodName)) ∈ lw_all := lw_g (lw_at lw_m11 90 rfl) rfl
theorem q2590 : (Jvm.Cond.static ({ cls := "RingDominoLaw", name := "isPlaced", desc := "(LRingDomino;I[J)I" } : Jvm.MethodName)) ∈ lw_all := lw_g (lw_at lw_m11 91 rfl) rfl
theorem q2591 : (Jvm.Cond.codeWith ({ cls := "RingDominoLaw", name := "isPlaced", desc := "(LRingDomino;I[J)I" } : Jvm.MethodName) method_10_code (4 : Nat) (Option.some Jvm.ClassFile.FieldType.int) [((0 : Nat), (16 : Nat), (19 : Nat), (25 : Nat))]) ∈ lw_all := lw_g (lw_at lw_m11 92 rfl) rfl
theorem q2592 : (Jvm.Cond.methodLink "RingDominoLaw" (40 : Nat) ({ cls := "RingDomino", name := "isPlaced", desc := "(I)Z" } : Jvm.MethodName)) ∈ lw_all := lw_g (lw_at lw_m11 93 rfl) rfl
theorem q2596 : (Jvm.Cond.methodLink "RingDominoLaw" (168 : Nat) ({ cls := "RingDominoLaw", name := "cellOf", desc := "(LRingDomino;I[J)I" } : Jvm.MethodName)) ∈ lw_all := lw_g (lw_at lw_m11 97 rfl) rfl
theorem q2597 : (Jvm.Cond.static ({ cls := "RingDominoLaw", name := "cellOf", desc := "(LRingDomino;I[J)I" } : Jvm.MethodName)) ∈ lw_all := lw_g (lw_at lw_m11 98 rfl) rfl
theorem q2598 : (Jvm.Cond.codeWith ({ cls := "RingDominoLaw", name := "cellOf", desc := "(LRingDomino;I[J)I" } : Jvm.MethodName) method_11_code (4 : Nat) (Option.some Jvm.ClassFile.FieldType.int) [((0 : Nat), (9 : Nat), (12 : Nat), (25 : Nat)), ((0 : Nat), (9 : Nat), (15 : Nat), (13 : Nat))]) ∈ lw_all := lw_g (lw_at lw_m11 99 rfl) rfl
theorem q2599 : (Jvm.Cond.methodLink "RingDominoLaw" (43 : Nat) ({ cls := "RingDomino", name := "cellOf", desc := "(I)I" } : Jvm.MethodName)) ∈ lw_all := lw_g (lw_at lw_m11 100 rfl) rfl
theorem q2607 : (Jvm.Cond.methodLink "RingDominoLaw" (171 : Nat) ({ cls := "RingDominoLaw", name := "turnOf", desc := "(LRingDomino;I[J)I" } : Jvm.MethodName)) ∈ lw_all := lw_g (lw_at lw_m11 108 rfl) rfl
theorem q2608 : (Jvm.Cond.static ({ cls := "RingDominoLaw", name := "turnOf", desc := "(LRingDomino;I[J)I" } : Jvm.MethodName)) ∈ lw_all := lw_g (lw_at lw_m11 109 rfl) rfl
theorem q2609 : (Jvm.Cond.codeWith ({ cls := "RingDominoLaw", name := "turnOf", desc := "(LRingDomino;I[J)I" } : Jvm.MethodName) method_12_code (4 : Nat) (Option.some Jvm.ClassFile.FieldType.int) [((0 : Nat), (9 : Nat), (12 : Nat), (25 : Nat)), ((0 : Nat), (9 : Nat), (15 : Nat), (13 : Nat))]) ∈ lw_all := lw_g (lw_at lw_m11 110 rfl) rfl
theorem q2610 : (Jvm.Cond.methodLink "RingDominoLaw" (46 : Nat) ({ cls := "RingDomino", name := "turnOf", desc := "(I)I" } : Jvm.MethodName)) ∈ lw_all := lw_g (lw_at lw_m11 111 rfl) rfl
theorem q2614 : (Jvm.Cond.methodLink "RingDominoLaw" (174 : Nat) ({ cls := "RingDominoLaw", name := "fits", desc := "(LRingDomino;III[J)I" } : Jvm.MethodName)) ∈ lw_all := lw_g (lw_at lw_m11 115 rfl) rfl
theorem q2615 : (Jvm.Cond.static ({ cls := "RingDominoLaw", name := "fits", desc := "(LRingDomino;III[J)I" } : Jvm.MethodName)) ∈ lw_all := lw_g (lw_at lw_m11 116 rfl) rfl
theorem q2616 : (Jvm.Cond.codeWith ({ cls := "RingDominoLaw", name := "fits", desc := "(LRingDomino;III[J)I" } : Jvm.MethodName) method_13_code (6 : Nat) (Option.some Jvm.ClassFile.FieldType.int) [((0 : Nat), (19 : Nat), (22 : Nat), (25 : Nat))]) ∈ lw_all := lw_g (lw_at lw_m11 117 rfl) rfl
theorem q2617 : (Jvm.Cond.methodLink "RingDominoLaw" (49 : Nat) ({ cls := "RingDomino", name := "fits", desc := "(III)Z" } : Jvm.MethodName)) ∈ lw_all := lw_g (lw_at lw_m11 118 rfl) rfl
theorem q2626 : (Jvm.Cond.methodLink "RingDominoLaw" (178 : Nat) ({ cls := "RingDominoLaw", name := "edgeAgainst", desc := "(LRingDomino;III[J)I" } : Jvm.MethodName)) ∈ lw_all := lw_g (lw_at lw_m11 127 rfl) rfl
theorem q2627 : (Jvm.Cond.static ({ cls := "RingDominoLaw", name := "edgeAgainst", desc := "(LRingDomino;III[J)I" } : Jvm.MethodName)) ∈ lw_all := lw_g (lw_at lw_m11 128 rfl) rfl
theorem q2628 : (Jvm.Cond.codeWith ({ cls := "RingDominoLaw", name := "edgeAgainst", desc := "(LRingDomino;III[J)I" } : Jvm.MethodName) method_14_code (6 : Nat) (Option.some Jvm.ClassFile.FieldType.int) [((0 : Nat), (12 : Nat), (15 : Nat), (25 : Nat))]) ∈ lw_all := lw_g (lw_at lw_m11 129 rfl) rfl
theorem q2629 : (Jvm.Cond.methodLink "RingDominoLaw" (53 : Nat) ({ cls := "RingDomino", name := "edgeAgainst", desc := "(III)I" } : Jvm.MethodName)) ∈ lw_all := lw_g (lw_at lw_m11 130 rfl) rfl
theorem q2634 : (Jvm.Cond.methodLink "RingDominoLaw" (181 : Nat) ({ cls := "RingDominoLaw", name := "waysOf", desc := "(LRingDomino;I[J)I" } : Jvm.MethodName)) ∈ lw_all := lw_g (lw_at lw_m11 135 rfl) rfl
theorem q2635 : (Jvm.Cond.static ({ cls := "RingDominoLaw", name := "waysOf", desc := "(LRingDomino;I[J)I" } : Jvm.MethodName)) ∈ lw_all := lw_g (lw_at lw_m11 136 rfl) rfl
theorem q2636 : (Jvm.Cond.codeWith ({ cls := "RingDominoLaw", name := "waysOf", desc := "(LRingDomino;I[J)I" } : Jvm.MethodName) method_15_code (4 : Nat) (Option.some Jvm.ClassFile.FieldType.int) [((0 : Nat), (9 : Nat), (12 : Nat), (25 : Nat))]) ∈ lw_all := lw_g (lw_at lw_m11 137 rfl) rfl
theorem q2637 : (Jvm.Cond.methodLink "RingDominoLaw" (57 : Nat) ({ cls := "RingDomino", name := "waysOf", desc := "(I)I" } : Jvm.MethodName)) ∈ lw_all := lw_g (lw_at lw_m11 138 rfl) rfl
theorem q2638 : (Jvm.Cond.methodLink "RingDominoLaw" (184 : Nat) ({ cls := "RingDominoLaw", name := "isLeftover", desc := "(LRingDomino;I[J)I" } : Jvm.MethodName)) ∈ lw_all := lw_g (lw_at lw_m11 139 rfl) rfl
theorem q2639 : (Jvm.Cond.static ({ cls := "RingDominoLaw", name := "isLeftover", desc := "(LRingDomino;I[J)I" } : Jvm.MethodName)) ∈ lw_all := lw_g (lw_at lw_m11 140 rfl) rfl
theorem q2640 : (Jvm.Cond.codeWith ({ cls := "RingDominoLaw", name := "isLeftover", desc := "(LRingDomino;I[J)I" } : Jvm.MethodName) method_16_code (4 : Nat) (Option.some Jvm.ClassFile.FieldType.int) [((0 : Nat), (16 : Nat), (19 : Nat), (25 : Nat))]) ∈ lw_all := lw_g (lw_at lw_m11 141 rfl) rfl
theorem q2641 : (Jvm.Cond.methodLink "RingDominoLaw" (60 : Nat) ({ cls := "RingDomino", name := "isLeftover", desc := "(I)Z" } : Jvm.MethodName)) ∈ lw_all := lw_g (lw_at lw_m11 142 rfl) rfl
theorem q2642 : (Jvm.Cond.methodLink "RingDominoLaw" (187 : Nat) ({ cls := "RingDominoLaw", name := "looksToProve", desc := "(LRingDomino;I[J)I" } : Jvm.MethodName)) ∈ lw_all := lw_g (lw_at lw_m11 143 rfl) rfl
theorem q2643 : (Jvm.Cond.static ({ cls := "RingDominoLaw", name := "looksToProve", desc := "(LRingDomino;I[J)I" } : Jvm.MethodName)) ∈ lw_all := lw_g (lw_at lw_m11 144 rfl) rfl
theorem q2644 : (Jvm.Cond.codeWith ({ cls := "RingDominoLaw", name := "looksToProve", desc := "(LRingDomino;I[J)I" } : Jvm.MethodName) method_17_code (4 : Nat) (Option.some Jvm.ClassFile.FieldType.int) [((0 : Nat), (9 : Nat), (12 : Nat), (25 : Nat)), ((0 : Nat), (9 : Nat), (15 : Nat), (13 : Nat))]) ∈ lw_all := lw_g (lw_at lw_m11 145 rfl) rfl
theorem q2645 : (Jvm.Cond.methodLink "RingDominoLaw" (63 : Nat) ({ cls := "RingDomino", name := "looksToProve", desc := "(I)I" } : Jvm.MethodName)) ∈ lw_all := lw_g (lw_at lw_m11 146 rfl) rfl
theorem q2657 : (Jvm.Cond.methodLink "RingDominoLaw" (190 : Nat) ({ cls := "RingDominoLaw", name := "putTile", desc := "(LRingDomino;III[J)I" } : Jvm.MethodName)) ∈ lw_all := lw_g (lw_at lw_m11 158 rfl) rfl
theorem q2658 : (Jvm.Cond.static ({ cls := "RingDominoLaw", name := "putTile", desc := "(LRingDomino;III[J)I" } : Jvm.MethodName)) ∈ lw_all := lw_g (lw_at lw_m11 159 rfl) rfl
theorem q2659 : (Jvm.Cond.codeWith ({ cls := "RingDominoLaw", name := "putTile", desc := "(LRingDomino;III[J)I" } : Jvm.MethodName) method_18_code (6 : Nat) (Option.some Jvm.ClassFile.FieldType.int) [((0 : Nat), (12 : Nat), (15 : Nat), (25 : Nat)), ((0 : Nat), (12 : Nat), (19 : Nat), (13 : Nat))]) ∈ lw_all := lw_g (lw_at lw_m11 160 rfl) rfl
theorem q2660 : (Jvm.Cond.methodLink "RingDominoLaw" (66 : Nat) ({ cls := "RingDomino", name := "putTile", desc := "(III)I" } : Jvm.MethodName)) ∈ lw_all := lw_g (lw_at lw_m11 161 rfl) rfl
theorem q2665 : (Jvm.Cond.methodLink "RingDominoLaw" (193 : Nat) ({ cls := "RingDominoLaw", name := "takeTile", desc := "(LRingDomino;I[J)I" } : Jvm.MethodName)) ∈ lw_all := lw_g (lw_at lw_m11 166 rfl) rfl
theorem q2666 : (Jvm.Cond.static ({ cls := "RingDominoLaw", name := "takeTile", desc := "(LRingDomino;I[J)I" } : Jvm.MethodName)) ∈ lw_all := lw_g (lw_at lw_m11 167 rfl) rfl
theorem q2667 : (Jvm.Cond.codeWith ({ cls := "RingDominoLaw", name := "takeTile", desc := "(LRingDomino;I[J)I" } : Jvm.MethodName) method_19_code (4 : Nat) (Option.some Jvm.ClassFile.FieldType.int) [((0 : Nat), (9 : Nat), (12 : Nat), (25 : Nat)), ((0 : Nat), (9 : Nat), (15 : Nat), (13 : Nat))]) ∈ lw_all := lw_g (lw_at lw_m11 168 rfl) rfl
theorem q2668 : (Jvm.Cond.methodLink "RingDominoLaw" (69 : Nat) ({ cls := "RingDomino", name := "takeTile", desc := "(I)I" } : Jvm.MethodName)) ∈ lw_all := lw_g (lw_at lw_m11 169 rfl) rfl
theorem q2673 : (Jvm.Cond.methodLink "RingDominoLaw" (196 : Nat) ({ cls := "RingDominoLaw", name := "fitTile", desc := "(LRingDomino;I[J)I" } : Jvm.MethodName)) ∈ lw_all := lw_g (lw_at lw_m11 174 rfl) rfl
theorem q2674 : (Jvm.Cond.static ({ cls := "RingDominoLaw", name := "fitTile", desc := "(LRingDomino;I[J)I" } : Jvm.MethodName)) ∈ lw_all := lw_g (lw_at lw_m11 175 rfl) rfl
theorem q2675 : (Jvm.Cond.codeWith ({ cls := "RingDominoLaw", name := "fitTile", desc := "(LRingDomino;I[J)I" } : Jvm.MethodName) method_20_code (4 : Nat) (Option.some Jvm.ClassFile.FieldType.int) [((0 : Nat), (9 : Nat), (12 : Nat), (25 : Nat)), ((0 : Nat), (9 : Nat), (15 : Nat), (13 : Nat))]) ∈ lw_all := lw_g (lw_at lw_m11 176 rfl) rfl
theorem q2676 : (Jvm.Cond.methodLink "RingDominoLaw" (72 : Nat) ({ cls := "RingDomino", name := "fitTile", desc := "(I)I" } : Jvm.MethodName)) ∈ lw_all := lw_g (lw_at lw_m11 177 rfl) rfl
theorem q2685 : (Jvm.Cond.methodLink "RingDominoLaw" (199 : Nat) ({ cls := "RingDominoLaw", name := "playRounds", desc := "(LRingDomino;I[J)I" } : Jvm.MethodName)) ∈ lw_all := lw_g (lw_at lw_m11 186 rfl) rfl
theorem q2686 : (Jvm.Cond.static ({ cls := "RingDominoLaw", name := "playRounds", desc := "(LRingDomino;I[J)I" } : Jvm.MethodName)) ∈ lw_all := lw_g (lw_at lw_m11 187 rfl) rfl
theorem q2687 : (Jvm.Cond.codeWith ({ cls := "RingDominoLaw", name := "playRounds", desc := "(LRingDomino;I[J)I" } : Jvm.MethodName) method_21_code (4 : Nat) (Option.some Jvm.ClassFile.FieldType.int) [((0 : Nat), (9 : Nat), (12 : Nat), (19 : Nat))]) ∈ lw_all := lw_g (lw_at lw_m11 188 rfl) rfl
theorem q2688 : (Jvm.Cond.methodLink "RingDominoLaw" (75 : Nat) ({ cls := "RingDomino", name := "playRounds", desc := "(I)I" } : Jvm.MethodName)) ∈ lw_all := lw_g (lw_at lw_m11 189 rfl) rfl
theorem q2692 : (Jvm.Cond.methodLink "RingDominoLaw" (202 : Nat) ({ cls := "RingDominoLaw", name := "pointsAfter", desc := "(LRingDomino;I[J)I" } : Jvm.MethodName)) ∈ lw_all := lw_g (lw_at lw_m11 193 rfl) rfl
theorem q2693 : (Jvm.Cond.static ({ cls := "RingDominoLaw", name := "pointsAfter", desc := "(LRingDomino;I[J)I" } : Jvm.MethodName)) ∈ lw_all := lw_g (lw_at lw_m11 194 rfl) rfl
theorem q2694 : (Jvm.Cond.codeWith ({ cls := "RingDominoLaw", name := "pointsAfter", desc := "(LRingDomino;I[J)I" } : Jvm.MethodName) method_22_code (4 : Nat) (Option.some Jvm.ClassFile.FieldType.int) [((0 : Nat), (9 : Nat), (12 : Nat), (19 : Nat))]) ∈ lw_all := lw_g (lw_at lw_m11 195 rfl) rfl
theorem q2695 : (Jvm.Cond.methodLink "RingDominoLaw" (78 : Nat) ({ cls := "RingDomino", name := "pointsAfter", desc := "(I)I" } : Jvm.MethodName)) ∈ lw_all := lw_g (lw_at lw_m11 196 rfl) rfl
theorem q2699 : (Jvm.Cond.methodLink "RingDominoLaw" (209 : Nat) ({ cls := "RingDominoLaw", name := "bestCell", desc := "(LRingDomino;I[J)I" } : Jvm.MethodName)) ∈ lw_all := lw_g (lw_at lw_m11 200 rfl) rfl
theorem q2700 : (Jvm.Cond.static ({ cls := "RingDominoLaw", name := "bestCell", desc := "(LRingDomino;I[J)I" } : Jvm.MethodName)) ∈ lw_all := lw_g (lw_at lw_m11 201 rfl) rfl
theorem q2701 : (Jvm.Cond.codeWith ({ cls := "RingDominoLaw", name := "bestCell", desc := "(LRingDomino;I[J)I" } : Jvm.MethodName) method_23_code (4 : Nat) (Option.some Jvm.ClassFile.FieldType.int) [((0 : Nat), (9 : Nat), (12 : Nat), (25 : Nat)), ((0 : Nat), (9 : Nat), (15 : Nat), (13 : Nat))]) ∈ lw_all := lw_g (lw_at lw_m11 202 rfl) rfl
theorem q2702 : (Jvm.Cond.methodLink "RingDominoLaw" (81 : Nat) ({ cls := "RingDomino", name := "bestCell", desc := "(I)I" } : Jvm.MethodName)) ∈ lw_all := lw_g (lw_at lw_m11 203 rfl) rfl
theorem q2711 : (Jvm.Cond.methodLink "RingDominoLaw" (212 : Nat) ({ cls := "RingDominoLaw", name := "bestTurn", desc := "(LRingDomino;I[J)I" } : Jvm.MethodName)) ∈ lw_all := lw_g (lw_at lw_m11 212 rfl) rfl
theorem q2712 : (Jvm.Cond.static ({ cls := "RingDominoLaw", name := "bestTurn", desc := "(LRingDomino;I[J)I" } : Jvm.MethodName)) ∈ lw_all := lw_g (lw_at lw_m11 213 rfl) rfl
theorem q2713 : (Jvm.Cond.codeWith ({ cls := "RingDominoLaw", name := "bestTurn", desc := "(LRingDomino;I[J)I" } : Jvm.MethodName) method_24_code (4 : Nat) (Option.some Jvm.ClassFile.FieldType.int) [((0 : Nat), (9 : Nat), (12 : Nat), (25 : Nat)), ((0 : Nat), (9 : Nat), (15 : Nat), (13 : Nat))]) ∈ lw_all := lw_g (lw_at lw_m11 214 rfl) rfl
theorem q2714 : (Jvm.Cond.methodLink "RingDominoLaw" (84 : Nat) ({ cls := "RingDomino", name := "bestTurn", desc := "(I)I" } : Jvm.MethodName)) ∈ lw_all := lw_g (lw_at lw_m11 215 rfl) rfl
theorem q2718 : (Jvm.Cond.classLink "RingDominoLaw" (88 : Nat) "RingDominoModel") ∈ lw_all := lw_g (lw_at lw_m11 219 rfl) rfl
theorem q2720 : (Jvm.Cond.methodLink "RingDominoLaw" (90 : Nat) ({ cls := "RingDominoModel", name := "<init>", desc := "()V" } : Jvm.MethodName)) ∈ lw_all := lw_g (lw_at lw_m11 221 rfl) rfl
theorem q2895 : (Jvm.Cond.methodLink "RingDominoLaw" (97 : Nat) ({ cls := "RingDominoModel", name := "thrown", desc := "()I" } : Jvm.MethodName)) ∈ lw_all := lw_g (lw_at lw_m12 156 rfl) rfl
theorem q2899 : (Jvm.Cond.methodLink "RingDominoLaw" (96 : Nat) ({ cls := "RingDominoModel", name := "feed", desc := "(IIIII)I" } : Jvm.MethodName)) ∈ lw_all := lw_g (lw_at lw_m12 160 rfl) rfl
theorem q2907 : (Jvm.Cond.methodLink "RingDominoLaw" (104 : Nat) ({ cls := "RingDominoModel", name := "trim", desc := "(I)I" } : Jvm.MethodName)) ∈ lw_all := lw_g (lw_at lw_m12 168 rfl) rfl
theorem q2914 : (Jvm.Cond.methodLink "RingDominoLaw" (108 : Nat) ({ cls := "RingDominoModel", name := "teach", desc := "()I" } : Jvm.MethodName)) ∈ lw_all := lw_g (lw_at lw_m12 175 rfl) rfl
theorem q3065 : (Jvm.Cond.methodLink "RingDominoLaw" (112 : Nat) ({ cls := "RingDominoModel", name := "errorAt", desc := "()I" } : Jvm.MethodName)) ∈ lw_all := lw_g (lw_at lw_m13 86 rfl) rfl
theorem q3073 : (Jvm.Cond.methodLink "RingDominoLaw" (116 : Nat) ({ cls := "RingDominoModel", name := "columns", desc := "()I" } : Jvm.MethodName)) ∈ lw_all := lw_g (lw_at lw_m13 94 rfl) rfl
theorem q3077 : (Jvm.Cond.methodLink "RingDominoLaw" (120 : Nat) ({ cls := "RingDominoModel", name := "rows", desc := "()I" } : Jvm.MethodName)) ∈ lw_all := lw_g (lw_at lw_m13 98 rfl) rfl
theorem q3081 : (Jvm.Cond.methodLink "RingDominoLaw" (124 : Nat) ({ cls := "RingDominoModel", name := "tiles", desc := "()I" } : Jvm.MethodName)) ∈ lw_all := lw_g (lw_at lw_m13 102 rfl) rfl
theorem q3085 : (Jvm.Cond.methodLink "RingDominoLaw" (128 : Nat) ({ cls := "RingDominoModel", name := "rounds", desc := "()I" } : Jvm.MethodName)) ∈ lw_all := lw_g (lw_at lw_m13 106 rfl) rfl
theorem q3089 : (Jvm.Cond.methodLink "RingDominoLaw" (132 : Nat) ({ cls := "RingDominoModel", name := "placedTiles", desc := "()I" } : Jvm.MethodName)) ∈ lw_all := lw_g (lw_at lw_m13 110 rfl) rfl
theorem q3093 : (Jvm.Cond.methodLink "RingDominoLaw" (136 : Nat) ({ cls := "RingDominoModel", name := "matches", desc := "()I" } : Jvm.MethodName)) ∈ lw_all := lw_g (lw_at lw_m13 114 rfl) rfl
theorem q3121 : (Jvm.Cond.methodLink "RingDominoLaw" (140 : Nat) ({ cls := "RingDominoModel", name := "points", desc := "()I" } : Jvm.MethodName)) ∈ lw_all := lw_g (lw_at lw_m13 142 rfl) rfl
theorem q3149 : (Jvm.Cond.methodLink "RingDominoLaw" (144 : Nat) ({ cls := "RingDominoModel", name := "rings", desc := "()I" } : Jvm.MethodName)) ∈ lw_all := lw_g (lw_at lw_m13 170 rfl) rfl
theorem q3153 : (Jvm.Cond.methodLink "RingDominoLaw" (148 : Nat) ({ cls := "RingDominoModel", name := "groups", desc := "()I" } : Jvm.MethodName)) ∈ lw_all := lw_g (lw_at lw_m13 174 rfl) rfl
theorem q3165 : (Jvm.Cond.methodLink "RingDominoLaw" (151 : Nat) ({ cls := "RingDominoModel", name := "hasTile", desc := "(I)Z" } : Jvm.MethodName)) ∈ lw_all := lw_g (lw_at lw_m13 186 rfl) rfl
theorem q3177 : (Jvm.Cond.methodLink "RingDominoLaw" (154 : Nat) ({ cls := "RingDominoModel", name := "tileAt", desc := "(I)I" } : Jvm.MethodName)) ∈ lw_all := lw_g (lw_at lw_m13 198 rfl) rfl
theorem q3181 : (Jvm.Cond.methodLink "RingDominoLaw" (158 : Nat) ({ cls := "RingDominoModel", name := "numberAt", desc := "(II)I" } : Jvm.MethodName)) ∈ lw_all := lw_g (lw_at lw_m13 202 rfl) rfl
theorem q3188 : (Jvm.Cond.methodLink "RingDominoLaw" (161 : Nat) ({ cls := "RingDominoModel", name := "matchesOf", desc := "(I)I" } : Jvm.MethodName)) ∈ lw_all := lw_g (lw_at lw_m13 209 rfl) rfl
theorem q3196 : (Jvm.Cond.methodLink "RingDominoLaw" (164 : Nat) ({ cls := "RingDominoModel", name := "isRing", desc := "(I)Z" } : Jvm.MethodName)) ∈ lw_all := lw_g (lw_at lw_m13 217 rfl) rfl
theorem q3200 : (Jvm.Cond.methodLink "RingDominoLaw" (167 : Nat) ({ cls := "RingDominoModel", name := "isPlaced", desc := "(I)Z" } : Jvm.MethodName)) ∈ lw_all := lw_g (lw_at lw_m13 221 rfl) rfl
theorem q3208 : (Jvm.Cond.methodLink "RingDominoLaw" (170 : Nat) ({ cls := "RingDominoModel", name := "cellOf", desc := "(I)I" } : Jvm.MethodName)) ∈ lw_all := lw_g (lw_at lw_m13 229 rfl) rfl
theorem q3216 : (Jvm.Cond.methodLink "RingDominoLaw" (173 : Nat) ({ cls := "RingDominoModel", name := "turnOf", desc := "(I)I" } : Jvm.MethodName)) ∈ lw_all := lw_g (lw_at lw_m13 237 rfl) rfl
theorem q3220 : (Jvm.Cond.methodLink "RingDominoLaw" (177 : Nat) ({ cls := "RingDominoModel", name := "fits", desc := "(III)Z" } : Jvm.MethodName)) ∈ lw_all := lw_g (lw_at lw_m14 1 rfl) rfl
theorem q3236 : (Jvm.Cond.methodLink "RingDominoLaw" (180 : Nat) ({ cls := "RingDominoModel", name := "edgeAgainst", desc := "(III)I" } : Jvm.MethodName)) ∈ lw_all := lw_g (lw_at lw_m14 17 rfl) rfl
theorem q3240 : (Jvm.Cond.methodLink "RingDominoLaw" (183 : Nat) ({ cls := "RingDominoModel", name := "waysOf", desc := "(I)I" } : Jvm.MethodName)) ∈ lw_all := lw_g (lw_at lw_m14 21 rfl) rfl
theorem q3248 : (Jvm.Cond.methodLink "RingDominoLaw" (186 : Nat) ({ cls := "RingDominoModel", name := "isLeftover", desc := "(I)Z" } : Jvm.MethodName)) ∈ lw_all := lw_g (lw_at lw_m14 29 rfl) rfl
theorem q3260 : (Jvm.Cond.methodLink "RingDominoLaw" (189 : Nat) ({ cls := "RingDominoModel", name := "looksToProve", desc := "(I)I" } : Jvm.MethodName)) ∈ lw_all := lw_g (lw_at lw_m14 41 rfl) rfl
theorem q3264 : (Jvm.Cond.methodLink "RingDominoLaw" (192 : Nat) ({ cls := "RingDominoModel", name := "putTile", desc := "(III)I" } : Jvm.MethodName)) ∈ lw_all := lw_g (lw_at lw_m14 45 rfl) rfl
theorem q3272 : (Jvm.Cond.methodLink "RingDominoLaw" (195 : Nat) ({ cls := "RingDominoModel", name := "takeTile", desc := "(I)I" } : Jvm.MethodName)) ∈ lw_all := lw_g (lw_at lw_m14 53 rfl) rfl
theorem q3280 : (Jvm.Cond.methodLink "RingDominoLaw" (198 : Nat) ({ cls := "RingDominoModel", name := "fitTile", desc := "(I)I" } : Jvm.MethodName)) ∈ lw_all := lw_g (lw_at lw_m14 61 rfl) rfl
theorem q3288 : (Jvm.Cond.methodLink "RingDominoLaw" (201 : Nat) ({ cls := "RingDominoModel", name := "playRounds", desc := "(I)I" } : Jvm.MethodName)) ∈ lw_all := lw_g (lw_at lw_m14 69 rfl) rfl
theorem q3314 : (Jvm.Cond.methodLink "RingDominoLaw" (204 : Nat) ({ cls := "RingDominoModel", name := "pointsAfter", desc := "(I)I" } : Jvm.MethodName)) ∈ lw_all := lw_g (lw_at lw_m14 95 rfl) rfl
theorem q3323 : (Jvm.Cond.methodLink "RingDominoLaw" (208 : Nat) ({ cls := "RingDominoModel", name := "roundsUntilRing", desc := "()I" } : Jvm.MethodName)) ∈ lw_all := lw_g (lw_at lw_m14 104 rfl) rfl
theorem q3327 : (Jvm.Cond.methodLink "RingDominoLaw" (211 : Nat) ({ cls := "RingDominoModel", name := "bestCell", desc := "(I)I" } : Jvm.MethodName)) ∈ lw_all := lw_g (lw_at lw_m14 108 rfl) rfl
theorem q3343 : (Jvm.Cond.methodLink "RingDominoLaw" (214 : Nat) ({ cls := "RingDominoModel", name := "bestTurn", desc := "(I)I" } : Jvm.MethodName)) ∈ lw_all := lw_g (lw_at lw_m14 124 rfl) rfl
theorem q3347 : (Jvm.Cond.methodLink "RingDominoLaw" (218 : Nat) ({ cls := "RingDominoModel", name := "bestTile", desc := "()I" } : Jvm.MethodName)) ∈ lw_all := lw_g (lw_at lw_m14 128 rfl) rfl
theorem q3355 : (Jvm.Cond.methodLink "RingDominoLaw" (223 : Nat) ({ cls := "RingDominoModel", name := "meanMatch", desc := "()D" } : Jvm.MethodName)) ∈ lw_all := lw_g (lw_at lw_m14 136 rfl) rfl
theorem q3359 : (Jvm.Cond.methodLink "RingDominoLaw" (228 : Nat) ({ cls := "RingDominoModel", name := "digest", desc := "()J" } : Jvm.MethodName)) ∈ lw_all := lw_g (lw_at lw_m14 140 rfl) rfl

